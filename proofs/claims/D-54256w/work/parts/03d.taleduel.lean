/-! TaleDuel -/
set_option maxRecDepth 100000
def RX1 : String := "TaleDuel"
def TX1 : u_T := fun k => match k with
  | 0 => ("TaleDuel", "now", "LTaleDuel$State;", false)
  | 1 => ("TaleDuel", "history", "Ljava/util/Deque;", true)
  | 2 => ("TaleDuel", "slots", "[LTaleDuel$State;", true)
  | _ => ("TaleDuel", "text", "LTaleDuel$Sentence;", true)
def tyX1 : Nat → FieldType := fun k => match k with
  | 0 => .object "TaleDuel$State"
  | 1 => .object "java/util/Deque"
  | 2 => .array (.object "TaleDuel$State")
  | _ => .object "TaleDuel$Sentence"
abbrev wsX10 : List Cond := u_ws RX1 TX1 4
theorem nmX1 : ∀ a, a < 4 → ∀ b, b < 4 → a ≠ b → (TX1 a).2.1 ≠ (TX1 b).2.1 := by decide +kernel
theorem tyX1_ok : ∀ k, k < 4 → parseFieldDescriptor (TX1 k).2.2.1 = some (tyX1 k) := by decide +kernel
abbrev cX1_init : ByteArray := prog_1_method_11_code
def yX1_init : MethodName := ⟨RX1, "<init>", "()V"⟩
def dkwX1_init_1 : List UInt8 := [181, 0, 46, 42, 5, 189, 0, 36, 181, 0, 50, 42, 187, 0, 54, 89, 183, 0, 56, 181, 0, 57, 177]
abbrev dktX1_init_1 : List UInt8 := dkwX1_init_1 ++ []
def dkwX1_init_0 : List UInt8 := [42, 183, 0, 33, 42, 187, 0, 36, 89, 183, 0, 38, 181, 0, 39, 42, 187, 0, 43, 89, 183, 0, 45]
abbrev dktX1_init_0 : List UInt8 := dkwX1_init_0 ++ dktX1_init_1
theorem dksX1_init_0 : cX1_init.data.toList.drop 0 = dktX1_init_0 := by decide +kernel
theorem dksX1_init_1 : cX1_init.data.toList.drop 23 = dktX1_init_1 := dk_seg dksX1_init_0 23 rfl rfl
theorem dX1_init_0 : decode cX1_init 0 = .ok (.aload_n 0, 1) := dk_42 (dk_at dksX1_init_0 0 rfl rfl)
theorem dX1_init_1 : decode cX1_init 1 = .ok (.invokespecial 33, 3) := dk_183 0 33 (dk_at dksX1_init_0 1 rfl rfl)
theorem dX1_init_4 : decode cX1_init 4 = .ok (.aload_n 0, 1) := dk_42 (dk_at dksX1_init_0 4 rfl rfl)
theorem dX1_init_5 : decode cX1_init 5 = .ok (.new 36, 3) := dk_187 0 36 (dk_at dksX1_init_0 5 rfl rfl)
theorem dX1_init_8 : decode cX1_init 8 = .ok (.dup, 1) := dk_89 (dk_at dksX1_init_0 8 rfl rfl)
theorem dX1_init_9 : decode cX1_init 9 = .ok (.invokespecial 38, 3) := dk_183 0 38 (dk_at dksX1_init_0 9 rfl rfl)
theorem dX1_init_12 : decode cX1_init 12 = .ok (.putfield 39, 3) := dk_181 0 39 (dk_at dksX1_init_0 12 rfl rfl)
theorem dX1_init_15 : decode cX1_init 15 = .ok (.aload_n 0, 1) := dk_42 (dk_at dksX1_init_0 15 rfl rfl)
theorem dX1_init_16 : decode cX1_init 16 = .ok (.new 43, 3) := dk_187 0 43 (dk_at dksX1_init_0 16 rfl rfl)
theorem dX1_init_19 : decode cX1_init 19 = .ok (.dup, 1) := dk_89 (dk_at dksX1_init_0 19 rfl rfl)
theorem dX1_init_20 : decode cX1_init 20 = .ok (.invokespecial 45, 3) := dk_183 0 45 (dk_at dksX1_init_0 20 rfl rfl)
theorem dX1_init_23 : decode cX1_init 23 = .ok (.putfield 46, 3) := dk_181 0 46 (dk_at dksX1_init_1 0 rfl rfl)
theorem dX1_init_26 : decode cX1_init 26 = .ok (.aload_n 0, 1) := dk_42 (dk_at dksX1_init_1 3 rfl rfl)
theorem dX1_init_27 : decode cX1_init 27 = .ok (.iconst 2, 1) := dk_5 (dk_at dksX1_init_1 4 rfl rfl)
theorem dX1_init_28 : decode cX1_init 28 = .ok (.anewarray 36, 3) := dk_189 0 36 (dk_at dksX1_init_1 5 rfl rfl)
theorem dX1_init_31 : decode cX1_init 31 = .ok (.putfield 50, 3) := dk_181 0 50 (dk_at dksX1_init_1 8 rfl rfl)
theorem dX1_init_34 : decode cX1_init 34 = .ok (.aload_n 0, 1) := dk_42 (dk_at dksX1_init_1 11 rfl rfl)
theorem dX1_init_35 : decode cX1_init 35 = .ok (.new 54, 3) := dk_187 0 54 (dk_at dksX1_init_1 12 rfl rfl)
theorem dX1_init_38 : decode cX1_init 38 = .ok (.dup, 1) := dk_89 (dk_at dksX1_init_1 15 rfl rfl)
theorem dX1_init_39 : decode cX1_init 39 = .ok (.invokespecial 56, 3) := dk_183 0 56 (dk_at dksX1_init_1 16 rfl rfl)
theorem dX1_init_42 : decode cX1_init 42 = .ok (.putfield 57, 3) := dk_181 0 57 (dk_at dksX1_init_1 19 rfl rfl)
theorem dX1_init_45 : decode cX1_init 45 = .ok (.return_, 1) := dk_177 (dk_at dksX1_init_1 22 rfl rfl)
abbrev cX1_clearText : ByteArray := prog_1_method_15_code
def yX1_clearText : MethodName := ⟨RX1, "clearText", "()I"⟩
def dkwX1_clearText_0 : List UInt8 := [42, 180, 0, 57, 182, 0, 94, 172]
abbrev dktX1_clearText_0 : List UInt8 := dkwX1_clearText_0 ++ []
theorem dksX1_clearText_0 : cX1_clearText.data.toList.drop 0 = dktX1_clearText_0 := by decide +kernel
theorem dX1_clearText_0 : decode cX1_clearText 0 = .ok (.aload_n 0, 1) := dk_42 (dk_at dksX1_clearText_0 0 rfl rfl)
theorem dX1_clearText_1 : decode cX1_clearText 1 = .ok (.getfield 57, 3) := dk_180 0 57 (dk_at dksX1_clearText_0 1 rfl rfl)
theorem dX1_clearText_4 : decode cX1_clearText 4 = .ok (.invokevirtual 94, 3) := dk_182 0 94 (dk_at dksX1_clearText_0 4 rfl rfl)
theorem dX1_clearText_7 : decode cX1_clearText 7 = .ok (.ireturn, 1) := dk_172 (dk_at dksX1_clearText_0 7 rfl rfl)
abbrev cX1_errorPosition : ByteArray := prog_1_method_16_code
def yX1_errorPosition : MethodName := ⟨RX1, "errorPosition", "()I"⟩
def dkwX1_errorPosition_0 : List UInt8 := [42, 180, 0, 57, 182, 0, 97, 172]
abbrev dktX1_errorPosition_0 : List UInt8 := dkwX1_errorPosition_0 ++ []
theorem dksX1_errorPosition_0 : cX1_errorPosition.data.toList.drop 0 = dktX1_errorPosition_0 := by decide +kernel
theorem dX1_errorPosition_0 : decode cX1_errorPosition 0 = .ok (.aload_n 0, 1) := dk_42 (dk_at dksX1_errorPosition_0 0 rfl rfl)
theorem dX1_errorPosition_1 : decode cX1_errorPosition 1 = .ok (.getfield 57, 3) := dk_180 0 57 (dk_at dksX1_errorPosition_0 1 rfl rfl)
theorem dX1_errorPosition_4 : decode cX1_errorPosition 4 = .ok (.invokevirtual 97, 3) := dk_182 0 97 (dk_at dksX1_errorPosition_0 4 rfl rfl)
theorem dX1_errorPosition_7 : decode cX1_errorPosition 7 = .ok (.ireturn, 1) := dk_172 (dk_at dksX1_errorPosition_0 7 rfl rfl)
abbrev cX1_isWord : ByteArray := prog_1_method_8_code
def yX1_isWord : MethodName := ⟨RX1, "isWord", "(I)Z"⟩
def dkwX1_isWord_0 : List UInt8 := [26, 133, 9, 20, 0, 23, 184, 0, 15, 172]
abbrev dktX1_isWord_0 : List UInt8 := dkwX1_isWord_0 ++ []
theorem dksX1_isWord_0 : cX1_isWord.data.toList.drop 0 = dktX1_isWord_0 := by decide +kernel
theorem dX1_isWord_0 : decode cX1_isWord 0 = .ok (.iload_n 0, 1) := dk_26 (dk_at dksX1_isWord_0 0 rfl rfl)
theorem dX1_isWord_1 : decode cX1_isWord 1 = .ok (.i2l, 1) := dk_133 (dk_at dksX1_isWord_0 1 rfl rfl)
theorem dX1_isWord_2 : decode cX1_isWord 2 = .ok (.lconst 0, 1) := dk_9 (dk_at dksX1_isWord_0 2 rfl rfl)
theorem dX1_isWord_3 : decode cX1_isWord 3 = .ok (.ldc2_w 23, 3) := dk_20 0 23 (dk_at dksX1_isWord_0 3 rfl rfl)
theorem dX1_isWord_6 : decode cX1_isWord 6 = .ok (.invokestatic 15, 3) := dk_184 0 15 (dk_at dksX1_isWord_0 6 rfl rfl)
theorem dX1_isWord_9 : decode cX1_isWord 9 = .ok (.ireturn, 1) := dk_172 (dk_at dksX1_isWord_0 9 rfl rfl)
abbrev cX1_inRange : ByteArray := prog_1_method_1_code
def yX1_inRange : MethodName := ⟨RX1, "inRange", "(JJJ)Z"⟩
def dkwX1_inRange_0 : List UInt8 := [30, 32, 148, 155, 0, 14, 30, 22, 4, 148, 157, 0, 7, 4, 167, 0, 4, 3, 172]
abbrev dktX1_inRange_0 : List UInt8 := dkwX1_inRange_0 ++ []
theorem dksX1_inRange_0 : cX1_inRange.data.toList.drop 0 = dktX1_inRange_0 := by decide +kernel
theorem dX1_inRange_0 : decode cX1_inRange 0 = .ok (.lload_n 0, 1) := dk_30 (dk_at dksX1_inRange_0 0 rfl rfl)
theorem dX1_inRange_1 : decode cX1_inRange 1 = .ok (.lload_n 2, 1) := dk_32 (dk_at dksX1_inRange_0 1 rfl rfl)
theorem dX1_inRange_2 : decode cX1_inRange 2 = .ok (.lcmp, 1) := dk_148 (dk_at dksX1_inRange_0 2 rfl rfl)
theorem dX1_inRange_3 : decode cX1_inRange 3 = .ok (.ifCond .lt 14, 3) := dk_155 0 14 (dk_at dksX1_inRange_0 3 rfl rfl)
theorem dX1_inRange_6 : decode cX1_inRange 6 = .ok (.lload_n 0, 1) := dk_30 (dk_at dksX1_inRange_0 6 rfl rfl)
theorem dX1_inRange_7 : decode cX1_inRange 7 = .ok (.lload 4, 2) := dk_22 4 (dk_at dksX1_inRange_0 7 rfl rfl)
theorem dX1_inRange_9 : decode cX1_inRange 9 = .ok (.lcmp, 1) := dk_148 (dk_at dksX1_inRange_0 9 rfl rfl)
theorem dX1_inRange_10 : decode cX1_inRange 10 = .ok (.ifCond .gt 7, 3) := dk_157 0 7 (dk_at dksX1_inRange_0 10 rfl rfl)
theorem dX1_inRange_13 : decode cX1_inRange 13 = .ok (.iconst 1, 1) := dk_4 (dk_at dksX1_inRange_0 13 rfl rfl)
theorem dX1_inRange_14 : decode cX1_inRange 14 = .ok (.goto 4, 3) := dk_167 0 4 (dk_at dksX1_inRange_0 14 rfl rfl)
theorem dX1_inRange_17 : decode cX1_inRange 17 = .ok (.iconst 0, 1) := dk_3 (dk_at dksX1_inRange_0 17 rfl rfl)
theorem dX1_inRange_18 : decode cX1_inRange 18 = .ok (.ireturn, 1) := dk_172 (dk_at dksX1_inRange_0 18 rfl rfl)
abbrev cX1_has : ByteArray := prog_1_method_9_code
def yX1_has : MethodName := ⟨RX1, "has", "(II)Z"⟩
def dkwX1_has_0 : List UInt8 := [26, 27, 122, 4, 126, 4, 160, 0, 7, 4, 167, 0, 4, 3, 172]
abbrev dktX1_has_0 : List UInt8 := dkwX1_has_0 ++ []
theorem dksX1_has_0 : cX1_has.data.toList.drop 0 = dktX1_has_0 := by decide +kernel
theorem dX1_has_0 : decode cX1_has 0 = .ok (.iload_n 0, 1) := dk_26 (dk_at dksX1_has_0 0 rfl rfl)
theorem dX1_has_1 : decode cX1_has 1 = .ok (.iload_n 1, 1) := dk_27 (dk_at dksX1_has_0 1 rfl rfl)
theorem dX1_has_2 : decode cX1_has 2 = .ok (.ishr, 1) := dk_122 (dk_at dksX1_has_0 2 rfl rfl)
theorem dX1_has_3 : decode cX1_has 3 = .ok (.iconst 1, 1) := dk_4 (dk_at dksX1_has_0 3 rfl rfl)
theorem dX1_has_4 : decode cX1_has 4 = .ok (.iand, 1) := dk_126 (dk_at dksX1_has_0 4 rfl rfl)
theorem dX1_has_5 : decode cX1_has 5 = .ok (.iconst 1, 1) := dk_4 (dk_at dksX1_has_0 5 rfl rfl)
theorem dX1_has_6 : decode cX1_has 6 = .ok (.if_icmp .ne 7, 3) := dk_160 0 7 (dk_at dksX1_has_0 6 rfl rfl)
theorem dX1_has_9 : decode cX1_has 9 = .ok (.iconst 1, 1) := dk_4 (dk_at dksX1_has_0 9 rfl rfl)
theorem dX1_has_10 : decode cX1_has 10 = .ok (.goto 4, 3) := dk_167 0 4 (dk_at dksX1_has_0 10 rfl rfl)
theorem dX1_has_13 : decode cX1_has 13 = .ok (.iconst 0, 1) := dk_3 (dk_at dksX1_has_0 13 rfl rfl)
theorem dX1_has_14 : decode cX1_has 14 = .ok (.ireturn, 1) := dk_172 (dk_at dksX1_has_0 14 rfl rfl)
abbrev cX1_begin : ByteArray := prog_1_method_26_code
def yX1_begin : MethodName := ⟨RX1, "begin", "(J)I"⟩
def dkwX1_begin_0 : List UInt8 := [42, 182, 0, 226, 31, 182, 0, 230, 172]
abbrev dktX1_begin_0 : List UInt8 := dkwX1_begin_0 ++ []
theorem dksX1_begin_0 : cX1_begin.data.toList.drop 0 = dktX1_begin_0 := by decide +kernel
theorem dX1_begin_0 : decode cX1_begin 0 = .ok (.aload_n 0, 1) := dk_42 (dk_at dksX1_begin_0 0 rfl rfl)
theorem dX1_begin_1 : decode cX1_begin 1 = .ok (.invokevirtual 226, 3) := dk_182 0 226 (dk_at dksX1_begin_0 1 rfl rfl)
theorem dX1_begin_4 : decode cX1_begin 4 = .ok (.lload_n 1, 1) := dk_31 (dk_at dksX1_begin_0 4 rfl rfl)
theorem dX1_begin_5 : decode cX1_begin 5 = .ok (.invokevirtual 230, 3) := dk_182 0 230 (dk_at dksX1_begin_0 5 rfl rfl)
theorem dX1_begin_8 : decode cX1_begin 8 = .ok (.ireturn, 1) := dk_172 (dk_at dksX1_begin_0 8 rfl rfl)
abbrev cX1_act : ByteArray := prog_1_method_12_code
def yX1_act : MethodName := ⟨RX1, "act", "()LTaleDuel$State;"⟩
def dkwX1_act_2 : List UInt8 := [183, 0, 75, 181, 0, 39, 42, 180, 0, 39, 176]
abbrev dktX1_act_2 : List UInt8 := dkwX1_act_2 ++ []
def dkwX1_act_1 : List UInt8 := [42, 180, 0, 46, 42, 180, 0, 39, 185, 0, 71, 2, 0, 42, 187, 0, 36, 89, 42, 180, 0, 39]
abbrev dktX1_act_1 : List UInt8 := dkwX1_act_1 ++ dktX1_act_2
def dkwX1_act_0 : List UInt8 := [42, 180, 0, 46, 185, 0, 61, 1, 0, 16, 14, 160, 0, 13, 42, 180, 0, 46, 185, 0, 67, 1, 0, 87]
abbrev dktX1_act_0 : List UInt8 := dkwX1_act_0 ++ dktX1_act_1
theorem dksX1_act_0 : cX1_act.data.toList.drop 0 = dktX1_act_0 := by decide +kernel
theorem dksX1_act_1 : cX1_act.data.toList.drop 24 = dktX1_act_1 := dk_seg dksX1_act_0 24 rfl rfl
theorem dksX1_act_2 : cX1_act.data.toList.drop 46 = dktX1_act_2 := dk_seg dksX1_act_1 22 rfl rfl
theorem dX1_act_0 : decode cX1_act 0 = .ok (.aload_n 0, 1) := dk_42 (dk_at dksX1_act_0 0 rfl rfl)
theorem dX1_act_1 : decode cX1_act 1 = .ok (.getfield 46, 3) := dk_180 0 46 (dk_at dksX1_act_0 1 rfl rfl)
theorem dX1_act_4 : decode cX1_act 4 = .ok (.invokeinterface 61 1, 5) := by decide +kernel
theorem dX1_act_9 : decode cX1_act 9 = .ok (.bipush 14, 2) := dk_16 14 (dk_at dksX1_act_0 9 rfl rfl)
theorem dX1_act_11 : decode cX1_act 11 = .ok (.if_icmp .ne 13, 3) := dk_160 0 13 (dk_at dksX1_act_0 11 rfl rfl)
theorem dX1_act_14 : decode cX1_act 14 = .ok (.aload_n 0, 1) := dk_42 (dk_at dksX1_act_0 14 rfl rfl)
theorem dX1_act_15 : decode cX1_act 15 = .ok (.getfield 46, 3) := dk_180 0 46 (dk_at dksX1_act_0 15 rfl rfl)
theorem dX1_act_18 : decode cX1_act 18 = .ok (.invokeinterface 67 1, 5) := by decide +kernel
theorem dX1_act_23 : decode cX1_act 23 = .ok (.pop, 1) := dk_87 (dk_at dksX1_act_0 23 rfl rfl)
theorem dX1_act_24 : decode cX1_act 24 = .ok (.aload_n 0, 1) := dk_42 (dk_at dksX1_act_1 0 rfl rfl)
theorem dX1_act_25 : decode cX1_act 25 = .ok (.getfield 46, 3) := dk_180 0 46 (dk_at dksX1_act_1 1 rfl rfl)
theorem dX1_act_28 : decode cX1_act 28 = .ok (.aload_n 0, 1) := dk_42 (dk_at dksX1_act_1 4 rfl rfl)
theorem dX1_act_29 : decode cX1_act 29 = .ok (.getfield 39, 3) := dk_180 0 39 (dk_at dksX1_act_1 5 rfl rfl)
theorem dX1_act_32 : decode cX1_act 32 = .ok (.invokeinterface 71 2, 5) := by decide +kernel
theorem dX1_act_37 : decode cX1_act 37 = .ok (.aload_n 0, 1) := dk_42 (dk_at dksX1_act_1 13 rfl rfl)
theorem dX1_act_38 : decode cX1_act 38 = .ok (.new 36, 3) := dk_187 0 36 (dk_at dksX1_act_1 14 rfl rfl)
theorem dX1_act_41 : decode cX1_act 41 = .ok (.dup, 1) := dk_89 (dk_at dksX1_act_1 17 rfl rfl)
theorem dX1_act_42 : decode cX1_act 42 = .ok (.aload_n 0, 1) := dk_42 (dk_at dksX1_act_1 18 rfl rfl)
theorem dX1_act_43 : decode cX1_act 43 = .ok (.getfield 39, 3) := dk_180 0 39 (dk_at dksX1_act_1 19 rfl rfl)
theorem dX1_act_46 : decode cX1_act 46 = .ok (.invokespecial 75, 3) := dk_183 0 75 (dk_at dksX1_act_2 0 rfl rfl)
theorem dX1_act_49 : decode cX1_act 49 = .ok (.putfield 39, 3) := dk_181 0 39 (dk_at dksX1_act_2 3 rfl rfl)
theorem dX1_act_52 : decode cX1_act 52 = .ok (.aload_n 0, 1) := dk_42 (dk_at dksX1_act_2 6 rfl rfl)
theorem dX1_act_53 : decode cX1_act 53 = .ok (.getfield 39, 3) := dk_180 0 39 (dk_at dksX1_act_2 7 rfl rfl)
theorem dX1_act_56 : decode cX1_act 56 = .ok (.areturn, 1) := dk_176 (dk_at dksX1_act_2 10 rfl rfl)
abbrev cX1_bestBan : ByteArray := prog_1_method_36_code
def yX1_bestBan : MethodName := ⟨RX1, "bestBan", "()I"⟩
def dkwX1_bestBan_1 : List UInt8 := [172]
abbrev dktX1_bestBan_1 : List UInt8 := dkwX1_bestBan_1 ++ []
def dkwX1_bestBan_0 : List UInt8 := [42, 180, 0, 39, 182, 0, 255, 153, 0, 16, 42, 180, 0, 39, 180, 0, 102, 182, 1, 37, 167, 0, 4, 2]
abbrev dktX1_bestBan_0 : List UInt8 := dkwX1_bestBan_0 ++ dktX1_bestBan_1
theorem dksX1_bestBan_0 : cX1_bestBan.data.toList.drop 0 = dktX1_bestBan_0 := by decide +kernel
theorem dksX1_bestBan_1 : cX1_bestBan.data.toList.drop 24 = dktX1_bestBan_1 := dk_seg dksX1_bestBan_0 24 rfl rfl
theorem dX1_bestBan_0 : decode cX1_bestBan 0 = .ok (.aload_n 0, 1) := dk_42 (dk_at dksX1_bestBan_0 0 rfl rfl)
theorem dX1_bestBan_1 : decode cX1_bestBan 1 = .ok (.getfield 39, 3) := dk_180 0 39 (dk_at dksX1_bestBan_0 1 rfl rfl)
theorem dX1_bestBan_4 : decode cX1_bestBan 4 = .ok (.invokevirtual 255, 3) := dk_182 0 255 (dk_at dksX1_bestBan_0 4 rfl rfl)
theorem dX1_bestBan_7 : decode cX1_bestBan 7 = .ok (.ifCond .eq 16, 3) := dk_153 0 16 (dk_at dksX1_bestBan_0 7 rfl rfl)
theorem dX1_bestBan_10 : decode cX1_bestBan 10 = .ok (.aload_n 0, 1) := dk_42 (dk_at dksX1_bestBan_0 10 rfl rfl)
theorem dX1_bestBan_11 : decode cX1_bestBan 11 = .ok (.getfield 39, 3) := dk_180 0 39 (dk_at dksX1_bestBan_0 11 rfl rfl)
theorem dX1_bestBan_14 : decode cX1_bestBan 14 = .ok (.getfield 102, 3) := dk_180 0 102 (dk_at dksX1_bestBan_0 14 rfl rfl)
theorem dX1_bestBan_17 : decode cX1_bestBan 17 = .ok (.invokevirtual 293, 3) := dk_182 1 37 (dk_at dksX1_bestBan_0 17 rfl rfl)
theorem dX1_bestBan_20 : decode cX1_bestBan 20 = .ok (.goto 4, 3) := dk_167 0 4 (dk_at dksX1_bestBan_0 20 rfl rfl)
theorem dX1_bestBan_23 : decode cX1_bestBan 23 = .ok (.iconst (-1), 1) := dk_2 (dk_at dksX1_bestBan_0 23 rfl rfl)
theorem dX1_bestBan_24 : decode cX1_bestBan 24 = .ok (.ireturn, 1) := dk_172 (dk_at dksX1_bestBan_1 0 rfl rfl)
abbrev cX1_append : ByteArray := prog_1_method_14_code
def yX1_append : MethodName := ⟨RX1, "append", "(I)I"⟩
def dkwX1_append_1 : List UInt8 := [4, 167, 0, 4, 3, 184, 0, 87, 42, 180, 0, 57, 27, 146, 182, 0, 90, 172]
abbrev dktX1_append_1 : List UInt8 := dkwX1_append_1 ++ []
def dkwX1_append_0 : List UInt8 := [27, 133, 9, 20, 0, 78, 184, 0, 15, 184, 0, 80, 42, 180, 0, 57, 182, 0, 84, 16, 20, 162, 0, 7]
abbrev dktX1_append_0 : List UInt8 := dkwX1_append_0 ++ dktX1_append_1
theorem dksX1_append_0 : cX1_append.data.toList.drop 0 = dktX1_append_0 := by decide +kernel
theorem dksX1_append_1 : cX1_append.data.toList.drop 24 = dktX1_append_1 := dk_seg dksX1_append_0 24 rfl rfl
theorem dX1_append_0 : decode cX1_append 0 = .ok (.iload_n 1, 1) := dk_27 (dk_at dksX1_append_0 0 rfl rfl)
theorem dX1_append_1 : decode cX1_append 1 = .ok (.i2l, 1) := dk_133 (dk_at dksX1_append_0 1 rfl rfl)
theorem dX1_append_2 : decode cX1_append 2 = .ok (.lconst 0, 1) := dk_9 (dk_at dksX1_append_0 2 rfl rfl)
theorem dX1_append_3 : decode cX1_append 3 = .ok (.ldc2_w 78, 3) := dk_20 0 78 (dk_at dksX1_append_0 3 rfl rfl)
theorem dX1_append_6 : decode cX1_append 6 = .ok (.invokestatic 15, 3) := dk_184 0 15 (dk_at dksX1_append_0 6 rfl rfl)
theorem dX1_append_9 : decode cX1_append 9 = .ok (.invokestatic 80, 3) := dk_184 0 80 (dk_at dksX1_append_0 9 rfl rfl)
theorem dX1_append_12 : decode cX1_append 12 = .ok (.aload_n 0, 1) := dk_42 (dk_at dksX1_append_0 12 rfl rfl)
theorem dX1_append_13 : decode cX1_append 13 = .ok (.getfield 57, 3) := dk_180 0 57 (dk_at dksX1_append_0 13 rfl rfl)
theorem dX1_append_16 : decode cX1_append 16 = .ok (.invokevirtual 84, 3) := dk_182 0 84 (dk_at dksX1_append_0 16 rfl rfl)
theorem dX1_append_19 : decode cX1_append 19 = .ok (.bipush 20, 2) := dk_16 20 (dk_at dksX1_append_0 19 rfl rfl)
theorem dX1_append_21 : decode cX1_append 21 = .ok (.if_icmp .ge 7, 3) := dk_162 0 7 (dk_at dksX1_append_0 21 rfl rfl)
theorem dX1_append_24 : decode cX1_append 24 = .ok (.iconst 1, 1) := dk_4 (dk_at dksX1_append_1 0 rfl rfl)
theorem dX1_append_25 : decode cX1_append 25 = .ok (.goto 4, 3) := dk_167 0 4 (dk_at dksX1_append_1 1 rfl rfl)
theorem dX1_append_28 : decode cX1_append 28 = .ok (.iconst 0, 1) := dk_3 (dk_at dksX1_append_1 4 rfl rfl)
theorem dX1_append_29 : decode cX1_append 29 = .ok (.invokestatic 87, 3) := dk_184 0 87 (dk_at dksX1_append_1 5 rfl rfl)
theorem dX1_append_32 : decode cX1_append 32 = .ok (.aload_n 0, 1) := dk_42 (dk_at dksX1_append_1 8 rfl rfl)
theorem dX1_append_33 : decode cX1_append 33 = .ok (.getfield 57, 3) := dk_180 0 57 (dk_at dksX1_append_1 9 rfl rfl)
theorem dX1_append_36 : decode cX1_append 36 = .ok (.iload_n 1, 1) := dk_27 (dk_at dksX1_append_1 12 rfl rfl)
theorem dX1_append_37 : decode cX1_append 37 = .ok (.i2c, 1) := dk_146 (dk_at dksX1_append_1 13 rfl rfl)
theorem dX1_append_38 : decode cX1_append 38 = .ok (.invokevirtual 90, 3) := dk_182 0 90 (dk_at dksX1_append_1 14 rfl rfl)
theorem dX1_append_41 : decode cX1_append 41 = .ok (.ireturn, 1) := dk_172 (dk_at dksX1_append_1 17 rfl rfl)
abbrev cX1_demandArgument : ByteArray := prog_1_method_3_code
def yX1_demandArgument : MethodName := ⟨RX1, "demandArgument", "(Z)V"⟩
def dkwX1_demandArgument_0 : List UInt8 := [26, 154, 0, 11, 187, 0, 7, 89, 183, 0, 9, 191, 177]
abbrev dktX1_demandArgument_0 : List UInt8 := dkwX1_demandArgument_0 ++ []
theorem dksX1_demandArgument_0 : cX1_demandArgument.data.toList.drop 0 = dktX1_demandArgument_0 := by decide +kernel
theorem dX1_demandArgument_0 : decode cX1_demandArgument 0 = .ok (.iload_n 0, 1) := dk_26 (dk_at dksX1_demandArgument_0 0 rfl rfl)
theorem dX1_demandArgument_1 : decode cX1_demandArgument 1 = .ok (.ifCond .ne 11, 3) := dk_154 0 11 (dk_at dksX1_demandArgument_0 1 rfl rfl)
theorem dX1_demandArgument_4 : decode cX1_demandArgument 4 = .ok (.new 7, 3) := dk_187 0 7 (dk_at dksX1_demandArgument_0 4 rfl rfl)
theorem dX1_demandArgument_7 : decode cX1_demandArgument 7 = .ok (.dup, 1) := dk_89 (dk_at dksX1_demandArgument_0 7 rfl rfl)
theorem dX1_demandArgument_8 : decode cX1_demandArgument 8 = .ok (.invokespecial 9, 3) := dk_183 0 9 (dk_at dksX1_demandArgument_0 8 rfl rfl)
theorem dX1_demandArgument_11 : decode cX1_demandArgument 11 = .ok (.athrow, 1) := dk_191 (dk_at dksX1_demandArgument_0 11 rfl rfl)
theorem dX1_demandArgument_12 : decode cX1_demandArgument 12 = .ok (.return_, 1) := dk_177 (dk_at dksX1_demandArgument_0 12 rfl rfl)
abbrev cX1_demandState : ByteArray := prog_1_method_4_code
def yX1_demandState : MethodName := ⟨RX1, "demandState", "(Z)V"⟩
def dkwX1_demandState_0 : List UInt8 := [26, 154, 0, 11, 187, 0, 10, 89, 183, 0, 12, 191, 177]
abbrev dktX1_demandState_0 : List UInt8 := dkwX1_demandState_0 ++ []
theorem dksX1_demandState_0 : cX1_demandState.data.toList.drop 0 = dktX1_demandState_0 := by decide +kernel
theorem dX1_demandState_0 : decode cX1_demandState 0 = .ok (.iload_n 0, 1) := dk_26 (dk_at dksX1_demandState_0 0 rfl rfl)
theorem dX1_demandState_1 : decode cX1_demandState 1 = .ok (.ifCond .ne 11, 3) := dk_154 0 11 (dk_at dksX1_demandState_0 1 rfl rfl)
theorem dX1_demandState_4 : decode cX1_demandState 4 = .ok (.new 10, 3) := dk_187 0 10 (dk_at dksX1_demandState_0 4 rfl rfl)
theorem dX1_demandState_7 : decode cX1_demandState 7 = .ok (.dup, 1) := dk_89 (dk_at dksX1_demandState_0 7 rfl rfl)
theorem dX1_demandState_8 : decode cX1_demandState 8 = .ok (.invokespecial 12, 3) := dk_183 0 12 (dk_at dksX1_demandState_0 8 rfl rfl)
theorem dX1_demandState_11 : decode cX1_demandState 11 = .ok (.athrow, 1) := dk_191 (dk_at dksX1_demandState_0 11 rfl rfl)
theorem dX1_demandState_12 : decode cX1_demandState 12 = .ok (.return_, 1) := dk_177 (dk_at dksX1_demandState_0 12 rfl rfl)
abbrev cX1_about : ByteArray := prog_1_method_17_code
def yX1_about : MethodName := ⟨RX1, "about", "(I)I"⟩
def dkwX1_about_6 : List UInt8 := [182, 0, 125, 167, 0, 7, 44, 182, 0, 128, 172]
abbrev dktX1_about_6 : List UInt8 := dkwX1_about_6 ++ []
def dkwX1_about_5 : List UInt8 := [180, 0, 122, 167, 0, 29, 44, 180, 0, 106, 153, 0, 7, 4, 167, 0, 18, 3, 167, 0, 14, 44]
abbrev dktX1_about_5 : List UInt8 := dkwX1_about_5 ++ dktX1_about_6
def dkwX1_about_4 : List UInt8 := [180, 0, 116, 153, 0, 7, 4, 167, 0, 47, 3, 167, 0, 43, 44, 180, 0, 119, 167, 0, 36, 44]
abbrev dktX1_about_4 : List UInt8 := dkwX1_about_4 ++ dktX1_about_5
def dkwX1_about_3 : List UInt8 := [4, 167, 0, 76, 44, 180, 0, 106, 153, 0, 7, 2, 167, 0, 65, 44, 180, 0, 112, 167, 0, 58, 44]
abbrev dktX1_about_3 : List UInt8 := dkwX1_about_3 ++ dktX1_about_4
def dkwX1_about_2 : List UInt8 := [170, 0, 0, 0, 114, 0, 0, 0, 0, 0, 0, 0, 6, 0, 0, 0, 41, 0, 0, 0, 45, 0, 0, 0, 63, 0, 0, 0, 78, 0, 0, 0, 85, 0, 0, 0, 92, 0, 0, 0, 107]
abbrev dktX1_about_2 : List UInt8 := dkwX1_about_2 ++ dktX1_about_3
def dkwX1_about_1 : List UInt8 := [3, 172, 27]
abbrev dktX1_about_1 : List UInt8 := dkwX1_about_1 ++ dktX1_about_2
def dkwX1_about_0 : List UInt8 := [27, 133, 9, 20, 0, 100, 184, 0, 15, 184, 0, 80, 42, 180, 0, 39, 180, 0, 102, 77, 44, 199, 0, 5]
abbrev dktX1_about_0 : List UInt8 := dkwX1_about_0 ++ dktX1_about_1
theorem dksX1_about_0 : cX1_about.data.toList.drop 0 = dktX1_about_0 := by decide +kernel
theorem dksX1_about_1 : cX1_about.data.toList.drop 24 = dktX1_about_1 := dk_seg dksX1_about_0 24 rfl rfl
theorem dksX1_about_2 : cX1_about.data.toList.drop 27 = dktX1_about_2 := dk_seg dksX1_about_1 3 rfl rfl
theorem dksX1_about_3 : cX1_about.data.toList.drop 68 = dktX1_about_3 := dk_seg dksX1_about_2 41 rfl rfl
theorem dksX1_about_4 : cX1_about.data.toList.drop 91 = dktX1_about_4 := dk_seg dksX1_about_3 23 rfl rfl
theorem dksX1_about_5 : cX1_about.data.toList.drop 113 = dktX1_about_5 := dk_seg dksX1_about_4 22 rfl rfl
theorem dksX1_about_6 : cX1_about.data.toList.drop 135 = dktX1_about_6 := dk_seg dksX1_about_5 22 rfl rfl
theorem dX1_about_0 : decode cX1_about 0 = .ok (.iload_n 1, 1) := dk_27 (dk_at dksX1_about_0 0 rfl rfl)
theorem dX1_about_1 : decode cX1_about 1 = .ok (.i2l, 1) := dk_133 (dk_at dksX1_about_0 1 rfl rfl)
theorem dX1_about_2 : decode cX1_about 2 = .ok (.lconst 0, 1) := dk_9 (dk_at dksX1_about_0 2 rfl rfl)
theorem dX1_about_3 : decode cX1_about 3 = .ok (.ldc2_w 100, 3) := dk_20 0 100 (dk_at dksX1_about_0 3 rfl rfl)
theorem dX1_about_6 : decode cX1_about 6 = .ok (.invokestatic 15, 3) := dk_184 0 15 (dk_at dksX1_about_0 6 rfl rfl)
theorem dX1_about_9 : decode cX1_about 9 = .ok (.invokestatic 80, 3) := dk_184 0 80 (dk_at dksX1_about_0 9 rfl rfl)
theorem dX1_about_12 : decode cX1_about 12 = .ok (.aload_n 0, 1) := dk_42 (dk_at dksX1_about_0 12 rfl rfl)
theorem dX1_about_13 : decode cX1_about 13 = .ok (.getfield 39, 3) := dk_180 0 39 (dk_at dksX1_about_0 13 rfl rfl)
theorem dX1_about_16 : decode cX1_about 16 = .ok (.getfield 102, 3) := dk_180 0 102 (dk_at dksX1_about_0 16 rfl rfl)
theorem dX1_about_19 : decode cX1_about 19 = .ok (.astore_n 2, 1) := dk_77 (dk_at dksX1_about_0 19 rfl rfl)
theorem dX1_about_20 : decode cX1_about 20 = .ok (.aload_n 2, 1) := dk_44 (dk_at dksX1_about_0 20 rfl rfl)
theorem dX1_about_21 : decode cX1_about 21 = .ok (.ifnonnull 5, 3) := dk_199 0 5 (dk_at dksX1_about_0 21 rfl rfl)
theorem dX1_about_24 : decode cX1_about 24 = .ok (.iconst 0, 1) := dk_3 (dk_at dksX1_about_1 0 rfl rfl)
theorem dX1_about_25 : decode cX1_about 25 = .ok (.ireturn, 1) := dk_172 (dk_at dksX1_about_1 1 rfl rfl)
theorem dX1_about_26 : decode cX1_about 26 = .ok (.iload_n 1, 1) := dk_27 (dk_at dksX1_about_1 2 rfl rfl)
theorem dX1_about_27 : decode cX1_about 27 = .ok (.tableswitch 114 0 6 #[41, 45, 63, 78, 85, 92, 107], 41) := by decide +kernel
theorem dX1_about_68 : decode cX1_about 68 = .ok (.iconst 1, 1) := dk_4 (dk_at dksX1_about_3 0 rfl rfl)
theorem dX1_about_69 : decode cX1_about 69 = .ok (.goto 76, 3) := dk_167 0 76 (dk_at dksX1_about_3 1 rfl rfl)
theorem dX1_about_72 : decode cX1_about 72 = .ok (.aload_n 2, 1) := dk_44 (dk_at dksX1_about_3 4 rfl rfl)
theorem dX1_about_73 : decode cX1_about 73 = .ok (.getfield 106, 3) := dk_180 0 106 (dk_at dksX1_about_3 5 rfl rfl)
theorem dX1_about_76 : decode cX1_about 76 = .ok (.ifCond .eq 7, 3) := dk_153 0 7 (dk_at dksX1_about_3 8 rfl rfl)
theorem dX1_about_79 : decode cX1_about 79 = .ok (.iconst (-1), 1) := dk_2 (dk_at dksX1_about_3 11 rfl rfl)
theorem dX1_about_80 : decode cX1_about 80 = .ok (.goto 65, 3) := dk_167 0 65 (dk_at dksX1_about_3 12 rfl rfl)
theorem dX1_about_83 : decode cX1_about 83 = .ok (.aload_n 2, 1) := dk_44 (dk_at dksX1_about_3 15 rfl rfl)
theorem dX1_about_84 : decode cX1_about 84 = .ok (.getfield 112, 3) := dk_180 0 112 (dk_at dksX1_about_3 16 rfl rfl)
theorem dX1_about_87 : decode cX1_about 87 = .ok (.goto 58, 3) := dk_167 0 58 (dk_at dksX1_about_3 19 rfl rfl)
theorem dX1_about_90 : decode cX1_about 90 = .ok (.aload_n 2, 1) := dk_44 (dk_at dksX1_about_3 22 rfl rfl)
theorem dX1_about_91 : decode cX1_about 91 = .ok (.getfield 116, 3) := dk_180 0 116 (dk_at dksX1_about_4 0 rfl rfl)
theorem dX1_about_94 : decode cX1_about 94 = .ok (.ifCond .eq 7, 3) := dk_153 0 7 (dk_at dksX1_about_4 3 rfl rfl)
theorem dX1_about_97 : decode cX1_about 97 = .ok (.iconst 1, 1) := dk_4 (dk_at dksX1_about_4 6 rfl rfl)
theorem dX1_about_98 : decode cX1_about 98 = .ok (.goto 47, 3) := dk_167 0 47 (dk_at dksX1_about_4 7 rfl rfl)
theorem dX1_about_101 : decode cX1_about 101 = .ok (.iconst 0, 1) := dk_3 (dk_at dksX1_about_4 10 rfl rfl)
theorem dX1_about_102 : decode cX1_about 102 = .ok (.goto 43, 3) := dk_167 0 43 (dk_at dksX1_about_4 11 rfl rfl)
theorem dX1_about_105 : decode cX1_about 105 = .ok (.aload_n 2, 1) := dk_44 (dk_at dksX1_about_4 14 rfl rfl)
theorem dX1_about_106 : decode cX1_about 106 = .ok (.getfield 119, 3) := dk_180 0 119 (dk_at dksX1_about_4 15 rfl rfl)
theorem dX1_about_109 : decode cX1_about 109 = .ok (.goto 36, 3) := dk_167 0 36 (dk_at dksX1_about_4 18 rfl rfl)
theorem dX1_about_112 : decode cX1_about 112 = .ok (.aload_n 2, 1) := dk_44 (dk_at dksX1_about_4 21 rfl rfl)
theorem dX1_about_113 : decode cX1_about 113 = .ok (.getfield 122, 3) := dk_180 0 122 (dk_at dksX1_about_5 0 rfl rfl)
theorem dX1_about_116 : decode cX1_about 116 = .ok (.goto 29, 3) := dk_167 0 29 (dk_at dksX1_about_5 3 rfl rfl)
theorem dX1_about_119 : decode cX1_about 119 = .ok (.aload_n 2, 1) := dk_44 (dk_at dksX1_about_5 6 rfl rfl)
theorem dX1_about_120 : decode cX1_about 120 = .ok (.getfield 106, 3) := dk_180 0 106 (dk_at dksX1_about_5 7 rfl rfl)
theorem dX1_about_123 : decode cX1_about 123 = .ok (.ifCond .eq 7, 3) := dk_153 0 7 (dk_at dksX1_about_5 10 rfl rfl)
theorem dX1_about_126 : decode cX1_about 126 = .ok (.iconst 1, 1) := dk_4 (dk_at dksX1_about_5 13 rfl rfl)
theorem dX1_about_127 : decode cX1_about 127 = .ok (.goto 18, 3) := dk_167 0 18 (dk_at dksX1_about_5 14 rfl rfl)
theorem dX1_about_130 : decode cX1_about 130 = .ok (.iconst 0, 1) := dk_3 (dk_at dksX1_about_5 17 rfl rfl)
theorem dX1_about_131 : decode cX1_about 131 = .ok (.goto 14, 3) := dk_167 0 14 (dk_at dksX1_about_5 18 rfl rfl)
theorem dX1_about_134 : decode cX1_about 134 = .ok (.aload_n 2, 1) := dk_44 (dk_at dksX1_about_5 21 rfl rfl)
theorem dX1_about_135 : decode cX1_about 135 = .ok (.invokevirtual 125, 3) := dk_182 0 125 (dk_at dksX1_about_6 0 rfl rfl)
theorem dX1_about_138 : decode cX1_about 138 = .ok (.goto 7, 3) := dk_167 0 7 (dk_at dksX1_about_6 3 rfl rfl)
theorem dX1_about_141 : decode cX1_about 141 = .ok (.aload_n 2, 1) := dk_44 (dk_at dksX1_about_6 6 rfl rfl)
theorem dX1_about_142 : decode cX1_about 142 = .ok (.invokevirtual 128, 3) := dk_182 0 128 (dk_at dksX1_about_6 7 rfl rfl)
theorem dX1_about_145 : decode cX1_about 145 = .ok (.ireturn, 1) := dk_172 (dk_at dksX1_about_6 10 rfl rfl)
abbrev cX1_teller : ByteArray := prog_1_method_21_code
def yX1_teller : MethodName := ⟨RX1, "teller", "(II)I"⟩
def dkwX1_teller_5 : List UInt8 := [172]
abbrev dktX1_teller_5 : List UInt8 := dkwX1_teller_5 ++ []
def dkwX1_teller_4 : List UInt8 := [167, 0, 24, 45, 180, 0, 162, 182, 0, 84, 167, 0, 14, 45, 182, 0, 165, 167, 0, 7, 45, 180, 0, 168]
abbrev dktX1_teller_4 : List UInt8 := dkwX1_teller_4 ++ dktX1_teller_5
def dkwX1_teller_3 : List UInt8 := [45, 180, 0, 154, 167, 0, 42, 45, 182, 0, 159, 167, 0, 35, 45, 180, 0, 162, 199, 0, 7, 3]
abbrev dktX1_teller_3 : List UInt8 := dkwX1_teller_3 ++ dktX1_teller_4
def dkwX1_teller_2 : List UInt8 := [170, 0, 0, 0, 0, 72, 0, 0, 0, 0, 0, 0, 0, 3, 0, 0, 0, 30, 0, 0, 0, 37, 0, 0, 0, 44, 0, 0, 0, 65]
abbrev dktX1_teller_2 : List UInt8 := dkwX1_teller_2 ++ dktX1_teller_3
def dkwX1_teller_1 : List UInt8 := [199, 0, 5, 3, 172, 42, 180, 0, 39, 180, 0, 102, 180, 0, 150, 27, 50, 78, 28]
abbrev dktX1_teller_1 : List UInt8 := dkwX1_teller_1 ++ dktX1_teller_2
def dkwX1_teller_0 : List UInt8 := [27, 184, 0, 144, 28, 133, 9, 20, 0, 148, 184, 0, 15, 184, 0, 80, 42, 180, 0, 39, 180, 0, 102]
abbrev dktX1_teller_0 : List UInt8 := dkwX1_teller_0 ++ dktX1_teller_1
theorem dksX1_teller_0 : cX1_teller.data.toList.drop 0 = dktX1_teller_0 := by decide +kernel
theorem dksX1_teller_1 : cX1_teller.data.toList.drop 23 = dktX1_teller_1 := dk_seg dksX1_teller_0 23 rfl rfl
theorem dksX1_teller_2 : cX1_teller.data.toList.drop 42 = dktX1_teller_2 := dk_seg dksX1_teller_1 19 rfl rfl
theorem dksX1_teller_3 : cX1_teller.data.toList.drop 72 = dktX1_teller_3 := dk_seg dksX1_teller_2 30 rfl rfl
theorem dksX1_teller_4 : cX1_teller.data.toList.drop 94 = dktX1_teller_4 := dk_seg dksX1_teller_3 22 rfl rfl
theorem dksX1_teller_5 : cX1_teller.data.toList.drop 118 = dktX1_teller_5 := dk_seg dksX1_teller_4 24 rfl rfl
theorem dX1_teller_0 : decode cX1_teller 0 = .ok (.iload_n 1, 1) := dk_27 (dk_at dksX1_teller_0 0 rfl rfl)
theorem dX1_teller_1 : decode cX1_teller 1 = .ok (.invokestatic 144, 3) := dk_184 0 144 (dk_at dksX1_teller_0 1 rfl rfl)
theorem dX1_teller_4 : decode cX1_teller 4 = .ok (.iload_n 2, 1) := dk_28 (dk_at dksX1_teller_0 4 rfl rfl)
theorem dX1_teller_5 : decode cX1_teller 5 = .ok (.i2l, 1) := dk_133 (dk_at dksX1_teller_0 5 rfl rfl)
theorem dX1_teller_6 : decode cX1_teller 6 = .ok (.lconst 0, 1) := dk_9 (dk_at dksX1_teller_0 6 rfl rfl)
theorem dX1_teller_7 : decode cX1_teller 7 = .ok (.ldc2_w 148, 3) := dk_20 0 148 (dk_at dksX1_teller_0 7 rfl rfl)
theorem dX1_teller_10 : decode cX1_teller 10 = .ok (.invokestatic 15, 3) := dk_184 0 15 (dk_at dksX1_teller_0 10 rfl rfl)
theorem dX1_teller_13 : decode cX1_teller 13 = .ok (.invokestatic 80, 3) := dk_184 0 80 (dk_at dksX1_teller_0 13 rfl rfl)
theorem dX1_teller_16 : decode cX1_teller 16 = .ok (.aload_n 0, 1) := dk_42 (dk_at dksX1_teller_0 16 rfl rfl)
theorem dX1_teller_17 : decode cX1_teller 17 = .ok (.getfield 39, 3) := dk_180 0 39 (dk_at dksX1_teller_0 17 rfl rfl)
theorem dX1_teller_20 : decode cX1_teller 20 = .ok (.getfield 102, 3) := dk_180 0 102 (dk_at dksX1_teller_0 20 rfl rfl)
theorem dX1_teller_23 : decode cX1_teller 23 = .ok (.ifnonnull 5, 3) := dk_199 0 5 (dk_at dksX1_teller_1 0 rfl rfl)
theorem dX1_teller_26 : decode cX1_teller 26 = .ok (.iconst 0, 1) := dk_3 (dk_at dksX1_teller_1 3 rfl rfl)
theorem dX1_teller_27 : decode cX1_teller 27 = .ok (.ireturn, 1) := dk_172 (dk_at dksX1_teller_1 4 rfl rfl)
theorem dX1_teller_28 : decode cX1_teller 28 = .ok (.aload_n 0, 1) := dk_42 (dk_at dksX1_teller_1 5 rfl rfl)
theorem dX1_teller_29 : decode cX1_teller 29 = .ok (.getfield 39, 3) := dk_180 0 39 (dk_at dksX1_teller_1 6 rfl rfl)
theorem dX1_teller_32 : decode cX1_teller 32 = .ok (.getfield 102, 3) := dk_180 0 102 (dk_at dksX1_teller_1 9 rfl rfl)
theorem dX1_teller_35 : decode cX1_teller 35 = .ok (.getfield 150, 3) := dk_180 0 150 (dk_at dksX1_teller_1 12 rfl rfl)
theorem dX1_teller_38 : decode cX1_teller 38 = .ok (.iload_n 1, 1) := dk_27 (dk_at dksX1_teller_1 15 rfl rfl)
theorem dX1_teller_39 : decode cX1_teller 39 = .ok (.aaload, 1) := dk_50 (dk_at dksX1_teller_1 16 rfl rfl)
theorem dX1_teller_40 : decode cX1_teller 40 = .ok (.astore_n 3, 1) := dk_78 (dk_at dksX1_teller_1 17 rfl rfl)
theorem dX1_teller_41 : decode cX1_teller 41 = .ok (.iload_n 2, 1) := dk_28 (dk_at dksX1_teller_1 18 rfl rfl)
theorem dX1_teller_42 : decode cX1_teller 42 = .ok (.tableswitch 72 0 3 #[30, 37, 44, 65], 30) := by decide +kernel
theorem dX1_teller_72 : decode cX1_teller 72 = .ok (.aload_n 3, 1) := dk_45 (dk_at dksX1_teller_3 0 rfl rfl)
theorem dX1_teller_73 : decode cX1_teller 73 = .ok (.getfield 154, 3) := dk_180 0 154 (dk_at dksX1_teller_3 1 rfl rfl)
theorem dX1_teller_76 : decode cX1_teller 76 = .ok (.goto 42, 3) := dk_167 0 42 (dk_at dksX1_teller_3 4 rfl rfl)
theorem dX1_teller_79 : decode cX1_teller 79 = .ok (.aload_n 3, 1) := dk_45 (dk_at dksX1_teller_3 7 rfl rfl)
theorem dX1_teller_80 : decode cX1_teller 80 = .ok (.invokevirtual 159, 3) := dk_182 0 159 (dk_at dksX1_teller_3 8 rfl rfl)
theorem dX1_teller_83 : decode cX1_teller 83 = .ok (.goto 35, 3) := dk_167 0 35 (dk_at dksX1_teller_3 11 rfl rfl)
theorem dX1_teller_86 : decode cX1_teller 86 = .ok (.aload_n 3, 1) := dk_45 (dk_at dksX1_teller_3 14 rfl rfl)
theorem dX1_teller_87 : decode cX1_teller 87 = .ok (.getfield 162, 3) := dk_180 0 162 (dk_at dksX1_teller_3 15 rfl rfl)
theorem dX1_teller_90 : decode cX1_teller 90 = .ok (.ifnonnull 7, 3) := dk_199 0 7 (dk_at dksX1_teller_3 18 rfl rfl)
theorem dX1_teller_93 : decode cX1_teller 93 = .ok (.iconst 0, 1) := dk_3 (dk_at dksX1_teller_3 21 rfl rfl)
theorem dX1_teller_94 : decode cX1_teller 94 = .ok (.goto 24, 3) := dk_167 0 24 (dk_at dksX1_teller_4 0 rfl rfl)
theorem dX1_teller_97 : decode cX1_teller 97 = .ok (.aload_n 3, 1) := dk_45 (dk_at dksX1_teller_4 3 rfl rfl)
theorem dX1_teller_98 : decode cX1_teller 98 = .ok (.getfield 162, 3) := dk_180 0 162 (dk_at dksX1_teller_4 4 rfl rfl)
theorem dX1_teller_101 : decode cX1_teller 101 = .ok (.invokevirtual 84, 3) := dk_182 0 84 (dk_at dksX1_teller_4 7 rfl rfl)
theorem dX1_teller_104 : decode cX1_teller 104 = .ok (.goto 14, 3) := dk_167 0 14 (dk_at dksX1_teller_4 10 rfl rfl)
theorem dX1_teller_107 : decode cX1_teller 107 = .ok (.aload_n 3, 1) := dk_45 (dk_at dksX1_teller_4 13 rfl rfl)
theorem dX1_teller_108 : decode cX1_teller 108 = .ok (.invokevirtual 165, 3) := dk_182 0 165 (dk_at dksX1_teller_4 14 rfl rfl)
theorem dX1_teller_111 : decode cX1_teller 111 = .ok (.goto 7, 3) := dk_167 0 7 (dk_at dksX1_teller_4 17 rfl rfl)
theorem dX1_teller_114 : decode cX1_teller 114 = .ok (.aload_n 3, 1) := dk_45 (dk_at dksX1_teller_4 20 rfl rfl)
theorem dX1_teller_115 : decode cX1_teller 115 = .ok (.getfield 168, 3) := dk_180 0 168 (dk_at dksX1_teller_4 21 rfl rfl)
theorem dX1_teller_118 : decode cX1_teller 118 = .ok (.ireturn, 1) := dk_172 (dk_at dksX1_teller_5 0 rfl rfl)
abbrev cX1_demandTeller : ByteArray := prog_1_method_18_code
def yX1_demandTeller : MethodName := ⟨RX1, "demandTeller", "(I)V"⟩
def dkwX1_demandTeller_0 : List UInt8 := [26, 184, 0, 131, 184, 0, 135, 177]
abbrev dktX1_demandTeller_0 : List UInt8 := dkwX1_demandTeller_0 ++ []
theorem dksX1_demandTeller_0 : cX1_demandTeller.data.toList.drop 0 = dktX1_demandTeller_0 := by decide +kernel
theorem dX1_demandTeller_0 : decode cX1_demandTeller 0 = .ok (.iload_n 0, 1) := dk_26 (dk_at dksX1_demandTeller_0 0 rfl rfl)
theorem dX1_demandTeller_1 : decode cX1_demandTeller 1 = .ok (.invokestatic 131, 3) := dk_184 0 131 (dk_at dksX1_demandTeller_0 1 rfl rfl)
theorem dX1_demandTeller_4 : decode cX1_demandTeller 4 = .ok (.invokestatic 135, 3) := dk_184 0 135 (dk_at dksX1_demandTeller_0 4 rfl rfl)
theorem dX1_demandTeller_7 : decode cX1_demandTeller 7 = .ok (.return_, 1) := dk_177 (dk_at dksX1_demandTeller_0 7 rfl rfl)
abbrev cX1_isTeller : ByteArray := prog_1_method_6_code
def yX1_isTeller : MethodName := ⟨RX1, "isTeller", "(I)Z"⟩
def dkwX1_isTeller_0 : List UInt8 := [26, 133, 9, 10, 184, 0, 15, 172]
abbrev dktX1_isTeller_0 : List UInt8 := dkwX1_isTeller_0 ++ []
theorem dksX1_isTeller_0 : cX1_isTeller.data.toList.drop 0 = dktX1_isTeller_0 := by decide +kernel
theorem dX1_isTeller_0 : decode cX1_isTeller 0 = .ok (.iload_n 0, 1) := dk_26 (dk_at dksX1_isTeller_0 0 rfl rfl)
theorem dX1_isTeller_1 : decode cX1_isTeller 1 = .ok (.i2l, 1) := dk_133 (dk_at dksX1_isTeller_0 1 rfl rfl)
theorem dX1_isTeller_2 : decode cX1_isTeller 2 = .ok (.lconst 0, 1) := dk_9 (dk_at dksX1_isTeller_0 2 rfl rfl)
theorem dX1_isTeller_3 : decode cX1_isTeller 3 = .ok (.lconst 1, 1) := dk_10 (dk_at dksX1_isTeller_0 3 rfl rfl)
theorem dX1_isTeller_4 : decode cX1_isTeller 4 = .ok (.invokestatic 15, 3) := dk_184 0 15 (dk_at dksX1_isTeller_0 4 rfl rfl)
theorem dX1_isTeller_7 : decode cX1_isTeller 7 = .ok (.ireturn, 1) := dk_172 (dk_at dksX1_isTeller_0 7 rfl rfl)
abbrev cX1_demandIndex : ByteArray := prog_1_method_2_code
def yX1_demandIndex : MethodName := ⟨RX1, "demandIndex", "(Z)V"⟩
def dkwX1_demandIndex_0 : List UInt8 := [26, 154, 0, 11, 187, 0, 1, 89, 183, 0, 3, 191, 177]
abbrev dktX1_demandIndex_0 : List UInt8 := dkwX1_demandIndex_0 ++ []
theorem dksX1_demandIndex_0 : cX1_demandIndex.data.toList.drop 0 = dktX1_demandIndex_0 := by decide +kernel
theorem dX1_demandIndex_0 : decode cX1_demandIndex 0 = .ok (.iload_n 0, 1) := dk_26 (dk_at dksX1_demandIndex_0 0 rfl rfl)
theorem dX1_demandIndex_1 : decode cX1_demandIndex 1 = .ok (.ifCond .ne 11, 3) := dk_154 0 11 (dk_at dksX1_demandIndex_0 1 rfl rfl)
theorem dX1_demandIndex_4 : decode cX1_demandIndex 4 = .ok (.new 1, 3) := dk_187 0 1 (dk_at dksX1_demandIndex_0 4 rfl rfl)
theorem dX1_demandIndex_7 : decode cX1_demandIndex 7 = .ok (.dup, 1) := dk_89 (dk_at dksX1_demandIndex_0 7 rfl rfl)
theorem dX1_demandIndex_8 : decode cX1_demandIndex 8 = .ok (.invokespecial 3, 3) := dk_183 0 3 (dk_at dksX1_demandIndex_0 8 rfl rfl)
theorem dX1_demandIndex_11 : decode cX1_demandIndex 11 = .ok (.athrow, 1) := dk_191 (dk_at dksX1_demandIndex_0 11 rfl rfl)
theorem dX1_demandIndex_12 : decode cX1_demandIndex 12 = .ok (.return_, 1) := dk_177 (dk_at dksX1_demandIndex_0 12 rfl rfl)
abbrev cX1_forbidden : ByteArray := prog_1_method_22_code
def yX1_forbidden : MethodName := ⟨RX1, "forbidden", "(II)I"⟩
def dkwX1_forbidden_3 : List UInt8 := [192, 0, 180, 182, 0, 182, 167, 0, 4, 2, 172]
abbrev dktX1_forbidden_3 : List UInt8 := dkwX1_forbidden_3 ++ []
def dkwX1_forbidden_2 : List UInt8 := [162, 0, 33, 42, 180, 0, 39, 180, 0, 102, 180, 0, 150, 27, 50, 180, 0, 169, 28, 185, 0, 176, 2, 0]
abbrev dktX1_forbidden_2 : List UInt8 := dkwX1_forbidden_2 ++ dktX1_forbidden_3
def dkwX1_forbidden_1 : List UInt8 := [198, 0, 57, 28, 42, 180, 0, 39, 180, 0, 102, 180, 0, 150, 27, 50, 180, 0, 169, 185, 0, 173, 1, 0]
abbrev dktX1_forbidden_1 : List UInt8 := dkwX1_forbidden_1 ++ dktX1_forbidden_2
def dkwX1_forbidden_0 : List UInt8 := [27, 184, 0, 144, 28, 155, 0, 7, 4, 167, 0, 4, 3, 184, 0, 80, 42, 180, 0, 39, 180, 0, 102]
abbrev dktX1_forbidden_0 : List UInt8 := dkwX1_forbidden_0 ++ dktX1_forbidden_1
theorem dksX1_forbidden_0 : cX1_forbidden.data.toList.drop 0 = dktX1_forbidden_0 := by decide +kernel
theorem dksX1_forbidden_1 : cX1_forbidden.data.toList.drop 23 = dktX1_forbidden_1 := dk_seg dksX1_forbidden_0 23 rfl rfl
theorem dksX1_forbidden_2 : cX1_forbidden.data.toList.drop 47 = dktX1_forbidden_2 := dk_seg dksX1_forbidden_1 24 rfl rfl
theorem dksX1_forbidden_3 : cX1_forbidden.data.toList.drop 71 = dktX1_forbidden_3 := dk_seg dksX1_forbidden_2 24 rfl rfl
theorem dX1_forbidden_0 : decode cX1_forbidden 0 = .ok (.iload_n 1, 1) := dk_27 (dk_at dksX1_forbidden_0 0 rfl rfl)
theorem dX1_forbidden_1 : decode cX1_forbidden 1 = .ok (.invokestatic 144, 3) := dk_184 0 144 (dk_at dksX1_forbidden_0 1 rfl rfl)
theorem dX1_forbidden_4 : decode cX1_forbidden 4 = .ok (.iload_n 2, 1) := dk_28 (dk_at dksX1_forbidden_0 4 rfl rfl)
theorem dX1_forbidden_5 : decode cX1_forbidden 5 = .ok (.ifCond .lt 7, 3) := dk_155 0 7 (dk_at dksX1_forbidden_0 5 rfl rfl)
theorem dX1_forbidden_8 : decode cX1_forbidden 8 = .ok (.iconst 1, 1) := dk_4 (dk_at dksX1_forbidden_0 8 rfl rfl)
theorem dX1_forbidden_9 : decode cX1_forbidden 9 = .ok (.goto 4, 3) := dk_167 0 4 (dk_at dksX1_forbidden_0 9 rfl rfl)
theorem dX1_forbidden_12 : decode cX1_forbidden 12 = .ok (.iconst 0, 1) := dk_3 (dk_at dksX1_forbidden_0 12 rfl rfl)
theorem dX1_forbidden_13 : decode cX1_forbidden 13 = .ok (.invokestatic 80, 3) := dk_184 0 80 (dk_at dksX1_forbidden_0 13 rfl rfl)
theorem dX1_forbidden_16 : decode cX1_forbidden 16 = .ok (.aload_n 0, 1) := dk_42 (dk_at dksX1_forbidden_0 16 rfl rfl)
theorem dX1_forbidden_17 : decode cX1_forbidden 17 = .ok (.getfield 39, 3) := dk_180 0 39 (dk_at dksX1_forbidden_0 17 rfl rfl)
theorem dX1_forbidden_20 : decode cX1_forbidden 20 = .ok (.getfield 102, 3) := dk_180 0 102 (dk_at dksX1_forbidden_0 20 rfl rfl)
theorem dX1_forbidden_23 : decode cX1_forbidden 23 = .ok (.ifnull 57, 3) := dk_198 0 57 (dk_at dksX1_forbidden_1 0 rfl rfl)
theorem dX1_forbidden_26 : decode cX1_forbidden 26 = .ok (.iload_n 2, 1) := dk_28 (dk_at dksX1_forbidden_1 3 rfl rfl)
theorem dX1_forbidden_27 : decode cX1_forbidden 27 = .ok (.aload_n 0, 1) := dk_42 (dk_at dksX1_forbidden_1 4 rfl rfl)
theorem dX1_forbidden_28 : decode cX1_forbidden 28 = .ok (.getfield 39, 3) := dk_180 0 39 (dk_at dksX1_forbidden_1 5 rfl rfl)
theorem dX1_forbidden_31 : decode cX1_forbidden 31 = .ok (.getfield 102, 3) := dk_180 0 102 (dk_at dksX1_forbidden_1 8 rfl rfl)
theorem dX1_forbidden_34 : decode cX1_forbidden 34 = .ok (.getfield 150, 3) := dk_180 0 150 (dk_at dksX1_forbidden_1 11 rfl rfl)
theorem dX1_forbidden_37 : decode cX1_forbidden 37 = .ok (.iload_n 1, 1) := dk_27 (dk_at dksX1_forbidden_1 14 rfl rfl)
theorem dX1_forbidden_38 : decode cX1_forbidden 38 = .ok (.aaload, 1) := dk_50 (dk_at dksX1_forbidden_1 15 rfl rfl)
theorem dX1_forbidden_39 : decode cX1_forbidden 39 = .ok (.getfield 169, 3) := dk_180 0 169 (dk_at dksX1_forbidden_1 16 rfl rfl)
theorem dX1_forbidden_42 : decode cX1_forbidden 42 = .ok (.invokeinterface 173 1, 5) := by decide +kernel
theorem dX1_forbidden_47 : decode cX1_forbidden 47 = .ok (.if_icmp .ge 33, 3) := dk_162 0 33 (dk_at dksX1_forbidden_2 0 rfl rfl)
theorem dX1_forbidden_50 : decode cX1_forbidden 50 = .ok (.aload_n 0, 1) := dk_42 (dk_at dksX1_forbidden_2 3 rfl rfl)
theorem dX1_forbidden_51 : decode cX1_forbidden 51 = .ok (.getfield 39, 3) := dk_180 0 39 (dk_at dksX1_forbidden_2 4 rfl rfl)
theorem dX1_forbidden_54 : decode cX1_forbidden 54 = .ok (.getfield 102, 3) := dk_180 0 102 (dk_at dksX1_forbidden_2 7 rfl rfl)
theorem dX1_forbidden_57 : decode cX1_forbidden 57 = .ok (.getfield 150, 3) := dk_180 0 150 (dk_at dksX1_forbidden_2 10 rfl rfl)
theorem dX1_forbidden_60 : decode cX1_forbidden 60 = .ok (.iload_n 1, 1) := dk_27 (dk_at dksX1_forbidden_2 13 rfl rfl)
theorem dX1_forbidden_61 : decode cX1_forbidden 61 = .ok (.aaload, 1) := dk_50 (dk_at dksX1_forbidden_2 14 rfl rfl)
theorem dX1_forbidden_62 : decode cX1_forbidden 62 = .ok (.getfield 169, 3) := dk_180 0 169 (dk_at dksX1_forbidden_2 15 rfl rfl)
theorem dX1_forbidden_65 : decode cX1_forbidden 65 = .ok (.iload_n 2, 1) := dk_28 (dk_at dksX1_forbidden_2 18 rfl rfl)
theorem dX1_forbidden_66 : decode cX1_forbidden 66 = .ok (.invokeinterface 176 2, 5) := by decide +kernel
theorem dX1_forbidden_71 : decode cX1_forbidden 71 = .ok (.checkcast 180, 3) := dk_192 0 180 (dk_at dksX1_forbidden_3 0 rfl rfl)
theorem dX1_forbidden_74 : decode cX1_forbidden 74 = .ok (.invokevirtual 182, 3) := dk_182 0 182 (dk_at dksX1_forbidden_3 3 rfl rfl)
theorem dX1_forbidden_77 : decode cX1_forbidden 77 = .ok (.goto 4, 3) := dk_167 0 4 (dk_at dksX1_forbidden_3 6 rfl rfl)
theorem dX1_forbidden_80 : decode cX1_forbidden 80 = .ok (.iconst (-1), 1) := dk_2 (dk_at dksX1_forbidden_3 9 rfl rfl)
theorem dX1_forbidden_81 : decode cX1_forbidden 81 = .ok (.ireturn, 1) := dk_172 (dk_at dksX1_forbidden_3 10 rfl rfl)
abbrev cX1_listener : ByteArray := prog_1_method_23_code
def yX1_listener : MethodName := ⟨RX1, "listener", "(II)I"⟩
def dkwX1_listener_3 : List UInt8 := [180, 0, 202, 153, 0, 7, 3, 167, 0, 11, 4, 167, 0, 7, 45, 180, 0, 205, 172]
abbrev dktX1_listener_3 : List UInt8 := dkwX1_listener_3 ++ []
def dkwX1_listener_2 : List UInt8 := [180, 0, 194, 167, 0, 39, 28, 4, 160, 0, 10, 45, 180, 0, 199, 167, 0, 27, 28, 5, 160, 0, 18, 45]
abbrev dktX1_listener_2 : List UInt8 := dkwX1_listener_2 ++ dktX1_listener_3
def dkwX1_listener_1 : List UInt8 := [199, 0, 5, 3, 172, 42, 180, 0, 39, 180, 0, 102, 180, 0, 190, 27, 50, 78, 28, 154, 0, 10, 45]
abbrev dktX1_listener_1 : List UInt8 := dkwX1_listener_1 ++ dktX1_listener_2
def dkwX1_listener_0 : List UInt8 := [27, 184, 0, 185, 28, 133, 9, 20, 0, 188, 184, 0, 15, 184, 0, 80, 42, 180, 0, 39, 180, 0, 102]
abbrev dktX1_listener_0 : List UInt8 := dkwX1_listener_0 ++ dktX1_listener_1
theorem dksX1_listener_0 : cX1_listener.data.toList.drop 0 = dktX1_listener_0 := by decide +kernel
theorem dksX1_listener_1 : cX1_listener.data.toList.drop 23 = dktX1_listener_1 := dk_seg dksX1_listener_0 23 rfl rfl
theorem dksX1_listener_2 : cX1_listener.data.toList.drop 46 = dktX1_listener_2 := dk_seg dksX1_listener_1 23 rfl rfl
theorem dksX1_listener_3 : cX1_listener.data.toList.drop 70 = dktX1_listener_3 := dk_seg dksX1_listener_2 24 rfl rfl
theorem dX1_listener_0 : decode cX1_listener 0 = .ok (.iload_n 1, 1) := dk_27 (dk_at dksX1_listener_0 0 rfl rfl)
theorem dX1_listener_1 : decode cX1_listener 1 = .ok (.invokestatic 185, 3) := dk_184 0 185 (dk_at dksX1_listener_0 1 rfl rfl)
theorem dX1_listener_4 : decode cX1_listener 4 = .ok (.iload_n 2, 1) := dk_28 (dk_at dksX1_listener_0 4 rfl rfl)
theorem dX1_listener_5 : decode cX1_listener 5 = .ok (.i2l, 1) := dk_133 (dk_at dksX1_listener_0 5 rfl rfl)
theorem dX1_listener_6 : decode cX1_listener 6 = .ok (.lconst 0, 1) := dk_9 (dk_at dksX1_listener_0 6 rfl rfl)
theorem dX1_listener_7 : decode cX1_listener 7 = .ok (.ldc2_w 188, 3) := dk_20 0 188 (dk_at dksX1_listener_0 7 rfl rfl)
theorem dX1_listener_10 : decode cX1_listener 10 = .ok (.invokestatic 15, 3) := dk_184 0 15 (dk_at dksX1_listener_0 10 rfl rfl)
theorem dX1_listener_13 : decode cX1_listener 13 = .ok (.invokestatic 80, 3) := dk_184 0 80 (dk_at dksX1_listener_0 13 rfl rfl)
theorem dX1_listener_16 : decode cX1_listener 16 = .ok (.aload_n 0, 1) := dk_42 (dk_at dksX1_listener_0 16 rfl rfl)
theorem dX1_listener_17 : decode cX1_listener 17 = .ok (.getfield 39, 3) := dk_180 0 39 (dk_at dksX1_listener_0 17 rfl rfl)
theorem dX1_listener_20 : decode cX1_listener 20 = .ok (.getfield 102, 3) := dk_180 0 102 (dk_at dksX1_listener_0 20 rfl rfl)
theorem dX1_listener_23 : decode cX1_listener 23 = .ok (.ifnonnull 5, 3) := dk_199 0 5 (dk_at dksX1_listener_1 0 rfl rfl)
theorem dX1_listener_26 : decode cX1_listener 26 = .ok (.iconst 0, 1) := dk_3 (dk_at dksX1_listener_1 3 rfl rfl)
theorem dX1_listener_27 : decode cX1_listener 27 = .ok (.ireturn, 1) := dk_172 (dk_at dksX1_listener_1 4 rfl rfl)
theorem dX1_listener_28 : decode cX1_listener 28 = .ok (.aload_n 0, 1) := dk_42 (dk_at dksX1_listener_1 5 rfl rfl)
theorem dX1_listener_29 : decode cX1_listener 29 = .ok (.getfield 39, 3) := dk_180 0 39 (dk_at dksX1_listener_1 6 rfl rfl)
theorem dX1_listener_32 : decode cX1_listener 32 = .ok (.getfield 102, 3) := dk_180 0 102 (dk_at dksX1_listener_1 9 rfl rfl)
theorem dX1_listener_35 : decode cX1_listener 35 = .ok (.getfield 190, 3) := dk_180 0 190 (dk_at dksX1_listener_1 12 rfl rfl)
theorem dX1_listener_38 : decode cX1_listener 38 = .ok (.iload_n 1, 1) := dk_27 (dk_at dksX1_listener_1 15 rfl rfl)
theorem dX1_listener_39 : decode cX1_listener 39 = .ok (.aaload, 1) := dk_50 (dk_at dksX1_listener_1 16 rfl rfl)
theorem dX1_listener_40 : decode cX1_listener 40 = .ok (.astore_n 3, 1) := dk_78 (dk_at dksX1_listener_1 17 rfl rfl)
theorem dX1_listener_41 : decode cX1_listener 41 = .ok (.iload_n 2, 1) := dk_28 (dk_at dksX1_listener_1 18 rfl rfl)
theorem dX1_listener_42 : decode cX1_listener 42 = .ok (.ifCond .ne 10, 3) := dk_154 0 10 (dk_at dksX1_listener_1 19 rfl rfl)
theorem dX1_listener_45 : decode cX1_listener 45 = .ok (.aload_n 3, 1) := dk_45 (dk_at dksX1_listener_1 22 rfl rfl)
theorem dX1_listener_46 : decode cX1_listener 46 = .ok (.getfield 194, 3) := dk_180 0 194 (dk_at dksX1_listener_2 0 rfl rfl)
theorem dX1_listener_49 : decode cX1_listener 49 = .ok (.goto 39, 3) := dk_167 0 39 (dk_at dksX1_listener_2 3 rfl rfl)
theorem dX1_listener_52 : decode cX1_listener 52 = .ok (.iload_n 2, 1) := dk_28 (dk_at dksX1_listener_2 6 rfl rfl)
theorem dX1_listener_53 : decode cX1_listener 53 = .ok (.iconst 1, 1) := dk_4 (dk_at dksX1_listener_2 7 rfl rfl)
theorem dX1_listener_54 : decode cX1_listener 54 = .ok (.if_icmp .ne 10, 3) := dk_160 0 10 (dk_at dksX1_listener_2 8 rfl rfl)
theorem dX1_listener_57 : decode cX1_listener 57 = .ok (.aload_n 3, 1) := dk_45 (dk_at dksX1_listener_2 11 rfl rfl)
theorem dX1_listener_58 : decode cX1_listener 58 = .ok (.getfield 199, 3) := dk_180 0 199 (dk_at dksX1_listener_2 12 rfl rfl)
theorem dX1_listener_61 : decode cX1_listener 61 = .ok (.goto 27, 3) := dk_167 0 27 (dk_at dksX1_listener_2 15 rfl rfl)
theorem dX1_listener_64 : decode cX1_listener 64 = .ok (.iload_n 2, 1) := dk_28 (dk_at dksX1_listener_2 18 rfl rfl)
theorem dX1_listener_65 : decode cX1_listener 65 = .ok (.iconst 2, 1) := dk_5 (dk_at dksX1_listener_2 19 rfl rfl)
theorem dX1_listener_66 : decode cX1_listener 66 = .ok (.if_icmp .ne 18, 3) := dk_160 0 18 (dk_at dksX1_listener_2 20 rfl rfl)
theorem dX1_listener_69 : decode cX1_listener 69 = .ok (.aload_n 3, 1) := dk_45 (dk_at dksX1_listener_2 23 rfl rfl)
theorem dX1_listener_70 : decode cX1_listener 70 = .ok (.getfield 202, 3) := dk_180 0 202 (dk_at dksX1_listener_3 0 rfl rfl)
theorem dX1_listener_73 : decode cX1_listener 73 = .ok (.ifCond .eq 7, 3) := dk_153 0 7 (dk_at dksX1_listener_3 3 rfl rfl)
theorem dX1_listener_76 : decode cX1_listener 76 = .ok (.iconst 0, 1) := dk_3 (dk_at dksX1_listener_3 6 rfl rfl)
theorem dX1_listener_77 : decode cX1_listener 77 = .ok (.goto 11, 3) := dk_167 0 11 (dk_at dksX1_listener_3 7 rfl rfl)
theorem dX1_listener_80 : decode cX1_listener 80 = .ok (.iconst 1, 1) := dk_4 (dk_at dksX1_listener_3 10 rfl rfl)
theorem dX1_listener_81 : decode cX1_listener 81 = .ok (.goto 7, 3) := dk_167 0 7 (dk_at dksX1_listener_3 11 rfl rfl)
theorem dX1_listener_84 : decode cX1_listener 84 = .ok (.aload_n 3, 1) := dk_45 (dk_at dksX1_listener_3 14 rfl rfl)
theorem dX1_listener_85 : decode cX1_listener 85 = .ok (.getfield 205, 3) := dk_180 0 205 (dk_at dksX1_listener_3 15 rfl rfl)
theorem dX1_listener_88 : decode cX1_listener 88 = .ok (.ireturn, 1) := dk_172 (dk_at dksX1_listener_3 18 rfl rfl)
abbrev cX1_demandListener : ByteArray := prog_1_method_19_code
def yX1_demandListener : MethodName := ⟨RX1, "demandListener", "(I)V"⟩
def dkwX1_demandListener_0 : List UInt8 := [26, 184, 0, 138, 184, 0, 135, 177]
abbrev dktX1_demandListener_0 : List UInt8 := dkwX1_demandListener_0 ++ []
theorem dksX1_demandListener_0 : cX1_demandListener.data.toList.drop 0 = dktX1_demandListener_0 := by decide +kernel
theorem dX1_demandListener_0 : decode cX1_demandListener 0 = .ok (.iload_n 0, 1) := dk_26 (dk_at dksX1_demandListener_0 0 rfl rfl)
theorem dX1_demandListener_1 : decode cX1_demandListener 1 = .ok (.invokestatic 138, 3) := dk_184 0 138 (dk_at dksX1_demandListener_0 1 rfl rfl)
theorem dX1_demandListener_4 : decode cX1_demandListener 4 = .ok (.invokestatic 135, 3) := dk_184 0 135 (dk_at dksX1_demandListener_0 4 rfl rfl)
theorem dX1_demandListener_7 : decode cX1_demandListener 7 = .ok (.return_, 1) := dk_177 (dk_at dksX1_demandListener_0 7 rfl rfl)
abbrev cX1_isListener : ByteArray := prog_1_method_7_code
def yX1_isListener : MethodName := ⟨RX1, "isListener", "(I)Z"⟩
def dkwX1_isListener_0 : List UInt8 := [26, 133, 9, 20, 0, 21, 184, 0, 15, 172]
abbrev dktX1_isListener_0 : List UInt8 := dkwX1_isListener_0 ++ []
theorem dksX1_isListener_0 : cX1_isListener.data.toList.drop 0 = dktX1_isListener_0 := by decide +kernel
theorem dX1_isListener_0 : decode cX1_isListener 0 = .ok (.iload_n 0, 1) := dk_26 (dk_at dksX1_isListener_0 0 rfl rfl)
theorem dX1_isListener_1 : decode cX1_isListener 1 = .ok (.i2l, 1) := dk_133 (dk_at dksX1_isListener_0 1 rfl rfl)
theorem dX1_isListener_2 : decode cX1_isListener 2 = .ok (.lconst 0, 1) := dk_9 (dk_at dksX1_isListener_0 2 rfl rfl)
theorem dX1_isListener_3 : decode cX1_isListener 3 = .ok (.ldc2_w 21, 3) := dk_20 0 21 (dk_at dksX1_isListener_0 3 rfl rfl)
theorem dX1_isListener_6 : decode cX1_isListener 6 = .ok (.invokestatic 15, 3) := dk_184 0 15 (dk_at dksX1_isListener_0 6 rfl rfl)
theorem dX1_isListener_9 : decode cX1_isListener 9 = .ok (.ireturn, 1) := dk_172 (dk_at dksX1_isListener_0 9 rfl rfl)
abbrev cX1_told : ByteArray := prog_1_method_24_code
def yX1_told : MethodName := ⟨RX1, "told", "(II)I"⟩
def dkwX1_told_3 : List UInt8 := [162, 0, 11, 45, 28, 182, 0, 218, 167, 0, 4, 2, 172]
abbrev dktX1_told_3 : List UInt8 := dkwX1_told_3 ++ []
def dkwX1_told_2 : List UInt8 := [180, 0, 39, 180, 0, 102, 180, 0, 208, 27, 182, 0, 215, 192, 0, 54, 78, 28, 45, 182, 0, 84]
abbrev dktX1_told_2 : List UInt8 := dkwX1_told_2 ++ dktX1_told_3
def dkwX1_told_1 : List UInt8 := [198, 0, 20, 27, 42, 180, 0, 39, 180, 0, 102, 180, 0, 208, 182, 0, 212, 161, 0, 5, 2, 172, 42]
abbrev dktX1_told_1 : List UInt8 := dkwX1_told_1 ++ dktX1_told_2
def dkwX1_told_0 : List UInt8 := [27, 155, 0, 11, 28, 155, 0, 7, 4, 167, 0, 4, 3, 184, 0, 80, 42, 180, 0, 39, 180, 0, 102]
abbrev dktX1_told_0 : List UInt8 := dkwX1_told_0 ++ dktX1_told_1
theorem dksX1_told_0 : cX1_told.data.toList.drop 0 = dktX1_told_0 := by decide +kernel
theorem dksX1_told_1 : cX1_told.data.toList.drop 23 = dktX1_told_1 := dk_seg dksX1_told_0 23 rfl rfl
theorem dksX1_told_2 : cX1_told.data.toList.drop 46 = dktX1_told_2 := dk_seg dksX1_told_1 23 rfl rfl
theorem dksX1_told_3 : cX1_told.data.toList.drop 68 = dktX1_told_3 := dk_seg dksX1_told_2 22 rfl rfl
theorem dX1_told_0 : decode cX1_told 0 = .ok (.iload_n 1, 1) := dk_27 (dk_at dksX1_told_0 0 rfl rfl)
theorem dX1_told_1 : decode cX1_told 1 = .ok (.ifCond .lt 11, 3) := dk_155 0 11 (dk_at dksX1_told_0 1 rfl rfl)
theorem dX1_told_4 : decode cX1_told 4 = .ok (.iload_n 2, 1) := dk_28 (dk_at dksX1_told_0 4 rfl rfl)
theorem dX1_told_5 : decode cX1_told 5 = .ok (.ifCond .lt 7, 3) := dk_155 0 7 (dk_at dksX1_told_0 5 rfl rfl)
theorem dX1_told_8 : decode cX1_told 8 = .ok (.iconst 1, 1) := dk_4 (dk_at dksX1_told_0 8 rfl rfl)
theorem dX1_told_9 : decode cX1_told 9 = .ok (.goto 4, 3) := dk_167 0 4 (dk_at dksX1_told_0 9 rfl rfl)
theorem dX1_told_12 : decode cX1_told 12 = .ok (.iconst 0, 1) := dk_3 (dk_at dksX1_told_0 12 rfl rfl)
theorem dX1_told_13 : decode cX1_told 13 = .ok (.invokestatic 80, 3) := dk_184 0 80 (dk_at dksX1_told_0 13 rfl rfl)
theorem dX1_told_16 : decode cX1_told 16 = .ok (.aload_n 0, 1) := dk_42 (dk_at dksX1_told_0 16 rfl rfl)
theorem dX1_told_17 : decode cX1_told 17 = .ok (.getfield 39, 3) := dk_180 0 39 (dk_at dksX1_told_0 17 rfl rfl)
theorem dX1_told_20 : decode cX1_told 20 = .ok (.getfield 102, 3) := dk_180 0 102 (dk_at dksX1_told_0 20 rfl rfl)
theorem dX1_told_23 : decode cX1_told 23 = .ok (.ifnull 20, 3) := dk_198 0 20 (dk_at dksX1_told_1 0 rfl rfl)
theorem dX1_told_26 : decode cX1_told 26 = .ok (.iload_n 1, 1) := dk_27 (dk_at dksX1_told_1 3 rfl rfl)
theorem dX1_told_27 : decode cX1_told 27 = .ok (.aload_n 0, 1) := dk_42 (dk_at dksX1_told_1 4 rfl rfl)
theorem dX1_told_28 : decode cX1_told 28 = .ok (.getfield 39, 3) := dk_180 0 39 (dk_at dksX1_told_1 5 rfl rfl)
theorem dX1_told_31 : decode cX1_told 31 = .ok (.getfield 102, 3) := dk_180 0 102 (dk_at dksX1_told_1 8 rfl rfl)
theorem dX1_told_34 : decode cX1_told 34 = .ok (.getfield 208, 3) := dk_180 0 208 (dk_at dksX1_told_1 11 rfl rfl)
theorem dX1_told_37 : decode cX1_told 37 = .ok (.invokevirtual 212, 3) := dk_182 0 212 (dk_at dksX1_told_1 14 rfl rfl)
theorem dX1_told_40 : decode cX1_told 40 = .ok (.if_icmp .lt 5, 3) := dk_161 0 5 (dk_at dksX1_told_1 17 rfl rfl)
theorem dX1_told_43 : decode cX1_told 43 = .ok (.iconst (-1), 1) := dk_2 (dk_at dksX1_told_1 20 rfl rfl)
theorem dX1_told_44 : decode cX1_told 44 = .ok (.ireturn, 1) := dk_172 (dk_at dksX1_told_1 21 rfl rfl)
theorem dX1_told_45 : decode cX1_told 45 = .ok (.aload_n 0, 1) := dk_42 (dk_at dksX1_told_1 22 rfl rfl)
theorem dX1_told_46 : decode cX1_told 46 = .ok (.getfield 39, 3) := dk_180 0 39 (dk_at dksX1_told_2 0 rfl rfl)
theorem dX1_told_49 : decode cX1_told 49 = .ok (.getfield 102, 3) := dk_180 0 102 (dk_at dksX1_told_2 3 rfl rfl)
theorem dX1_told_52 : decode cX1_told 52 = .ok (.getfield 208, 3) := dk_180 0 208 (dk_at dksX1_told_2 6 rfl rfl)
theorem dX1_told_55 : decode cX1_told 55 = .ok (.iload_n 1, 1) := dk_27 (dk_at dksX1_told_2 9 rfl rfl)
theorem dX1_told_56 : decode cX1_told 56 = .ok (.invokevirtual 215, 3) := dk_182 0 215 (dk_at dksX1_told_2 10 rfl rfl)
theorem dX1_told_59 : decode cX1_told 59 = .ok (.checkcast 54, 3) := dk_192 0 54 (dk_at dksX1_told_2 13 rfl rfl)
theorem dX1_told_62 : decode cX1_told 62 = .ok (.astore_n 3, 1) := dk_78 (dk_at dksX1_told_2 16 rfl rfl)
theorem dX1_told_63 : decode cX1_told 63 = .ok (.iload_n 2, 1) := dk_28 (dk_at dksX1_told_2 17 rfl rfl)
theorem dX1_told_64 : decode cX1_told 64 = .ok (.aload_n 3, 1) := dk_45 (dk_at dksX1_told_2 18 rfl rfl)
theorem dX1_told_65 : decode cX1_told 65 = .ok (.invokevirtual 84, 3) := dk_182 0 84 (dk_at dksX1_told_2 19 rfl rfl)
theorem dX1_told_68 : decode cX1_told 68 = .ok (.if_icmp .ge 11, 3) := dk_162 0 11 (dk_at dksX1_told_3 0 rfl rfl)
theorem dX1_told_71 : decode cX1_told 71 = .ok (.aload_n 3, 1) := dk_45 (dk_at dksX1_told_3 3 rfl rfl)
theorem dX1_told_72 : decode cX1_told 72 = .ok (.iload_n 2, 1) := dk_28 (dk_at dksX1_told_3 4 rfl rfl)
theorem dX1_told_73 : decode cX1_told 73 = .ok (.invokevirtual 218, 3) := dk_182 0 218 (dk_at dksX1_told_3 5 rfl rfl)
theorem dX1_told_76 : decode cX1_told 76 = .ok (.goto 4, 3) := dk_167 0 4 (dk_at dksX1_told_3 8 rfl rfl)
theorem dX1_told_79 : decode cX1_told 79 = .ok (.iconst (-1), 1) := dk_2 (dk_at dksX1_told_3 11 rfl rfl)
theorem dX1_told_80 : decode cX1_told 80 = .ok (.ireturn, 1) := dk_172 (dk_at dksX1_told_3 12 rfl rfl)
abbrev cX1_setting : ByteArray := prog_1_method_25_code
def yX1_setting : MethodName := ⟨RX1, "setting", "(I)I"⟩
def dkwX1_setting_0 : List UInt8 := [27, 133, 9, 20, 0, 188, 184, 0, 15, 184, 0, 80, 42, 180, 0, 39, 180, 0, 222, 27, 46, 172]
abbrev dktX1_setting_0 : List UInt8 := dkwX1_setting_0 ++ []
theorem dksX1_setting_0 : cX1_setting.data.toList.drop 0 = dktX1_setting_0 := by decide +kernel
theorem dX1_setting_0 : decode cX1_setting 0 = .ok (.iload_n 1, 1) := dk_27 (dk_at dksX1_setting_0 0 rfl rfl)
theorem dX1_setting_1 : decode cX1_setting 1 = .ok (.i2l, 1) := dk_133 (dk_at dksX1_setting_0 1 rfl rfl)
theorem dX1_setting_2 : decode cX1_setting 2 = .ok (.lconst 0, 1) := dk_9 (dk_at dksX1_setting_0 2 rfl rfl)
theorem dX1_setting_3 : decode cX1_setting 3 = .ok (.ldc2_w 188, 3) := dk_20 0 188 (dk_at dksX1_setting_0 3 rfl rfl)
theorem dX1_setting_6 : decode cX1_setting 6 = .ok (.invokestatic 15, 3) := dk_184 0 15 (dk_at dksX1_setting_0 6 rfl rfl)
theorem dX1_setting_9 : decode cX1_setting 9 = .ok (.invokestatic 80, 3) := dk_184 0 80 (dk_at dksX1_setting_0 9 rfl rfl)
theorem dX1_setting_12 : decode cX1_setting 12 = .ok (.aload_n 0, 1) := dk_42 (dk_at dksX1_setting_0 12 rfl rfl)
theorem dX1_setting_13 : decode cX1_setting 13 = .ok (.getfield 39, 3) := dk_180 0 39 (dk_at dksX1_setting_0 13 rfl rfl)
theorem dX1_setting_16 : decode cX1_setting 16 = .ok (.getfield 222, 3) := dk_180 0 222 (dk_at dksX1_setting_0 16 rfl rfl)
theorem dX1_setting_19 : decode cX1_setting 19 = .ok (.iload_n 1, 1) := dk_27 (dk_at dksX1_setting_0 19 rfl rfl)
theorem dX1_setting_20 : decode cX1_setting 20 = .ok (.iaload, 1) := dk_46 (dk_at dksX1_setting_0 20 rfl rfl)
theorem dX1_setting_21 : decode cX1_setting 21 = .ok (.ireturn, 1) := dk_172 (dk_at dksX1_setting_0 21 rfl rfl)
abbrev cX1_tell : ByteArray := prog_1_method_27_code
def yX1_tell : MethodName := ⟨RX1, "tell", "()I"⟩
def dkwX1_tell_1 : List UInt8 := [180, 0, 57, 182, 0, 238, 182, 0, 242, 172]
abbrev dktX1_tell_1 : List UInt8 := dkwX1_tell_1 ++ []
def dkwX1_tell_0 : List UInt8 := [42, 180, 0, 39, 42, 180, 0, 57, 182, 0, 234, 184, 0, 87, 42, 182, 0, 226, 180, 0, 102, 42]
abbrev dktX1_tell_0 : List UInt8 := dkwX1_tell_0 ++ dktX1_tell_1
theorem dksX1_tell_0 : cX1_tell.data.toList.drop 0 = dktX1_tell_0 := by decide +kernel
theorem dksX1_tell_1 : cX1_tell.data.toList.drop 22 = dktX1_tell_1 := dk_seg dksX1_tell_0 22 rfl rfl
theorem dX1_tell_0 : decode cX1_tell 0 = .ok (.aload_n 0, 1) := dk_42 (dk_at dksX1_tell_0 0 rfl rfl)
theorem dX1_tell_1 : decode cX1_tell 1 = .ok (.getfield 39, 3) := dk_180 0 39 (dk_at dksX1_tell_0 1 rfl rfl)
theorem dX1_tell_4 : decode cX1_tell 4 = .ok (.aload_n 0, 1) := dk_42 (dk_at dksX1_tell_0 4 rfl rfl)
theorem dX1_tell_5 : decode cX1_tell 5 = .ok (.getfield 57, 3) := dk_180 0 57 (dk_at dksX1_tell_0 5 rfl rfl)
theorem dX1_tell_8 : decode cX1_tell 8 = .ok (.invokevirtual 234, 3) := dk_182 0 234 (dk_at dksX1_tell_0 8 rfl rfl)
theorem dX1_tell_11 : decode cX1_tell 11 = .ok (.invokestatic 87, 3) := dk_184 0 87 (dk_at dksX1_tell_0 11 rfl rfl)
theorem dX1_tell_14 : decode cX1_tell 14 = .ok (.aload_n 0, 1) := dk_42 (dk_at dksX1_tell_0 14 rfl rfl)
theorem dX1_tell_15 : decode cX1_tell 15 = .ok (.invokevirtual 226, 3) := dk_182 0 226 (dk_at dksX1_tell_0 15 rfl rfl)
theorem dX1_tell_18 : decode cX1_tell 18 = .ok (.getfield 102, 3) := dk_180 0 102 (dk_at dksX1_tell_0 18 rfl rfl)
theorem dX1_tell_21 : decode cX1_tell 21 = .ok (.aload_n 0, 1) := dk_42 (dk_at dksX1_tell_0 21 rfl rfl)
theorem dX1_tell_22 : decode cX1_tell 22 = .ok (.getfield 57, 3) := dk_180 0 57 (dk_at dksX1_tell_1 0 rfl rfl)
theorem dX1_tell_25 : decode cX1_tell 25 = .ok (.invokevirtual 238, 3) := dk_182 0 238 (dk_at dksX1_tell_1 3 rfl rfl)
theorem dX1_tell_28 : decode cX1_tell 28 = .ok (.invokevirtual 242, 3) := dk_182 0 242 (dk_at dksX1_tell_1 6 rfl rfl)
theorem dX1_tell_31 : decode cX1_tell 31 = .ok (.ireturn, 1) := dk_172 (dk_at dksX1_tell_1 9 rfl rfl)
abbrev cX1_forbid : ByteArray := prog_1_method_28_code
def yX1_forbid : MethodName := ⟨RX1, "forbid", "(I)I"⟩
def dkwX1_forbid_1 : List UInt8 := [182, 0, 252, 172]
abbrev dktX1_forbid_1 : List UInt8 := dkwX1_forbid_1 ++ []
def dkwX1_forbid_0 : List UInt8 := [27, 184, 0, 246, 42, 180, 0, 39, 27, 182, 0, 249, 184, 0, 87, 42, 182, 0, 226, 180, 0, 102, 27]
abbrev dktX1_forbid_0 : List UInt8 := dkwX1_forbid_0 ++ dktX1_forbid_1
theorem dksX1_forbid_0 : cX1_forbid.data.toList.drop 0 = dktX1_forbid_0 := by decide +kernel
theorem dksX1_forbid_1 : cX1_forbid.data.toList.drop 23 = dktX1_forbid_1 := dk_seg dksX1_forbid_0 23 rfl rfl
theorem dX1_forbid_0 : decode cX1_forbid 0 = .ok (.iload_n 1, 1) := dk_27 (dk_at dksX1_forbid_0 0 rfl rfl)
theorem dX1_forbid_1 : decode cX1_forbid 1 = .ok (.invokestatic 246, 3) := dk_184 0 246 (dk_at dksX1_forbid_0 1 rfl rfl)
theorem dX1_forbid_4 : decode cX1_forbid 4 = .ok (.aload_n 0, 1) := dk_42 (dk_at dksX1_forbid_0 4 rfl rfl)
theorem dX1_forbid_5 : decode cX1_forbid 5 = .ok (.getfield 39, 3) := dk_180 0 39 (dk_at dksX1_forbid_0 5 rfl rfl)
theorem dX1_forbid_8 : decode cX1_forbid 8 = .ok (.iload_n 1, 1) := dk_27 (dk_at dksX1_forbid_0 8 rfl rfl)
theorem dX1_forbid_9 : decode cX1_forbid 9 = .ok (.invokevirtual 249, 3) := dk_182 0 249 (dk_at dksX1_forbid_0 9 rfl rfl)
theorem dX1_forbid_12 : decode cX1_forbid 12 = .ok (.invokestatic 87, 3) := dk_184 0 87 (dk_at dksX1_forbid_0 12 rfl rfl)
theorem dX1_forbid_15 : decode cX1_forbid 15 = .ok (.aload_n 0, 1) := dk_42 (dk_at dksX1_forbid_0 15 rfl rfl)
theorem dX1_forbid_16 : decode cX1_forbid 16 = .ok (.invokevirtual 226, 3) := dk_182 0 226 (dk_at dksX1_forbid_0 16 rfl rfl)
theorem dX1_forbid_19 : decode cX1_forbid 19 = .ok (.getfield 102, 3) := dk_180 0 102 (dk_at dksX1_forbid_0 19 rfl rfl)
theorem dX1_forbid_22 : decode cX1_forbid 22 = .ok (.iload_n 1, 1) := dk_27 (dk_at dksX1_forbid_0 22 rfl rfl)
theorem dX1_forbid_23 : decode cX1_forbid 23 = .ok (.invokevirtual 252, 3) := dk_182 0 252 (dk_at dksX1_forbid_1 0 rfl rfl)
theorem dX1_forbid_26 : decode cX1_forbid 26 = .ok (.ireturn, 1) := dk_172 (dk_at dksX1_forbid_1 3 rfl rfl)
abbrev cX1_demandWord : ByteArray := prog_1_method_20_code
def yX1_demandWord : MethodName := ⟨RX1, "demandWord", "(I)V"⟩
def dkwX1_demandWord_0 : List UInt8 := [26, 184, 0, 141, 184, 0, 135, 177]
abbrev dktX1_demandWord_0 : List UInt8 := dkwX1_demandWord_0 ++ []
theorem dksX1_demandWord_0 : cX1_demandWord.data.toList.drop 0 = dktX1_demandWord_0 := by decide +kernel
theorem dX1_demandWord_0 : decode cX1_demandWord 0 = .ok (.iload_n 0, 1) := dk_26 (dk_at dksX1_demandWord_0 0 rfl rfl)
theorem dX1_demandWord_1 : decode cX1_demandWord 1 = .ok (.invokestatic 141, 3) := dk_184 0 141 (dk_at dksX1_demandWord_0 1 rfl rfl)
theorem dX1_demandWord_4 : decode cX1_demandWord 4 = .ok (.invokestatic 135, 3) := dk_184 0 135 (dk_at dksX1_demandWord_0 4 rfl rfl)
theorem dX1_demandWord_7 : decode cX1_demandWord 7 = .ok (.return_, 1) := dk_177 (dk_at dksX1_demandWord_0 7 rfl rfl)
abbrev cX1_done : ByteArray := prog_1_method_29_code
def yX1_done : MethodName := ⟨RX1, "done", "()I"⟩
def dkwX1_done_0 : List UInt8 := [42, 180, 0, 39, 182, 0, 255, 184, 0, 87, 42, 182, 0, 226, 180, 0, 102, 182, 1, 3, 172]
abbrev dktX1_done_0 : List UInt8 := dkwX1_done_0 ++ []
theorem dksX1_done_0 : cX1_done.data.toList.drop 0 = dktX1_done_0 := by decide +kernel
theorem dX1_done_0 : decode cX1_done 0 = .ok (.aload_n 0, 1) := dk_42 (dk_at dksX1_done_0 0 rfl rfl)
theorem dX1_done_1 : decode cX1_done 1 = .ok (.getfield 39, 3) := dk_180 0 39 (dk_at dksX1_done_0 1 rfl rfl)
theorem dX1_done_4 : decode cX1_done 4 = .ok (.invokevirtual 255, 3) := dk_182 0 255 (dk_at dksX1_done_0 4 rfl rfl)
theorem dX1_done_7 : decode cX1_done 7 = .ok (.invokestatic 87, 3) := dk_184 0 87 (dk_at dksX1_done_0 7 rfl rfl)
theorem dX1_done_10 : decode cX1_done 10 = .ok (.aload_n 0, 1) := dk_42 (dk_at dksX1_done_0 10 rfl rfl)
theorem dX1_done_11 : decode cX1_done 11 = .ok (.invokevirtual 226, 3) := dk_182 0 226 (dk_at dksX1_done_0 11 rfl rfl)
theorem dX1_done_14 : decode cX1_done 14 = .ok (.getfield 102, 3) := dk_180 0 102 (dk_at dksX1_done_0 14 rfl rfl)
theorem dX1_done_17 : decode cX1_done 17 = .ok (.invokevirtual 259, 3) := dk_182 1 3 (dk_at dksX1_done_0 17 rfl rfl)
theorem dX1_done_20 : decode cX1_done 20 = .ok (.ireturn, 1) := dk_172 (dk_at dksX1_done_0 20 rfl rfl)
abbrev cX1_play : ByteArray := prog_1_method_30_code
def yX1_play : MethodName := ⟨RX1, "play", "()I"⟩
def dkwX1_play_0 : List UInt8 := [42, 180, 0, 39, 182, 0, 255, 184, 0, 87, 42, 182, 0, 226, 180, 0, 102, 182, 1, 6, 172]
abbrev dktX1_play_0 : List UInt8 := dkwX1_play_0 ++ []
theorem dksX1_play_0 : cX1_play.data.toList.drop 0 = dktX1_play_0 := by decide +kernel
theorem dX1_play_0 : decode cX1_play 0 = .ok (.aload_n 0, 1) := dk_42 (dk_at dksX1_play_0 0 rfl rfl)
theorem dX1_play_1 : decode cX1_play 1 = .ok (.getfield 39, 3) := dk_180 0 39 (dk_at dksX1_play_0 1 rfl rfl)
theorem dX1_play_4 : decode cX1_play 4 = .ok (.invokevirtual 255, 3) := dk_182 0 255 (dk_at dksX1_play_0 4 rfl rfl)
theorem dX1_play_7 : decode cX1_play 7 = .ok (.invokestatic 87, 3) := dk_184 0 87 (dk_at dksX1_play_0 7 rfl rfl)
theorem dX1_play_10 : decode cX1_play 10 = .ok (.aload_n 0, 1) := dk_42 (dk_at dksX1_play_0 10 rfl rfl)
theorem dX1_play_11 : decode cX1_play 11 = .ok (.invokevirtual 226, 3) := dk_182 0 226 (dk_at dksX1_play_0 11 rfl rfl)
theorem dX1_play_14 : decode cX1_play 14 = .ok (.getfield 102, 3) := dk_180 0 102 (dk_at dksX1_play_0 14 rfl rfl)
theorem dX1_play_17 : decode cX1_play 17 = .ok (.invokevirtual 262, 3) := dk_182 1 6 (dk_at dksX1_play_0 17 rfl rfl)
theorem dX1_play_20 : decode cX1_play 20 = .ok (.ireturn, 1) := dk_172 (dk_at dksX1_play_0 20 rfl rfl)
abbrev cX1_set : ByteArray := prog_1_method_31_code
def yX1_set : MethodName := ⟨RX1, "set", "(II)I"⟩
def dkwX1_set_0 : List UInt8 := [27, 28, 184, 1, 9, 184, 0, 80, 42, 182, 0, 226, 27, 28, 182, 1, 13, 172]
abbrev dktX1_set_0 : List UInt8 := dkwX1_set_0 ++ []
theorem dksX1_set_0 : cX1_set.data.toList.drop 0 = dktX1_set_0 := by decide +kernel
theorem dX1_set_0 : decode cX1_set 0 = .ok (.iload_n 1, 1) := dk_27 (dk_at dksX1_set_0 0 rfl rfl)
theorem dX1_set_1 : decode cX1_set 1 = .ok (.iload_n 2, 1) := dk_28 (dk_at dksX1_set_0 1 rfl rfl)
theorem dX1_set_2 : decode cX1_set 2 = .ok (.invokestatic 265, 3) := dk_184 1 9 (dk_at dksX1_set_0 2 rfl rfl)
theorem dX1_set_5 : decode cX1_set 5 = .ok (.invokestatic 80, 3) := dk_184 0 80 (dk_at dksX1_set_0 5 rfl rfl)
theorem dX1_set_8 : decode cX1_set 8 = .ok (.aload_n 0, 1) := dk_42 (dk_at dksX1_set_0 8 rfl rfl)
theorem dX1_set_9 : decode cX1_set 9 = .ok (.invokevirtual 226, 3) := dk_182 0 226 (dk_at dksX1_set_0 9 rfl rfl)
theorem dX1_set_12 : decode cX1_set 12 = .ok (.iload_n 1, 1) := dk_27 (dk_at dksX1_set_0 12 rfl rfl)
theorem dX1_set_13 : decode cX1_set 13 = .ok (.iload_n 2, 1) := dk_28 (dk_at dksX1_set_0 13 rfl rfl)
theorem dX1_set_14 : decode cX1_set 14 = .ok (.invokevirtual 269, 3) := dk_182 1 13 (dk_at dksX1_set_0 14 rfl rfl)
theorem dX1_set_17 : decode cX1_set 17 = .ok (.ireturn, 1) := dk_172 (dk_at dksX1_set_0 17 rfl rfl)
abbrev cX1_isSetting : ByteArray := prog_1_method_10_code
def yX1_isSetting : MethodName := ⟨RX1, "isSetting", "(II)Z"⟩
def dkwX1_isSetting_4 : List UInt8 := [167, 0, 4, 3, 172]
abbrev dktX1_isSetting_4 : List UInt8 := dkwX1_isSetting_4 ++ []
def dkwX1_isSetting_3 : List UInt8 := [27, 133, 10, 20, 0, 29, 184, 0, 15, 167, 0, 18, 27, 133, 20, 0, 29, 20, 0, 31, 184, 0, 15]
abbrev dktX1_isSetting_3 : List UInt8 := dkwX1_isSetting_3 ++ dktX1_isSetting_4
def dkwX1_isSetting_2 : List UInt8 := [27, 133, 9, 20, 0, 25, 184, 0, 15, 167, 0, 42, 27, 133, 10, 20, 0, 27, 184, 0, 15, 167, 0, 30]
abbrev dktX1_isSetting_2 : List UInt8 := dkwX1_isSetting_2 ++ dktX1_isSetting_3
def dkwX1_isSetting_1 : List UInt8 := [170, 0, 0, 0, 0, 0, 81, 0, 0, 0, 0, 0, 0, 0, 3, 0, 0, 0, 31, 0, 0, 0, 43, 0, 0, 0, 55, 0, 0, 0, 67]
abbrev dktX1_isSetting_1 : List UInt8 := dkwX1_isSetting_1 ++ dktX1_isSetting_2
def dkwX1_isSetting_0 : List UInt8 := [26]
abbrev dktX1_isSetting_0 : List UInt8 := dkwX1_isSetting_0 ++ dktX1_isSetting_1
theorem dksX1_isSetting_0 : cX1_isSetting.data.toList.drop 0 = dktX1_isSetting_0 := by decide +kernel
theorem dksX1_isSetting_1 : cX1_isSetting.data.toList.drop 1 = dktX1_isSetting_1 := dk_seg dksX1_isSetting_0 1 rfl rfl
theorem dksX1_isSetting_2 : cX1_isSetting.data.toList.drop 32 = dktX1_isSetting_2 := dk_seg dksX1_isSetting_1 31 rfl rfl
theorem dksX1_isSetting_3 : cX1_isSetting.data.toList.drop 56 = dktX1_isSetting_3 := dk_seg dksX1_isSetting_2 24 rfl rfl
theorem dksX1_isSetting_4 : cX1_isSetting.data.toList.drop 79 = dktX1_isSetting_4 := dk_seg dksX1_isSetting_3 23 rfl rfl
theorem dX1_isSetting_0 : decode cX1_isSetting 0 = .ok (.iload_n 0, 1) := dk_26 (dk_at dksX1_isSetting_0 0 rfl rfl)
theorem dX1_isSetting_1 : decode cX1_isSetting 1 = .ok (.tableswitch 81 0 3 #[31, 43, 55, 67], 31) := by decide +kernel
theorem dX1_isSetting_32 : decode cX1_isSetting 32 = .ok (.iload_n 1, 1) := dk_27 (dk_at dksX1_isSetting_2 0 rfl rfl)
theorem dX1_isSetting_33 : decode cX1_isSetting 33 = .ok (.i2l, 1) := dk_133 (dk_at dksX1_isSetting_2 1 rfl rfl)
theorem dX1_isSetting_34 : decode cX1_isSetting 34 = .ok (.lconst 0, 1) := dk_9 (dk_at dksX1_isSetting_2 2 rfl rfl)
theorem dX1_isSetting_35 : decode cX1_isSetting 35 = .ok (.ldc2_w 25, 3) := dk_20 0 25 (dk_at dksX1_isSetting_2 3 rfl rfl)
theorem dX1_isSetting_38 : decode cX1_isSetting 38 = .ok (.invokestatic 15, 3) := dk_184 0 15 (dk_at dksX1_isSetting_2 6 rfl rfl)
theorem dX1_isSetting_41 : decode cX1_isSetting 41 = .ok (.goto 42, 3) := dk_167 0 42 (dk_at dksX1_isSetting_2 9 rfl rfl)
theorem dX1_isSetting_44 : decode cX1_isSetting 44 = .ok (.iload_n 1, 1) := dk_27 (dk_at dksX1_isSetting_2 12 rfl rfl)
theorem dX1_isSetting_45 : decode cX1_isSetting 45 = .ok (.i2l, 1) := dk_133 (dk_at dksX1_isSetting_2 13 rfl rfl)
theorem dX1_isSetting_46 : decode cX1_isSetting 46 = .ok (.lconst 1, 1) := dk_10 (dk_at dksX1_isSetting_2 14 rfl rfl)
theorem dX1_isSetting_47 : decode cX1_isSetting 47 = .ok (.ldc2_w 27, 3) := dk_20 0 27 (dk_at dksX1_isSetting_2 15 rfl rfl)
theorem dX1_isSetting_50 : decode cX1_isSetting 50 = .ok (.invokestatic 15, 3) := dk_184 0 15 (dk_at dksX1_isSetting_2 18 rfl rfl)
theorem dX1_isSetting_53 : decode cX1_isSetting 53 = .ok (.goto 30, 3) := dk_167 0 30 (dk_at dksX1_isSetting_2 21 rfl rfl)
theorem dX1_isSetting_56 : decode cX1_isSetting 56 = .ok (.iload_n 1, 1) := dk_27 (dk_at dksX1_isSetting_3 0 rfl rfl)
theorem dX1_isSetting_57 : decode cX1_isSetting 57 = .ok (.i2l, 1) := dk_133 (dk_at dksX1_isSetting_3 1 rfl rfl)
theorem dX1_isSetting_58 : decode cX1_isSetting 58 = .ok (.lconst 1, 1) := dk_10 (dk_at dksX1_isSetting_3 2 rfl rfl)
theorem dX1_isSetting_59 : decode cX1_isSetting 59 = .ok (.ldc2_w 29, 3) := dk_20 0 29 (dk_at dksX1_isSetting_3 3 rfl rfl)
theorem dX1_isSetting_62 : decode cX1_isSetting 62 = .ok (.invokestatic 15, 3) := dk_184 0 15 (dk_at dksX1_isSetting_3 6 rfl rfl)
theorem dX1_isSetting_65 : decode cX1_isSetting 65 = .ok (.goto 18, 3) := dk_167 0 18 (dk_at dksX1_isSetting_3 9 rfl rfl)
theorem dX1_isSetting_68 : decode cX1_isSetting 68 = .ok (.iload_n 1, 1) := dk_27 (dk_at dksX1_isSetting_3 12 rfl rfl)
theorem dX1_isSetting_69 : decode cX1_isSetting 69 = .ok (.i2l, 1) := dk_133 (dk_at dksX1_isSetting_3 13 rfl rfl)
theorem dX1_isSetting_70 : decode cX1_isSetting 70 = .ok (.ldc2_w 29, 3) := dk_20 0 29 (dk_at dksX1_isSetting_3 14 rfl rfl)
theorem dX1_isSetting_73 : decode cX1_isSetting 73 = .ok (.ldc2_w 31, 3) := dk_20 0 31 (dk_at dksX1_isSetting_3 17 rfl rfl)
theorem dX1_isSetting_76 : decode cX1_isSetting 76 = .ok (.invokestatic 15, 3) := dk_184 0 15 (dk_at dksX1_isSetting_3 20 rfl rfl)
theorem dX1_isSetting_79 : decode cX1_isSetting 79 = .ok (.goto 4, 3) := dk_167 0 4 (dk_at dksX1_isSetting_4 0 rfl rfl)
theorem dX1_isSetting_82 : decode cX1_isSetting 82 = .ok (.iconst 0, 1) := dk_3 (dk_at dksX1_isSetting_4 3 rfl rfl)
theorem dX1_isSetting_83 : decode cX1_isSetting 83 = .ok (.ireturn, 1) := dk_172 (dk_at dksX1_isSetting_4 4 rfl rfl)
abbrev cX1_undo : ByteArray := prog_1_method_32_code
def yX1_undo : MethodName := ⟨RX1, "undo", "()I"⟩
def dkwX1_undo_1 : List UInt8 := [180, 0, 46, 185, 1, 20, 1, 0, 192, 0, 36, 181, 0, 39, 42, 180, 0, 46, 185, 0, 61, 1, 0, 172]
abbrev dktX1_undo_1 : List UInt8 := dkwX1_undo_1 ++ []
def dkwX1_undo_0 : List UInt8 := [42, 180, 0, 46, 185, 1, 17, 1, 0, 154, 0, 7, 4, 167, 0, 4, 3, 184, 0, 87, 42, 42]
abbrev dktX1_undo_0 : List UInt8 := dkwX1_undo_0 ++ dktX1_undo_1
theorem dksX1_undo_0 : cX1_undo.data.toList.drop 0 = dktX1_undo_0 := by decide +kernel
theorem dksX1_undo_1 : cX1_undo.data.toList.drop 22 = dktX1_undo_1 := dk_seg dksX1_undo_0 22 rfl rfl
theorem dX1_undo_0 : decode cX1_undo 0 = .ok (.aload_n 0, 1) := dk_42 (dk_at dksX1_undo_0 0 rfl rfl)
theorem dX1_undo_1 : decode cX1_undo 1 = .ok (.getfield 46, 3) := dk_180 0 46 (dk_at dksX1_undo_0 1 rfl rfl)
theorem dX1_undo_4 : decode cX1_undo 4 = .ok (.invokeinterface 273 1, 5) := by decide +kernel
theorem dX1_undo_9 : decode cX1_undo 9 = .ok (.ifCond .ne 7, 3) := dk_154 0 7 (dk_at dksX1_undo_0 9 rfl rfl)
theorem dX1_undo_12 : decode cX1_undo 12 = .ok (.iconst 1, 1) := dk_4 (dk_at dksX1_undo_0 12 rfl rfl)
theorem dX1_undo_13 : decode cX1_undo 13 = .ok (.goto 4, 3) := dk_167 0 4 (dk_at dksX1_undo_0 13 rfl rfl)
theorem dX1_undo_16 : decode cX1_undo 16 = .ok (.iconst 0, 1) := dk_3 (dk_at dksX1_undo_0 16 rfl rfl)
theorem dX1_undo_17 : decode cX1_undo 17 = .ok (.invokestatic 87, 3) := dk_184 0 87 (dk_at dksX1_undo_0 17 rfl rfl)
theorem dX1_undo_20 : decode cX1_undo 20 = .ok (.aload_n 0, 1) := dk_42 (dk_at dksX1_undo_0 20 rfl rfl)
theorem dX1_undo_21 : decode cX1_undo 21 = .ok (.aload_n 0, 1) := dk_42 (dk_at dksX1_undo_0 21 rfl rfl)
theorem dX1_undo_22 : decode cX1_undo 22 = .ok (.getfield 46, 3) := dk_180 0 46 (dk_at dksX1_undo_1 0 rfl rfl)
theorem dX1_undo_25 : decode cX1_undo 25 = .ok (.invokeinterface 276 1, 5) := by decide +kernel
theorem dX1_undo_30 : decode cX1_undo 30 = .ok (.checkcast 36, 3) := dk_192 0 36 (dk_at dksX1_undo_1 8 rfl rfl)
theorem dX1_undo_33 : decode cX1_undo 33 = .ok (.putfield 39, 3) := dk_181 0 39 (dk_at dksX1_undo_1 11 rfl rfl)
theorem dX1_undo_36 : decode cX1_undo 36 = .ok (.aload_n 0, 1) := dk_42 (dk_at dksX1_undo_1 14 rfl rfl)
theorem dX1_undo_37 : decode cX1_undo 37 = .ok (.getfield 46, 3) := dk_180 0 46 (dk_at dksX1_undo_1 15 rfl rfl)
theorem dX1_undo_40 : decode cX1_undo 40 = .ok (.invokeinterface 61 1, 5) := by decide +kernel
theorem dX1_undo_45 : decode cX1_undo 45 = .ok (.ireturn, 1) := dk_172 (dk_at dksX1_undo_1 23 rfl rfl)
abbrev cX1_points : ByteArray := prog_1_method_33_code
def yX1_points : MethodName := ⟨RX1, "points", "(I)I"⟩
def dkwX1_points_3 : List UInt8 := [42, 180, 0, 57, 182, 1, 23, 182, 1, 25, 167, 0, 4, 2, 172]
abbrev dktX1_points_3 : List UInt8 := dkwX1_points_3 ++ []
def dkwX1_points_2 : List UInt8 := [182, 0, 159, 126, 154, 0, 7, 4, 167, 0, 4, 3, 61, 28, 153, 0, 23, 42, 180, 0, 39, 180, 0, 102]
abbrev dktX1_points_2 : List UInt8 := dkwX1_points_2 ++ dktX1_points_3
def dkwX1_points_1 : List UInt8 := [160, 0, 33, 42, 180, 0, 57, 182, 1, 23, 42, 180, 0, 39, 180, 0, 102, 180, 0, 150, 27, 50]
abbrev dktX1_points_1 : List UInt8 := dkwX1_points_1 ++ dktX1_points_2
def dkwX1_points_0 : List UInt8 := [27, 184, 0, 144, 42, 180, 0, 39, 180, 0, 102, 198, 0, 44, 42, 180, 0, 57, 182, 0, 97, 2]
abbrev dktX1_points_0 : List UInt8 := dkwX1_points_0 ++ dktX1_points_1
theorem dksX1_points_0 : cX1_points.data.toList.drop 0 = dktX1_points_0 := by decide +kernel
theorem dksX1_points_1 : cX1_points.data.toList.drop 22 = dktX1_points_1 := dk_seg dksX1_points_0 22 rfl rfl
theorem dksX1_points_2 : cX1_points.data.toList.drop 44 = dktX1_points_2 := dk_seg dksX1_points_1 22 rfl rfl
theorem dksX1_points_3 : cX1_points.data.toList.drop 68 = dktX1_points_3 := dk_seg dksX1_points_2 24 rfl rfl
theorem dX1_points_0 : decode cX1_points 0 = .ok (.iload_n 1, 1) := dk_27 (dk_at dksX1_points_0 0 rfl rfl)
theorem dX1_points_1 : decode cX1_points 1 = .ok (.invokestatic 144, 3) := dk_184 0 144 (dk_at dksX1_points_0 1 rfl rfl)
theorem dX1_points_4 : decode cX1_points 4 = .ok (.aload_n 0, 1) := dk_42 (dk_at dksX1_points_0 4 rfl rfl)
theorem dX1_points_5 : decode cX1_points 5 = .ok (.getfield 39, 3) := dk_180 0 39 (dk_at dksX1_points_0 5 rfl rfl)
theorem dX1_points_8 : decode cX1_points 8 = .ok (.getfield 102, 3) := dk_180 0 102 (dk_at dksX1_points_0 8 rfl rfl)
theorem dX1_points_11 : decode cX1_points 11 = .ok (.ifnull 44, 3) := dk_198 0 44 (dk_at dksX1_points_0 11 rfl rfl)
theorem dX1_points_14 : decode cX1_points 14 = .ok (.aload_n 0, 1) := dk_42 (dk_at dksX1_points_0 14 rfl rfl)
theorem dX1_points_15 : decode cX1_points 15 = .ok (.getfield 57, 3) := dk_180 0 57 (dk_at dksX1_points_0 15 rfl rfl)
theorem dX1_points_18 : decode cX1_points 18 = .ok (.invokevirtual 97, 3) := dk_182 0 97 (dk_at dksX1_points_0 18 rfl rfl)
theorem dX1_points_21 : decode cX1_points 21 = .ok (.iconst (-1), 1) := dk_2 (dk_at dksX1_points_0 21 rfl rfl)
theorem dX1_points_22 : decode cX1_points 22 = .ok (.if_icmp .ne 33, 3) := dk_160 0 33 (dk_at dksX1_points_1 0 rfl rfl)
theorem dX1_points_25 : decode cX1_points 25 = .ok (.aload_n 0, 1) := dk_42 (dk_at dksX1_points_1 3 rfl rfl)
theorem dX1_points_26 : decode cX1_points 26 = .ok (.getfield 57, 3) := dk_180 0 57 (dk_at dksX1_points_1 4 rfl rfl)
theorem dX1_points_29 : decode cX1_points 29 = .ok (.invokevirtual 279, 3) := dk_182 1 23 (dk_at dksX1_points_1 7 rfl rfl)
theorem dX1_points_32 : decode cX1_points 32 = .ok (.aload_n 0, 1) := dk_42 (dk_at dksX1_points_1 10 rfl rfl)
theorem dX1_points_33 : decode cX1_points 33 = .ok (.getfield 39, 3) := dk_180 0 39 (dk_at dksX1_points_1 11 rfl rfl)
theorem dX1_points_36 : decode cX1_points 36 = .ok (.getfield 102, 3) := dk_180 0 102 (dk_at dksX1_points_1 14 rfl rfl)
theorem dX1_points_39 : decode cX1_points 39 = .ok (.getfield 150, 3) := dk_180 0 150 (dk_at dksX1_points_1 17 rfl rfl)
theorem dX1_points_42 : decode cX1_points 42 = .ok (.iload_n 1, 1) := dk_27 (dk_at dksX1_points_1 20 rfl rfl)
theorem dX1_points_43 : decode cX1_points 43 = .ok (.aaload, 1) := dk_50 (dk_at dksX1_points_1 21 rfl rfl)
theorem dX1_points_44 : decode cX1_points 44 = .ok (.invokevirtual 159, 3) := dk_182 0 159 (dk_at dksX1_points_2 0 rfl rfl)
theorem dX1_points_47 : decode cX1_points 47 = .ok (.iand, 1) := dk_126 (dk_at dksX1_points_2 3 rfl rfl)
theorem dX1_points_48 : decode cX1_points 48 = .ok (.ifCond .ne 7, 3) := dk_154 0 7 (dk_at dksX1_points_2 4 rfl rfl)
theorem dX1_points_51 : decode cX1_points 51 = .ok (.iconst 1, 1) := dk_4 (dk_at dksX1_points_2 7 rfl rfl)
theorem dX1_points_52 : decode cX1_points 52 = .ok (.goto 4, 3) := dk_167 0 4 (dk_at dksX1_points_2 8 rfl rfl)
theorem dX1_points_55 : decode cX1_points 55 = .ok (.iconst 0, 1) := dk_3 (dk_at dksX1_points_2 11 rfl rfl)
theorem dX1_points_56 : decode cX1_points 56 = .ok (.istore_n 2, 1) := dk_61 (dk_at dksX1_points_2 12 rfl rfl)
theorem dX1_points_57 : decode cX1_points 57 = .ok (.iload_n 2, 1) := dk_28 (dk_at dksX1_points_2 13 rfl rfl)
theorem dX1_points_58 : decode cX1_points 58 = .ok (.ifCond .eq 23, 3) := dk_153 0 23 (dk_at dksX1_points_2 14 rfl rfl)
theorem dX1_points_61 : decode cX1_points 61 = .ok (.aload_n 0, 1) := dk_42 (dk_at dksX1_points_2 17 rfl rfl)
theorem dX1_points_62 : decode cX1_points 62 = .ok (.getfield 39, 3) := dk_180 0 39 (dk_at dksX1_points_2 18 rfl rfl)
theorem dX1_points_65 : decode cX1_points 65 = .ok (.getfield 102, 3) := dk_180 0 102 (dk_at dksX1_points_2 21 rfl rfl)
theorem dX1_points_68 : decode cX1_points 68 = .ok (.aload_n 0, 1) := dk_42 (dk_at dksX1_points_3 0 rfl rfl)
theorem dX1_points_69 : decode cX1_points 69 = .ok (.getfield 57, 3) := dk_180 0 57 (dk_at dksX1_points_3 1 rfl rfl)
theorem dX1_points_72 : decode cX1_points 72 = .ok (.invokevirtual 279, 3) := dk_182 1 23 (dk_at dksX1_points_3 4 rfl rfl)
theorem dX1_points_75 : decode cX1_points 75 = .ok (.invokevirtual 281, 3) := dk_182 1 25 (dk_at dksX1_points_3 7 rfl rfl)
theorem dX1_points_78 : decode cX1_points 78 = .ok (.goto 4, 3) := dk_167 0 4 (dk_at dksX1_points_3 10 rfl rfl)
theorem dX1_points_81 : decode cX1_points 81 = .ok (.iconst (-1), 1) := dk_2 (dk_at dksX1_points_3 13 rfl rfl)
theorem dX1_points_82 : decode cX1_points 82 = .ok (.ireturn, 1) := dk_172 (dk_at dksX1_points_3 14 rfl rfl)
abbrev cX1_best : ByteArray := prog_1_method_34_code
def yX1_best : MethodName := ⟨RX1, "best", "(II)I"⟩
def dkwX1_best_4 : List UInt8 := [182, 0, 218, 167, 0, 4, 2, 172]
abbrev dktX1_best_4 : List UInt8 := dkwX1_best_4 ++ []
def dkwX1_best_3 : List UInt8 := [160, 0, 8, 21, 4, 167, 0, 25, 28, 5, 100, 21, 4, 162, 0, 16, 45, 180, 1, 34, 28, 5, 100]
abbrev dktX1_best_3 : List UInt8 := dkwX1_best_3 ++ dktX1_best_4
def dkwX1_best_2 : List UInt8 := [159, 0, 7, 28, 154, 0, 8, 45, 180, 1, 31, 172, 45, 180, 1, 34, 182, 0, 84, 54, 4, 28, 4]
abbrev dktX1_best_2 : List UInt8 := dkwX1_best_2 ++ dktX1_best_3
def dkwX1_best_1 : List UInt8 := [199, 0, 5, 2, 172, 42, 180, 0, 39, 180, 0, 102, 27, 3, 182, 1, 27, 78, 45, 180, 1, 31, 2]
abbrev dktX1_best_1 : List UInt8 := dkwX1_best_1 ++ dktX1_best_2
def dkwX1_best_0 : List UInt8 := [27, 184, 0, 144, 28, 133, 9, 20, 0, 25, 184, 0, 15, 184, 0, 80, 42, 180, 0, 39, 180, 0, 102]
abbrev dktX1_best_0 : List UInt8 := dkwX1_best_0 ++ dktX1_best_1
theorem dksX1_best_0 : cX1_best.data.toList.drop 0 = dktX1_best_0 := by decide +kernel
theorem dksX1_best_1 : cX1_best.data.toList.drop 23 = dktX1_best_1 := dk_seg dksX1_best_0 23 rfl rfl
theorem dksX1_best_2 : cX1_best.data.toList.drop 46 = dktX1_best_2 := dk_seg dksX1_best_1 23 rfl rfl
theorem dksX1_best_3 : cX1_best.data.toList.drop 69 = dktX1_best_3 := dk_seg dksX1_best_2 23 rfl rfl
theorem dksX1_best_4 : cX1_best.data.toList.drop 92 = dktX1_best_4 := dk_seg dksX1_best_3 23 rfl rfl
theorem dX1_best_0 : decode cX1_best 0 = .ok (.iload_n 1, 1) := dk_27 (dk_at dksX1_best_0 0 rfl rfl)
theorem dX1_best_1 : decode cX1_best 1 = .ok (.invokestatic 144, 3) := dk_184 0 144 (dk_at dksX1_best_0 1 rfl rfl)
theorem dX1_best_4 : decode cX1_best 4 = .ok (.iload_n 2, 1) := dk_28 (dk_at dksX1_best_0 4 rfl rfl)
theorem dX1_best_5 : decode cX1_best 5 = .ok (.i2l, 1) := dk_133 (dk_at dksX1_best_0 5 rfl rfl)
theorem dX1_best_6 : decode cX1_best 6 = .ok (.lconst 0, 1) := dk_9 (dk_at dksX1_best_0 6 rfl rfl)
theorem dX1_best_7 : decode cX1_best 7 = .ok (.ldc2_w 25, 3) := dk_20 0 25 (dk_at dksX1_best_0 7 rfl rfl)
theorem dX1_best_10 : decode cX1_best 10 = .ok (.invokestatic 15, 3) := dk_184 0 15 (dk_at dksX1_best_0 10 rfl rfl)
theorem dX1_best_13 : decode cX1_best 13 = .ok (.invokestatic 80, 3) := dk_184 0 80 (dk_at dksX1_best_0 13 rfl rfl)
theorem dX1_best_16 : decode cX1_best 16 = .ok (.aload_n 0, 1) := dk_42 (dk_at dksX1_best_0 16 rfl rfl)
theorem dX1_best_17 : decode cX1_best 17 = .ok (.getfield 39, 3) := dk_180 0 39 (dk_at dksX1_best_0 17 rfl rfl)
theorem dX1_best_20 : decode cX1_best 20 = .ok (.getfield 102, 3) := dk_180 0 102 (dk_at dksX1_best_0 20 rfl rfl)
theorem dX1_best_23 : decode cX1_best 23 = .ok (.ifnonnull 5, 3) := dk_199 0 5 (dk_at dksX1_best_1 0 rfl rfl)
theorem dX1_best_26 : decode cX1_best 26 = .ok (.iconst (-1), 1) := dk_2 (dk_at dksX1_best_1 3 rfl rfl)
theorem dX1_best_27 : decode cX1_best 27 = .ok (.ireturn, 1) := dk_172 (dk_at dksX1_best_1 4 rfl rfl)
theorem dX1_best_28 : decode cX1_best 28 = .ok (.aload_n 0, 1) := dk_42 (dk_at dksX1_best_1 5 rfl rfl)
theorem dX1_best_29 : decode cX1_best 29 = .ok (.getfield 39, 3) := dk_180 0 39 (dk_at dksX1_best_1 6 rfl rfl)
theorem dX1_best_32 : decode cX1_best 32 = .ok (.getfield 102, 3) := dk_180 0 102 (dk_at dksX1_best_1 9 rfl rfl)
theorem dX1_best_35 : decode cX1_best 35 = .ok (.iload_n 1, 1) := dk_27 (dk_at dksX1_best_1 12 rfl rfl)
theorem dX1_best_36 : decode cX1_best 36 = .ok (.iconst 0, 1) := dk_3 (dk_at dksX1_best_1 13 rfl rfl)
theorem dX1_best_37 : decode cX1_best 37 = .ok (.invokevirtual 283, 3) := dk_182 1 27 (dk_at dksX1_best_1 14 rfl rfl)
theorem dX1_best_40 : decode cX1_best 40 = .ok (.astore_n 3, 1) := dk_78 (dk_at dksX1_best_1 17 rfl rfl)
theorem dX1_best_41 : decode cX1_best 41 = .ok (.aload_n 3, 1) := dk_45 (dk_at dksX1_best_1 18 rfl rfl)
theorem dX1_best_42 : decode cX1_best 42 = .ok (.getfield 287, 3) := dk_180 1 31 (dk_at dksX1_best_1 19 rfl rfl)
theorem dX1_best_45 : decode cX1_best 45 = .ok (.iconst (-1), 1) := dk_2 (dk_at dksX1_best_1 22 rfl rfl)
theorem dX1_best_46 : decode cX1_best 46 = .ok (.if_icmp .eq 7, 3) := dk_159 0 7 (dk_at dksX1_best_2 0 rfl rfl)
theorem dX1_best_49 : decode cX1_best 49 = .ok (.iload_n 2, 1) := dk_28 (dk_at dksX1_best_2 3 rfl rfl)
theorem dX1_best_50 : decode cX1_best 50 = .ok (.ifCond .ne 8, 3) := dk_154 0 8 (dk_at dksX1_best_2 4 rfl rfl)
theorem dX1_best_53 : decode cX1_best 53 = .ok (.aload_n 3, 1) := dk_45 (dk_at dksX1_best_2 7 rfl rfl)
theorem dX1_best_54 : decode cX1_best 54 = .ok (.getfield 287, 3) := dk_180 1 31 (dk_at dksX1_best_2 8 rfl rfl)
theorem dX1_best_57 : decode cX1_best 57 = .ok (.ireturn, 1) := dk_172 (dk_at dksX1_best_2 11 rfl rfl)
theorem dX1_best_58 : decode cX1_best 58 = .ok (.aload_n 3, 1) := dk_45 (dk_at dksX1_best_2 12 rfl rfl)
theorem dX1_best_59 : decode cX1_best 59 = .ok (.getfield 290, 3) := dk_180 1 34 (dk_at dksX1_best_2 13 rfl rfl)
theorem dX1_best_62 : decode cX1_best 62 = .ok (.invokevirtual 84, 3) := dk_182 0 84 (dk_at dksX1_best_2 16 rfl rfl)
theorem dX1_best_65 : decode cX1_best 65 = .ok (.istore 4, 2) := dk_54 4 (dk_at dksX1_best_2 19 rfl rfl)
theorem dX1_best_67 : decode cX1_best 67 = .ok (.iload_n 2, 1) := dk_28 (dk_at dksX1_best_2 21 rfl rfl)
theorem dX1_best_68 : decode cX1_best 68 = .ok (.iconst 1, 1) := dk_4 (dk_at dksX1_best_2 22 rfl rfl)
theorem dX1_best_69 : decode cX1_best 69 = .ok (.if_icmp .ne 8, 3) := dk_160 0 8 (dk_at dksX1_best_3 0 rfl rfl)
theorem dX1_best_72 : decode cX1_best 72 = .ok (.iload 4, 2) := dk_21 4 (dk_at dksX1_best_3 3 rfl rfl)
theorem dX1_best_74 : decode cX1_best 74 = .ok (.goto 25, 3) := dk_167 0 25 (dk_at dksX1_best_3 5 rfl rfl)
theorem dX1_best_77 : decode cX1_best 77 = .ok (.iload_n 2, 1) := dk_28 (dk_at dksX1_best_3 8 rfl rfl)
theorem dX1_best_78 : decode cX1_best 78 = .ok (.iconst 2, 1) := dk_5 (dk_at dksX1_best_3 9 rfl rfl)
theorem dX1_best_79 : decode cX1_best 79 = .ok (.isub, 1) := dk_100 (dk_at dksX1_best_3 10 rfl rfl)
theorem dX1_best_80 : decode cX1_best 80 = .ok (.iload 4, 2) := dk_21 4 (dk_at dksX1_best_3 11 rfl rfl)
theorem dX1_best_82 : decode cX1_best 82 = .ok (.if_icmp .ge 16, 3) := dk_162 0 16 (dk_at dksX1_best_3 13 rfl rfl)
theorem dX1_best_85 : decode cX1_best 85 = .ok (.aload_n 3, 1) := dk_45 (dk_at dksX1_best_3 16 rfl rfl)
theorem dX1_best_86 : decode cX1_best 86 = .ok (.getfield 290, 3) := dk_180 1 34 (dk_at dksX1_best_3 17 rfl rfl)
theorem dX1_best_89 : decode cX1_best 89 = .ok (.iload_n 2, 1) := dk_28 (dk_at dksX1_best_3 20 rfl rfl)
theorem dX1_best_90 : decode cX1_best 90 = .ok (.iconst 2, 1) := dk_5 (dk_at dksX1_best_3 21 rfl rfl)
theorem dX1_best_91 : decode cX1_best 91 = .ok (.isub, 1) := dk_100 (dk_at dksX1_best_3 22 rfl rfl)
theorem dX1_best_92 : decode cX1_best 92 = .ok (.invokevirtual 218, 3) := dk_182 0 218 (dk_at dksX1_best_4 0 rfl rfl)
theorem dX1_best_95 : decode cX1_best 95 = .ok (.goto 4, 3) := dk_167 0 4 (dk_at dksX1_best_4 3 rfl rfl)
theorem dX1_best_98 : decode cX1_best 98 = .ok (.iconst (-1), 1) := dk_2 (dk_at dksX1_best_4 6 rfl rfl)
theorem dX1_best_99 : decode cX1_best 99 = .ok (.ireturn, 1) := dk_172 (dk_at dksX1_best_4 7 rfl rfl)
abbrev cX1_ifForbidden : ByteArray := prog_1_method_35_code
def yX1_ifForbidden : MethodName := ⟨RX1, "ifForbidden", "(II)I"⟩
def dkwX1_ifForbidden_1 : List UInt8 := [180, 0, 39, 180, 0, 102, 27, 4, 28, 120, 182, 1, 27, 180, 1, 31, 172]
abbrev dktX1_ifForbidden_1 : List UInt8 := dkwX1_ifForbidden_1 ++ []
def dkwX1_ifForbidden_0 : List UInt8 := [27, 184, 0, 144, 28, 184, 0, 246, 42, 180, 0, 39, 180, 0, 102, 199, 0, 7, 2, 167, 0, 20, 42]
abbrev dktX1_ifForbidden_0 : List UInt8 := dkwX1_ifForbidden_0 ++ dktX1_ifForbidden_1
theorem dksX1_ifForbidden_0 : cX1_ifForbidden.data.toList.drop 0 = dktX1_ifForbidden_0 := by decide +kernel
theorem dksX1_ifForbidden_1 : cX1_ifForbidden.data.toList.drop 23 = dktX1_ifForbidden_1 := dk_seg dksX1_ifForbidden_0 23 rfl rfl
theorem dX1_ifForbidden_0 : decode cX1_ifForbidden 0 = .ok (.iload_n 1, 1) := dk_27 (dk_at dksX1_ifForbidden_0 0 rfl rfl)
theorem dX1_ifForbidden_1 : decode cX1_ifForbidden 1 = .ok (.invokestatic 144, 3) := dk_184 0 144 (dk_at dksX1_ifForbidden_0 1 rfl rfl)
theorem dX1_ifForbidden_4 : decode cX1_ifForbidden 4 = .ok (.iload_n 2, 1) := dk_28 (dk_at dksX1_ifForbidden_0 4 rfl rfl)
theorem dX1_ifForbidden_5 : decode cX1_ifForbidden 5 = .ok (.invokestatic 246, 3) := dk_184 0 246 (dk_at dksX1_ifForbidden_0 5 rfl rfl)
theorem dX1_ifForbidden_8 : decode cX1_ifForbidden 8 = .ok (.aload_n 0, 1) := dk_42 (dk_at dksX1_ifForbidden_0 8 rfl rfl)
theorem dX1_ifForbidden_9 : decode cX1_ifForbidden 9 = .ok (.getfield 39, 3) := dk_180 0 39 (dk_at dksX1_ifForbidden_0 9 rfl rfl)
theorem dX1_ifForbidden_12 : decode cX1_ifForbidden 12 = .ok (.getfield 102, 3) := dk_180 0 102 (dk_at dksX1_ifForbidden_0 12 rfl rfl)
theorem dX1_ifForbidden_15 : decode cX1_ifForbidden 15 = .ok (.ifnonnull 7, 3) := dk_199 0 7 (dk_at dksX1_ifForbidden_0 15 rfl rfl)
theorem dX1_ifForbidden_18 : decode cX1_ifForbidden 18 = .ok (.iconst (-1), 1) := dk_2 (dk_at dksX1_ifForbidden_0 18 rfl rfl)
theorem dX1_ifForbidden_19 : decode cX1_ifForbidden 19 = .ok (.goto 20, 3) := dk_167 0 20 (dk_at dksX1_ifForbidden_0 19 rfl rfl)
theorem dX1_ifForbidden_22 : decode cX1_ifForbidden 22 = .ok (.aload_n 0, 1) := dk_42 (dk_at dksX1_ifForbidden_0 22 rfl rfl)
theorem dX1_ifForbidden_23 : decode cX1_ifForbidden 23 = .ok (.getfield 39, 3) := dk_180 0 39 (dk_at dksX1_ifForbidden_1 0 rfl rfl)
theorem dX1_ifForbidden_26 : decode cX1_ifForbidden 26 = .ok (.getfield 102, 3) := dk_180 0 102 (dk_at dksX1_ifForbidden_1 3 rfl rfl)
theorem dX1_ifForbidden_29 : decode cX1_ifForbidden 29 = .ok (.iload_n 1, 1) := dk_27 (dk_at dksX1_ifForbidden_1 6 rfl rfl)
theorem dX1_ifForbidden_30 : decode cX1_ifForbidden 30 = .ok (.iconst 1, 1) := dk_4 (dk_at dksX1_ifForbidden_1 7 rfl rfl)
theorem dX1_ifForbidden_31 : decode cX1_ifForbidden 31 = .ok (.iload_n 2, 1) := dk_28 (dk_at dksX1_ifForbidden_1 8 rfl rfl)
theorem dX1_ifForbidden_32 : decode cX1_ifForbidden 32 = .ok (.ishl, 1) := dk_120 (dk_at dksX1_ifForbidden_1 9 rfl rfl)
theorem dX1_ifForbidden_33 : decode cX1_ifForbidden 33 = .ok (.invokevirtual 283, 3) := dk_182 1 27 (dk_at dksX1_ifForbidden_1 10 rfl rfl)
theorem dX1_ifForbidden_36 : decode cX1_ifForbidden 36 = .ok (.getfield 287, 3) := dk_180 1 31 (dk_at dksX1_ifForbidden_1 13 rfl rfl)
theorem dX1_ifForbidden_39 : decode cX1_ifForbidden 39 = .ok (.ireturn, 1) := dk_172 (dk_at dksX1_ifForbidden_1 16 rfl rfl)
abbrev cX1_leaves : ByteArray := prog_1_method_37_code
def yX1_leaves : MethodName := ⟨RX1, "leaves", "(I)Z"⟩
def dkwX1_leaves_2 : List UInt8 := [4, 96, 42, 180, 0, 39, 180, 0, 222, 4, 46, 161, 0, 7, 4, 167, 0, 4, 3, 172]
abbrev dktX1_leaves_2 : List UInt8 := dkwX1_leaves_2 ++ []
def dkwX1_leaves_1 : List UInt8 := [180, 0, 102, 180, 0, 190, 27, 50, 77, 44, 198, 0, 32, 44, 180, 0, 202, 154, 0, 25, 44, 180, 0, 199]
abbrev dktX1_leaves_1 : List UInt8 := dkwX1_leaves_1 ++ dktX1_leaves_2
def dkwX1_leaves_0 : List UInt8 := [27, 184, 0, 185, 42, 180, 0, 39, 180, 0, 102, 199, 0, 7, 1, 167, 0, 15, 42, 180, 0, 39]
abbrev dktX1_leaves_0 : List UInt8 := dkwX1_leaves_0 ++ dktX1_leaves_1
theorem dksX1_leaves_0 : cX1_leaves.data.toList.drop 0 = dktX1_leaves_0 := by decide +kernel
theorem dksX1_leaves_1 : cX1_leaves.data.toList.drop 22 = dktX1_leaves_1 := dk_seg dksX1_leaves_0 22 rfl rfl
theorem dksX1_leaves_2 : cX1_leaves.data.toList.drop 46 = dktX1_leaves_2 := dk_seg dksX1_leaves_1 24 rfl rfl
theorem dX1_leaves_0 : decode cX1_leaves 0 = .ok (.iload_n 1, 1) := dk_27 (dk_at dksX1_leaves_0 0 rfl rfl)
theorem dX1_leaves_1 : decode cX1_leaves 1 = .ok (.invokestatic 185, 3) := dk_184 0 185 (dk_at dksX1_leaves_0 1 rfl rfl)
theorem dX1_leaves_4 : decode cX1_leaves 4 = .ok (.aload_n 0, 1) := dk_42 (dk_at dksX1_leaves_0 4 rfl rfl)
theorem dX1_leaves_5 : decode cX1_leaves 5 = .ok (.getfield 39, 3) := dk_180 0 39 (dk_at dksX1_leaves_0 5 rfl rfl)
theorem dX1_leaves_8 : decode cX1_leaves 8 = .ok (.getfield 102, 3) := dk_180 0 102 (dk_at dksX1_leaves_0 8 rfl rfl)
theorem dX1_leaves_11 : decode cX1_leaves 11 = .ok (.ifnonnull 7, 3) := dk_199 0 7 (dk_at dksX1_leaves_0 11 rfl rfl)
theorem dX1_leaves_14 : decode cX1_leaves 14 = .ok (.aconst_null, 1) := dk_1 (dk_at dksX1_leaves_0 14 rfl rfl)
theorem dX1_leaves_15 : decode cX1_leaves 15 = .ok (.goto 15, 3) := dk_167 0 15 (dk_at dksX1_leaves_0 15 rfl rfl)
theorem dX1_leaves_18 : decode cX1_leaves 18 = .ok (.aload_n 0, 1) := dk_42 (dk_at dksX1_leaves_0 18 rfl rfl)
theorem dX1_leaves_19 : decode cX1_leaves 19 = .ok (.getfield 39, 3) := dk_180 0 39 (dk_at dksX1_leaves_0 19 rfl rfl)
theorem dX1_leaves_22 : decode cX1_leaves 22 = .ok (.getfield 102, 3) := dk_180 0 102 (dk_at dksX1_leaves_1 0 rfl rfl)
theorem dX1_leaves_25 : decode cX1_leaves 25 = .ok (.getfield 190, 3) := dk_180 0 190 (dk_at dksX1_leaves_1 3 rfl rfl)
theorem dX1_leaves_28 : decode cX1_leaves 28 = .ok (.iload_n 1, 1) := dk_27 (dk_at dksX1_leaves_1 6 rfl rfl)
theorem dX1_leaves_29 : decode cX1_leaves 29 = .ok (.aaload, 1) := dk_50 (dk_at dksX1_leaves_1 7 rfl rfl)
theorem dX1_leaves_30 : decode cX1_leaves 30 = .ok (.astore_n 2, 1) := dk_77 (dk_at dksX1_leaves_1 8 rfl rfl)
theorem dX1_leaves_31 : decode cX1_leaves 31 = .ok (.aload_n 2, 1) := dk_44 (dk_at dksX1_leaves_1 9 rfl rfl)
theorem dX1_leaves_32 : decode cX1_leaves 32 = .ok (.ifnull 32, 3) := dk_198 0 32 (dk_at dksX1_leaves_1 10 rfl rfl)
theorem dX1_leaves_35 : decode cX1_leaves 35 = .ok (.aload_n 2, 1) := dk_44 (dk_at dksX1_leaves_1 13 rfl rfl)
theorem dX1_leaves_36 : decode cX1_leaves 36 = .ok (.getfield 202, 3) := dk_180 0 202 (dk_at dksX1_leaves_1 14 rfl rfl)
theorem dX1_leaves_39 : decode cX1_leaves 39 = .ok (.ifCond .ne 25, 3) := dk_154 0 25 (dk_at dksX1_leaves_1 17 rfl rfl)
theorem dX1_leaves_42 : decode cX1_leaves 42 = .ok (.aload_n 2, 1) := dk_44 (dk_at dksX1_leaves_1 20 rfl rfl)
theorem dX1_leaves_43 : decode cX1_leaves 43 = .ok (.getfield 199, 3) := dk_180 0 199 (dk_at dksX1_leaves_1 21 rfl rfl)
theorem dX1_leaves_46 : decode cX1_leaves 46 = .ok (.iconst 1, 1) := dk_4 (dk_at dksX1_leaves_2 0 rfl rfl)
theorem dX1_leaves_47 : decode cX1_leaves 47 = .ok (.iadd, 1) := dk_96 (dk_at dksX1_leaves_2 1 rfl rfl)
theorem dX1_leaves_48 : decode cX1_leaves 48 = .ok (.aload_n 0, 1) := dk_42 (dk_at dksX1_leaves_2 2 rfl rfl)
theorem dX1_leaves_49 : decode cX1_leaves 49 = .ok (.getfield 39, 3) := dk_180 0 39 (dk_at dksX1_leaves_2 3 rfl rfl)
theorem dX1_leaves_52 : decode cX1_leaves 52 = .ok (.getfield 222, 3) := dk_180 0 222 (dk_at dksX1_leaves_2 6 rfl rfl)
theorem dX1_leaves_55 : decode cX1_leaves 55 = .ok (.iconst 1, 1) := dk_4 (dk_at dksX1_leaves_2 9 rfl rfl)
theorem dX1_leaves_56 : decode cX1_leaves 56 = .ok (.iaload, 1) := dk_46 (dk_at dksX1_leaves_2 10 rfl rfl)
theorem dX1_leaves_57 : decode cX1_leaves 57 = .ok (.if_icmp .lt 7, 3) := dk_161 0 7 (dk_at dksX1_leaves_2 11 rfl rfl)
theorem dX1_leaves_60 : decode cX1_leaves 60 = .ok (.iconst 1, 1) := dk_4 (dk_at dksX1_leaves_2 14 rfl rfl)
theorem dX1_leaves_61 : decode cX1_leaves 61 = .ok (.goto 4, 3) := dk_167 0 4 (dk_at dksX1_leaves_2 15 rfl rfl)
theorem dX1_leaves_64 : decode cX1_leaves 64 = .ok (.iconst 0, 1) := dk_3 (dk_at dksX1_leaves_2 18 rfl rfl)
theorem dX1_leaves_65 : decode cX1_leaves 65 = .ok (.ireturn, 1) := dk_172 (dk_at dksX1_leaves_2 19 rfl rfl)
abbrev cX1_runScript : ByteArray := prog_1_method_46_code
def yX1_runScript : MethodName := ⟨RX1, "runScript", "(IJ)I"⟩
def dkwX1_runScript_3 : List UInt8 := [21, 5, 172, 132, 5, 1, 167, 255, 217, 2, 172]
abbrev dktX1_runScript_3 : List UInt8 := dkwX1_runScript_3 ++ []
def dkwX1_runScript_2 : List UInt8 := [32, 6, 27, 4, 100, 21, 5, 100, 104, 184, 1, 67, 109, 20, 1, 74, 113, 136, 182, 1, 76, 154, 0, 6]
abbrev dktX1_runScript_2 : List UInt8 := dkwX1_runScript_2 ++ dktX1_runScript_3
def dkwX1_runScript_1 : List UInt8 := [184, 0, 15, 184, 0, 80, 42, 182, 1, 71, 58, 4, 3, 54, 5, 21, 5, 27, 162, 0, 39, 42, 25, 4]
abbrev dktX1_runScript_1 : List UInt8 := dkwX1_runScript_1 ++ dktX1_runScript_2
def dkwX1_runScript_0 : List UInt8 := [27, 133, 10, 20, 0, 188, 184, 0, 15, 184, 0, 80, 32, 9, 6, 27, 104, 184, 1, 67, 10, 101]
abbrev dktX1_runScript_0 : List UInt8 := dkwX1_runScript_0 ++ dktX1_runScript_1
theorem dksX1_runScript_0 : cX1_runScript.data.toList.drop 0 = dktX1_runScript_0 := by decide +kernel
theorem dksX1_runScript_1 : cX1_runScript.data.toList.drop 22 = dktX1_runScript_1 := dk_seg dksX1_runScript_0 22 rfl rfl
theorem dksX1_runScript_2 : cX1_runScript.data.toList.drop 46 = dktX1_runScript_2 := dk_seg dksX1_runScript_1 24 rfl rfl
theorem dksX1_runScript_3 : cX1_runScript.data.toList.drop 70 = dktX1_runScript_3 := dk_seg dksX1_runScript_2 24 rfl rfl
theorem dX1_runScript_0 : decode cX1_runScript 0 = .ok (.iload_n 1, 1) := dk_27 (dk_at dksX1_runScript_0 0 rfl rfl)
theorem dX1_runScript_1 : decode cX1_runScript 1 = .ok (.i2l, 1) := dk_133 (dk_at dksX1_runScript_0 1 rfl rfl)
theorem dX1_runScript_2 : decode cX1_runScript 2 = .ok (.lconst 1, 1) := dk_10 (dk_at dksX1_runScript_0 2 rfl rfl)
theorem dX1_runScript_3 : decode cX1_runScript 3 = .ok (.ldc2_w 188, 3) := dk_20 0 188 (dk_at dksX1_runScript_0 3 rfl rfl)
theorem dX1_runScript_6 : decode cX1_runScript 6 = .ok (.invokestatic 15, 3) := dk_184 0 15 (dk_at dksX1_runScript_0 6 rfl rfl)
theorem dX1_runScript_9 : decode cX1_runScript 9 = .ok (.invokestatic 80, 3) := dk_184 0 80 (dk_at dksX1_runScript_0 9 rfl rfl)
theorem dX1_runScript_12 : decode cX1_runScript 12 = .ok (.lload_n 2, 1) := dk_32 (dk_at dksX1_runScript_0 12 rfl rfl)
theorem dX1_runScript_13 : decode cX1_runScript 13 = .ok (.lconst 0, 1) := dk_9 (dk_at dksX1_runScript_0 13 rfl rfl)
theorem dX1_runScript_14 : decode cX1_runScript 14 = .ok (.iconst 3, 1) := dk_6 (dk_at dksX1_runScript_0 14 rfl rfl)
theorem dX1_runScript_15 : decode cX1_runScript 15 = .ok (.iload_n 1, 1) := dk_27 (dk_at dksX1_runScript_0 15 rfl rfl)
theorem dX1_runScript_16 : decode cX1_runScript 16 = .ok (.imul, 1) := dk_104 (dk_at dksX1_runScript_0 16 rfl rfl)
theorem dX1_runScript_17 : decode cX1_runScript 17 = .ok (.invokestatic 323, 3) := dk_184 1 67 (dk_at dksX1_runScript_0 17 rfl rfl)
theorem dX1_runScript_20 : decode cX1_runScript 20 = .ok (.lconst 1, 1) := dk_10 (dk_at dksX1_runScript_0 20 rfl rfl)
theorem dX1_runScript_21 : decode cX1_runScript 21 = .ok (.lsub, 1) := dk_101 (dk_at dksX1_runScript_0 21 rfl rfl)
theorem dX1_runScript_22 : decode cX1_runScript 22 = .ok (.invokestatic 15, 3) := dk_184 0 15 (dk_at dksX1_runScript_1 0 rfl rfl)
theorem dX1_runScript_25 : decode cX1_runScript 25 = .ok (.invokestatic 80, 3) := dk_184 0 80 (dk_at dksX1_runScript_1 3 rfl rfl)
theorem dX1_runScript_28 : decode cX1_runScript 28 = .ok (.aload_n 0, 1) := dk_42 (dk_at dksX1_runScript_1 6 rfl rfl)
theorem dX1_runScript_29 : decode cX1_runScript 29 = .ok (.invokevirtual 327, 3) := dk_182 1 71 (dk_at dksX1_runScript_1 7 rfl rfl)
theorem dX1_runScript_32 : decode cX1_runScript 32 = .ok (.astore 4, 2) := dk_58 4 (dk_at dksX1_runScript_1 10 rfl rfl)
theorem dX1_runScript_34 : decode cX1_runScript 34 = .ok (.iconst 0, 1) := dk_3 (dk_at dksX1_runScript_1 12 rfl rfl)
theorem dX1_runScript_35 : decode cX1_runScript 35 = .ok (.istore 5, 2) := dk_54 5 (dk_at dksX1_runScript_1 13 rfl rfl)
theorem dX1_runScript_37 : decode cX1_runScript 37 = .ok (.iload 5, 2) := dk_21 5 (dk_at dksX1_runScript_1 15 rfl rfl)
theorem dX1_runScript_39 : decode cX1_runScript 39 = .ok (.iload_n 1, 1) := dk_27 (dk_at dksX1_runScript_1 17 rfl rfl)
theorem dX1_runScript_40 : decode cX1_runScript 40 = .ok (.if_icmp .ge 39, 3) := dk_162 0 39 (dk_at dksX1_runScript_1 18 rfl rfl)
theorem dX1_runScript_43 : decode cX1_runScript 43 = .ok (.aload_n 0, 1) := dk_42 (dk_at dksX1_runScript_1 21 rfl rfl)
theorem dX1_runScript_44 : decode cX1_runScript 44 = .ok (.aload 4, 2) := dk_25 4 (dk_at dksX1_runScript_1 22 rfl rfl)
theorem dX1_runScript_46 : decode cX1_runScript 46 = .ok (.lload_n 2, 1) := dk_32 (dk_at dksX1_runScript_2 0 rfl rfl)
theorem dX1_runScript_47 : decode cX1_runScript 47 = .ok (.iconst 3, 1) := dk_6 (dk_at dksX1_runScript_2 1 rfl rfl)
theorem dX1_runScript_48 : decode cX1_runScript 48 = .ok (.iload_n 1, 1) := dk_27 (dk_at dksX1_runScript_2 2 rfl rfl)
theorem dX1_runScript_49 : decode cX1_runScript 49 = .ok (.iconst 1, 1) := dk_4 (dk_at dksX1_runScript_2 3 rfl rfl)
theorem dX1_runScript_50 : decode cX1_runScript 50 = .ok (.isub, 1) := dk_100 (dk_at dksX1_runScript_2 4 rfl rfl)
theorem dX1_runScript_51 : decode cX1_runScript 51 = .ok (.iload 5, 2) := dk_21 5 (dk_at dksX1_runScript_2 5 rfl rfl)
theorem dX1_runScript_53 : decode cX1_runScript 53 = .ok (.isub, 1) := dk_100 (dk_at dksX1_runScript_2 7 rfl rfl)
theorem dX1_runScript_54 : decode cX1_runScript 54 = .ok (.imul, 1) := dk_104 (dk_at dksX1_runScript_2 8 rfl rfl)
theorem dX1_runScript_55 : decode cX1_runScript 55 = .ok (.invokestatic 323, 3) := dk_184 1 67 (dk_at dksX1_runScript_2 9 rfl rfl)
theorem dX1_runScript_58 : decode cX1_runScript 58 = .ok (.ldiv, 1) := dk_109 (dk_at dksX1_runScript_2 12 rfl rfl)
theorem dX1_runScript_59 : decode cX1_runScript 59 = .ok (.ldc2_w 330, 3) := dk_20 1 74 (dk_at dksX1_runScript_2 13 rfl rfl)
theorem dX1_runScript_62 : decode cX1_runScript 62 = .ok (.lrem, 1) := dk_113 (dk_at dksX1_runScript_2 16 rfl rfl)
theorem dX1_runScript_63 : decode cX1_runScript 63 = .ok (.l2i, 1) := dk_136 (dk_at dksX1_runScript_2 17 rfl rfl)
theorem dX1_runScript_64 : decode cX1_runScript 64 = .ok (.invokevirtual 332, 3) := dk_182 1 76 (dk_at dksX1_runScript_2 18 rfl rfl)
theorem dX1_runScript_67 : decode cX1_runScript 67 = .ok (.ifCond .ne 6, 3) := dk_154 0 6 (dk_at dksX1_runScript_2 21 rfl rfl)
theorem dX1_runScript_70 : decode cX1_runScript 70 = .ok (.iload 5, 2) := dk_21 5 (dk_at dksX1_runScript_3 0 rfl rfl)
theorem dX1_runScript_72 : decode cX1_runScript 72 = .ok (.ireturn, 1) := dk_172 (dk_at dksX1_runScript_3 2 rfl rfl)
theorem dX1_runScript_73 : decode cX1_runScript 73 = .ok (.iinc 5 1, 3) := dk_132 5 1 (dk_at dksX1_runScript_3 3 rfl rfl)
theorem dX1_runScript_76 : decode cX1_runScript 76 = .ok (.goto (-39), 3) := dk_167 255 217 (dk_at dksX1_runScript_3 6 rfl rfl)
theorem dX1_runScript_79 : decode cX1_runScript 79 = .ok (.iconst (-1), 1) := dk_2 (dk_at dksX1_runScript_3 9 rfl rfl)
theorem dX1_runScript_80 : decode cX1_runScript 80 = .ok (.ireturn, 1) := dk_172 (dk_at dksX1_runScript_3 10 rfl rfl)
abbrev cX1_tenTo : ByteArray := prog_1_method_5_code
def yX1_tenTo : MethodName := ⟨RX1, "tenTo", "(I)J"⟩
def dkwX1_tenTo_0 : List UInt8 := [10, 64, 3, 62, 29, 26, 162, 0, 15, 31, 20, 0, 13, 105, 64, 132, 3, 1, 167, 255, 242, 31, 173]
abbrev dktX1_tenTo_0 : List UInt8 := dkwX1_tenTo_0 ++ []
theorem dksX1_tenTo_0 : cX1_tenTo.data.toList.drop 0 = dktX1_tenTo_0 := by decide +kernel
theorem dX1_tenTo_0 : decode cX1_tenTo 0 = .ok (.lconst 1, 1) := dk_10 (dk_at dksX1_tenTo_0 0 rfl rfl)
theorem dX1_tenTo_1 : decode cX1_tenTo 1 = .ok (.lstore_n 1, 1) := dk_64 (dk_at dksX1_tenTo_0 1 rfl rfl)
theorem dX1_tenTo_2 : decode cX1_tenTo 2 = .ok (.iconst 0, 1) := dk_3 (dk_at dksX1_tenTo_0 2 rfl rfl)
theorem dX1_tenTo_3 : decode cX1_tenTo 3 = .ok (.istore_n 3, 1) := dk_62 (dk_at dksX1_tenTo_0 3 rfl rfl)
theorem dX1_tenTo_4 : decode cX1_tenTo 4 = .ok (.iload_n 3, 1) := dk_29 (dk_at dksX1_tenTo_0 4 rfl rfl)
theorem dX1_tenTo_5 : decode cX1_tenTo 5 = .ok (.iload_n 0, 1) := dk_26 (dk_at dksX1_tenTo_0 5 rfl rfl)
theorem dX1_tenTo_6 : decode cX1_tenTo 6 = .ok (.if_icmp .ge 15, 3) := dk_162 0 15 (dk_at dksX1_tenTo_0 6 rfl rfl)
theorem dX1_tenTo_9 : decode cX1_tenTo 9 = .ok (.lload_n 1, 1) := dk_31 (dk_at dksX1_tenTo_0 9 rfl rfl)
theorem dX1_tenTo_10 : decode cX1_tenTo 10 = .ok (.ldc2_w 13, 3) := dk_20 0 13 (dk_at dksX1_tenTo_0 10 rfl rfl)
theorem dX1_tenTo_13 : decode cX1_tenTo 13 = .ok (.lmul, 1) := dk_105 (dk_at dksX1_tenTo_0 13 rfl rfl)
theorem dX1_tenTo_14 : decode cX1_tenTo 14 = .ok (.lstore_n 1, 1) := dk_64 (dk_at dksX1_tenTo_0 14 rfl rfl)
theorem dX1_tenTo_15 : decode cX1_tenTo 15 = .ok (.iinc 3 1, 3) := dk_132 3 1 (dk_at dksX1_tenTo_0 15 rfl rfl)
theorem dX1_tenTo_18 : decode cX1_tenTo 18 = .ok (.goto (-14), 3) := dk_167 255 242 (dk_at dksX1_tenTo_0 18 rfl rfl)
theorem dX1_tenTo_21 : decode cX1_tenTo 21 = .ok (.lload_n 1, 1) := dk_31 (dk_at dksX1_tenTo_0 21 rfl rfl)
theorem dX1_tenTo_22 : decode cX1_tenTo 22 = .ok (.lreturn, 1) := dk_173 (dk_at dksX1_tenTo_0 22 rfl rfl)
abbrev cX1_trial : ByteArray := prog_1_method_13_code
def yX1_trial : MethodName := ⟨RX1, "trial", "()LTaleDuel$State;"⟩
def dkwX1_trial_0 : List UInt8 := [187, 0, 36, 89, 42, 180, 0, 39, 183, 0, 75, 176]
abbrev dktX1_trial_0 : List UInt8 := dkwX1_trial_0 ++ []
theorem dksX1_trial_0 : cX1_trial.data.toList.drop 0 = dktX1_trial_0 := by decide +kernel
theorem dX1_trial_0 : decode cX1_trial 0 = .ok (.new 36, 3) := dk_187 0 36 (dk_at dksX1_trial_0 0 rfl rfl)
theorem dX1_trial_3 : decode cX1_trial 3 = .ok (.dup, 1) := dk_89 (dk_at dksX1_trial_0 3 rfl rfl)
theorem dX1_trial_4 : decode cX1_trial 4 = .ok (.aload_n 0, 1) := dk_42 (dk_at dksX1_trial_0 4 rfl rfl)
theorem dX1_trial_5 : decode cX1_trial 5 = .ok (.getfield 39, 3) := dk_180 0 39 (dk_at dksX1_trial_0 5 rfl rfl)
theorem dX1_trial_8 : decode cX1_trial 8 = .ok (.invokespecial 75, 3) := dk_183 0 75 (dk_at dksX1_trial_0 8 rfl rfl)
theorem dX1_trial_11 : decode cX1_trial 11 = .ok (.areturn, 1) := dk_176 (dk_at dksX1_trial_0 11 rfl rfl)
abbrev cX1_run : ByteArray := prog_1_method_45_code
def yX1_run : MethodName := ⟨RX1, "run", "(LTaleDuel$State;I)Z"⟩
def dkwX1_run_10 : List UInt8 := [167, 0, 4, 3, 172]
abbrev dktX1_run_10 : List UInt8 := dkwX1_run_10 ++ []
def dkwX1_run_9 : List UInt8 := [198, 0, 23, 43, 180, 0, 102, 180, 0, 190, 21, 4, 50, 180, 0, 202, 154, 0, 7, 4, 167, 0, 8, 3]
abbrev dktX1_run_9 : List UInt8 := dkwX1_run_9 ++ dktX1_run_10
def dkwX1_run_8 : List UInt8 := [21, 4, 184, 1, 64, 167, 0, 47, 29, 154, 0, 38, 21, 4, 184, 0, 138, 153, 0, 30, 43, 180, 0, 102]
abbrev dktX1_run_8 : List UInt8 := dkwX1_run_8 ++ dktX1_run_9
def dkwX1_run_7 : List UInt8 := [180, 0, 102, 182, 0, 128, 21, 5, 184, 1, 40, 153, 0, 7, 4, 167, 0, 61, 3, 167, 0, 57, 43, 29]
abbrev dktX1_run_7 : List UInt8 := dkwX1_run_7 ++ dktX1_run_8
def dkwX1_run_6 : List UInt8 := [184, 1, 60, 167, 0, 95, 21, 5, 184, 0, 141, 153, 0, 29, 43, 180, 0, 102, 198, 0, 22, 43]
abbrev dktX1_run_6 : List UInt8 := dkwX1_run_6 ++ dktX1_run_7
def dkwX1_run_5 : List UInt8 := [154, 0, 16, 43, 21, 4, 184, 1, 57, 153, 0, 7, 4, 167, 0, 109, 3, 167, 0, 105, 43, 29, 21, 4]
abbrev dktX1_run_5 : List UInt8 := dkwX1_run_5 ++ dktX1_run_6
def dkwX1_run_4 : List UInt8 := [167, 0, 146, 21, 5, 154, 0, 14, 43, 184, 1, 54, 153, 0, 7, 4, 167, 0, 130, 3, 167, 0, 126, 29]
abbrev dktX1_run_4 : List UInt8 := dkwX1_run_4 ++ dktX1_run_5
def dkwX1_run_3 : List UInt8 := [184, 1, 47, 167, 0, 166, 21, 5, 154, 0, 14, 43, 184, 1, 51, 153, 0, 7, 4, 167, 0, 150, 3]
abbrev dktX1_run_3 : List UInt8 := dkwX1_run_3 ++ dktX1_run_4
def dkwX1_run_2 : List UInt8 := [21, 5, 154, 0, 15, 42, 43, 182, 1, 43, 153, 0, 7, 4, 167, 0, 179, 3, 167, 0, 175, 43, 21, 5]
abbrev dktX1_run_2 : List UInt8 := dkwX1_run_2 ++ dktX1_run_3
def dkwX1_run_1 : List UInt8 := [170, 0, 0, 0, 0, 0, 0, 244, 0, 0, 0, 1, 0, 0, 0, 9, 0, 0, 0, 52, 0, 0, 0, 73, 0, 0, 0, 82, 0, 0, 0, 102, 0, 0, 0, 122, 0, 0, 0, 143, 0, 0, 0, 153, 0, 0, 0, 191, 0, 0, 0, 201]
abbrev dktX1_run_1 : List UInt8 := dkwX1_run_1 ++ dktX1_run_2
def dkwX1_run_0 : List UInt8 := [28, 16, 10, 108, 16, 10, 112, 62, 28, 16, 10, 112, 54, 4, 28, 16, 100, 112, 54, 5, 28, 16, 100, 108]
abbrev dktX1_run_0 : List UInt8 := dkwX1_run_0 ++ dktX1_run_1
theorem dksX1_run_0 : cX1_run.data.toList.drop 0 = dktX1_run_0 := by decide +kernel
theorem dksX1_run_1 : cX1_run.data.toList.drop 24 = dktX1_run_1 := dk_seg dksX1_run_0 24 rfl rfl
theorem dksX1_run_2 : cX1_run.data.toList.drop 76 = dktX1_run_2 := dk_seg dksX1_run_1 52 rfl rfl
theorem dksX1_run_3 : cX1_run.data.toList.drop 100 = dktX1_run_3 := dk_seg dksX1_run_2 24 rfl rfl
theorem dksX1_run_4 : cX1_run.data.toList.drop 123 = dktX1_run_4 := dk_seg dksX1_run_3 23 rfl rfl
theorem dksX1_run_5 : cX1_run.data.toList.drop 147 = dktX1_run_5 := dk_seg dksX1_run_4 24 rfl rfl
theorem dksX1_run_6 : cX1_run.data.toList.drop 171 = dktX1_run_6 := dk_seg dksX1_run_5 24 rfl rfl
theorem dksX1_run_7 : cX1_run.data.toList.drop 193 = dktX1_run_7 := dk_seg dksX1_run_6 22 rfl rfl
theorem dksX1_run_8 : cX1_run.data.toList.drop 217 = dktX1_run_8 := dk_seg dksX1_run_7 24 rfl rfl
theorem dksX1_run_9 : cX1_run.data.toList.drop 241 = dktX1_run_9 := dk_seg dksX1_run_8 24 rfl rfl
theorem dksX1_run_10 : cX1_run.data.toList.drop 265 = dktX1_run_10 := dk_seg dksX1_run_9 24 rfl rfl
theorem dX1_run_0 : decode cX1_run 0 = .ok (.iload_n 2, 1) := dk_28 (dk_at dksX1_run_0 0 rfl rfl)
theorem dX1_run_1 : decode cX1_run 1 = .ok (.bipush 10, 2) := dk_16 10 (dk_at dksX1_run_0 1 rfl rfl)
theorem dX1_run_3 : decode cX1_run 3 = .ok (.idiv, 1) := dk_108 (dk_at dksX1_run_0 3 rfl rfl)
theorem dX1_run_4 : decode cX1_run 4 = .ok (.bipush 10, 2) := dk_16 10 (dk_at dksX1_run_0 4 rfl rfl)
theorem dX1_run_6 : decode cX1_run 6 = .ok (.irem, 1) := dk_112 (dk_at dksX1_run_0 6 rfl rfl)
theorem dX1_run_7 : decode cX1_run 7 = .ok (.istore_n 3, 1) := dk_62 (dk_at dksX1_run_0 7 rfl rfl)
theorem dX1_run_8 : decode cX1_run 8 = .ok (.iload_n 2, 1) := dk_28 (dk_at dksX1_run_0 8 rfl rfl)
theorem dX1_run_9 : decode cX1_run 9 = .ok (.bipush 10, 2) := dk_16 10 (dk_at dksX1_run_0 9 rfl rfl)
theorem dX1_run_11 : decode cX1_run 11 = .ok (.irem, 1) := dk_112 (dk_at dksX1_run_0 11 rfl rfl)
theorem dX1_run_12 : decode cX1_run 12 = .ok (.istore 4, 2) := dk_54 4 (dk_at dksX1_run_0 12 rfl rfl)
theorem dX1_run_14 : decode cX1_run 14 = .ok (.iload_n 2, 1) := dk_28 (dk_at dksX1_run_0 14 rfl rfl)
theorem dX1_run_15 : decode cX1_run 15 = .ok (.bipush 100, 2) := dk_16 100 (dk_at dksX1_run_0 15 rfl rfl)
theorem dX1_run_17 : decode cX1_run 17 = .ok (.irem, 1) := dk_112 (dk_at dksX1_run_0 17 rfl rfl)
theorem dX1_run_18 : decode cX1_run 18 = .ok (.istore 5, 2) := dk_54 5 (dk_at dksX1_run_0 18 rfl rfl)
theorem dX1_run_20 : decode cX1_run 20 = .ok (.iload_n 2, 1) := dk_28 (dk_at dksX1_run_0 20 rfl rfl)
theorem dX1_run_21 : decode cX1_run 21 = .ok (.bipush 100, 2) := dk_16 100 (dk_at dksX1_run_0 21 rfl rfl)
theorem dX1_run_23 : decode cX1_run 23 = .ok (.idiv, 1) := dk_108 (dk_at dksX1_run_0 23 rfl rfl)
theorem dX1_run_24 : decode cX1_run 24 = .ok (.tableswitch 244 1 9 #[52, 73, 82, 102, 122, 143, 153, 191, 201], 52) := by decide +kernel
theorem dX1_run_76 : decode cX1_run 76 = .ok (.iload 5, 2) := dk_21 5 (dk_at dksX1_run_2 0 rfl rfl)
theorem dX1_run_78 : decode cX1_run 78 = .ok (.ifCond .ne 15, 3) := dk_154 0 15 (dk_at dksX1_run_2 2 rfl rfl)
theorem dX1_run_81 : decode cX1_run 81 = .ok (.aload_n 0, 1) := dk_42 (dk_at dksX1_run_2 5 rfl rfl)
theorem dX1_run_82 : decode cX1_run 82 = .ok (.aload_n 1, 1) := dk_43 (dk_at dksX1_run_2 6 rfl rfl)
theorem dX1_run_83 : decode cX1_run 83 = .ok (.invokevirtual 299, 3) := dk_182 1 43 (dk_at dksX1_run_2 7 rfl rfl)
theorem dX1_run_86 : decode cX1_run 86 = .ok (.ifCond .eq 7, 3) := dk_153 0 7 (dk_at dksX1_run_2 10 rfl rfl)
theorem dX1_run_89 : decode cX1_run 89 = .ok (.iconst 1, 1) := dk_4 (dk_at dksX1_run_2 13 rfl rfl)
theorem dX1_run_90 : decode cX1_run 90 = .ok (.goto 179, 3) := dk_167 0 179 (dk_at dksX1_run_2 14 rfl rfl)
theorem dX1_run_93 : decode cX1_run 93 = .ok (.iconst 0, 1) := dk_3 (dk_at dksX1_run_2 17 rfl rfl)
theorem dX1_run_94 : decode cX1_run 94 = .ok (.goto 175, 3) := dk_167 0 175 (dk_at dksX1_run_2 18 rfl rfl)
theorem dX1_run_97 : decode cX1_run 97 = .ok (.aload_n 1, 1) := dk_43 (dk_at dksX1_run_2 21 rfl rfl)
theorem dX1_run_98 : decode cX1_run 98 = .ok (.iload 5, 2) := dk_21 5 (dk_at dksX1_run_2 22 rfl rfl)
theorem dX1_run_100 : decode cX1_run 100 = .ok (.invokestatic 303, 3) := dk_184 1 47 (dk_at dksX1_run_3 0 rfl rfl)
theorem dX1_run_103 : decode cX1_run 103 = .ok (.goto 166, 3) := dk_167 0 166 (dk_at dksX1_run_3 3 rfl rfl)
theorem dX1_run_106 : decode cX1_run 106 = .ok (.iload 5, 2) := dk_21 5 (dk_at dksX1_run_3 6 rfl rfl)
theorem dX1_run_108 : decode cX1_run 108 = .ok (.ifCond .ne 14, 3) := dk_154 0 14 (dk_at dksX1_run_3 8 rfl rfl)
theorem dX1_run_111 : decode cX1_run 111 = .ok (.aload_n 1, 1) := dk_43 (dk_at dksX1_run_3 11 rfl rfl)
theorem dX1_run_112 : decode cX1_run 112 = .ok (.invokestatic 307, 3) := dk_184 1 51 (dk_at dksX1_run_3 12 rfl rfl)
theorem dX1_run_115 : decode cX1_run 115 = .ok (.ifCond .eq 7, 3) := dk_153 0 7 (dk_at dksX1_run_3 15 rfl rfl)
theorem dX1_run_118 : decode cX1_run 118 = .ok (.iconst 1, 1) := dk_4 (dk_at dksX1_run_3 18 rfl rfl)
theorem dX1_run_119 : decode cX1_run 119 = .ok (.goto 150, 3) := dk_167 0 150 (dk_at dksX1_run_3 19 rfl rfl)
theorem dX1_run_122 : decode cX1_run 122 = .ok (.iconst 0, 1) := dk_3 (dk_at dksX1_run_3 22 rfl rfl)
theorem dX1_run_123 : decode cX1_run 123 = .ok (.goto 146, 3) := dk_167 0 146 (dk_at dksX1_run_4 0 rfl rfl)
theorem dX1_run_126 : decode cX1_run 126 = .ok (.iload 5, 2) := dk_21 5 (dk_at dksX1_run_4 3 rfl rfl)
theorem dX1_run_128 : decode cX1_run 128 = .ok (.ifCond .ne 14, 3) := dk_154 0 14 (dk_at dksX1_run_4 5 rfl rfl)
theorem dX1_run_131 : decode cX1_run 131 = .ok (.aload_n 1, 1) := dk_43 (dk_at dksX1_run_4 8 rfl rfl)
theorem dX1_run_132 : decode cX1_run 132 = .ok (.invokestatic 310, 3) := dk_184 1 54 (dk_at dksX1_run_4 9 rfl rfl)
theorem dX1_run_135 : decode cX1_run 135 = .ok (.ifCond .eq 7, 3) := dk_153 0 7 (dk_at dksX1_run_4 12 rfl rfl)
theorem dX1_run_138 : decode cX1_run 138 = .ok (.iconst 1, 1) := dk_4 (dk_at dksX1_run_4 15 rfl rfl)
theorem dX1_run_139 : decode cX1_run 139 = .ok (.goto 130, 3) := dk_167 0 130 (dk_at dksX1_run_4 16 rfl rfl)
theorem dX1_run_142 : decode cX1_run 142 = .ok (.iconst 0, 1) := dk_3 (dk_at dksX1_run_4 19 rfl rfl)
theorem dX1_run_143 : decode cX1_run 143 = .ok (.goto 126, 3) := dk_167 0 126 (dk_at dksX1_run_4 20 rfl rfl)
theorem dX1_run_146 : decode cX1_run 146 = .ok (.iload_n 3, 1) := dk_29 (dk_at dksX1_run_4 23 rfl rfl)
theorem dX1_run_147 : decode cX1_run 147 = .ok (.ifCond .ne 16, 3) := dk_154 0 16 (dk_at dksX1_run_5 0 rfl rfl)
theorem dX1_run_150 : decode cX1_run 150 = .ok (.aload_n 1, 1) := dk_43 (dk_at dksX1_run_5 3 rfl rfl)
theorem dX1_run_151 : decode cX1_run 151 = .ok (.iload 4, 2) := dk_21 4 (dk_at dksX1_run_5 4 rfl rfl)
theorem dX1_run_153 : decode cX1_run 153 = .ok (.invokestatic 313, 3) := dk_184 1 57 (dk_at dksX1_run_5 6 rfl rfl)
theorem dX1_run_156 : decode cX1_run 156 = .ok (.ifCond .eq 7, 3) := dk_153 0 7 (dk_at dksX1_run_5 9 rfl rfl)
theorem dX1_run_159 : decode cX1_run 159 = .ok (.iconst 1, 1) := dk_4 (dk_at dksX1_run_5 12 rfl rfl)
theorem dX1_run_160 : decode cX1_run 160 = .ok (.goto 109, 3) := dk_167 0 109 (dk_at dksX1_run_5 13 rfl rfl)
theorem dX1_run_163 : decode cX1_run 163 = .ok (.iconst 0, 1) := dk_3 (dk_at dksX1_run_5 16 rfl rfl)
theorem dX1_run_164 : decode cX1_run 164 = .ok (.goto 105, 3) := dk_167 0 105 (dk_at dksX1_run_5 17 rfl rfl)
theorem dX1_run_167 : decode cX1_run 167 = .ok (.aload_n 1, 1) := dk_43 (dk_at dksX1_run_5 20 rfl rfl)
theorem dX1_run_168 : decode cX1_run 168 = .ok (.iload_n 3, 1) := dk_29 (dk_at dksX1_run_5 21 rfl rfl)
theorem dX1_run_169 : decode cX1_run 169 = .ok (.iload 4, 2) := dk_21 4 (dk_at dksX1_run_5 22 rfl rfl)
theorem dX1_run_171 : decode cX1_run 171 = .ok (.invokestatic 316, 3) := dk_184 1 60 (dk_at dksX1_run_6 0 rfl rfl)
theorem dX1_run_174 : decode cX1_run 174 = .ok (.goto 95, 3) := dk_167 0 95 (dk_at dksX1_run_6 3 rfl rfl)
theorem dX1_run_177 : decode cX1_run 177 = .ok (.iload 5, 2) := dk_21 5 (dk_at dksX1_run_6 6 rfl rfl)
theorem dX1_run_179 : decode cX1_run 179 = .ok (.invokestatic 141, 3) := dk_184 0 141 (dk_at dksX1_run_6 8 rfl rfl)
theorem dX1_run_182 : decode cX1_run 182 = .ok (.ifCond .eq 29, 3) := dk_153 0 29 (dk_at dksX1_run_6 11 rfl rfl)
theorem dX1_run_185 : decode cX1_run 185 = .ok (.aload_n 1, 1) := dk_43 (dk_at dksX1_run_6 14 rfl rfl)
theorem dX1_run_186 : decode cX1_run 186 = .ok (.getfield 102, 3) := dk_180 0 102 (dk_at dksX1_run_6 15 rfl rfl)
theorem dX1_run_189 : decode cX1_run 189 = .ok (.ifnull 22, 3) := dk_198 0 22 (dk_at dksX1_run_6 18 rfl rfl)
theorem dX1_run_192 : decode cX1_run 192 = .ok (.aload_n 1, 1) := dk_43 (dk_at dksX1_run_6 21 rfl rfl)
theorem dX1_run_193 : decode cX1_run 193 = .ok (.getfield 102, 3) := dk_180 0 102 (dk_at dksX1_run_7 0 rfl rfl)
theorem dX1_run_196 : decode cX1_run 196 = .ok (.invokevirtual 128, 3) := dk_182 0 128 (dk_at dksX1_run_7 3 rfl rfl)
theorem dX1_run_199 : decode cX1_run 199 = .ok (.iload 5, 2) := dk_21 5 (dk_at dksX1_run_7 6 rfl rfl)
theorem dX1_run_201 : decode cX1_run 201 = .ok (.invokestatic 296, 3) := dk_184 1 40 (dk_at dksX1_run_7 8 rfl rfl)
theorem dX1_run_204 : decode cX1_run 204 = .ok (.ifCond .eq 7, 3) := dk_153 0 7 (dk_at dksX1_run_7 11 rfl rfl)
theorem dX1_run_207 : decode cX1_run 207 = .ok (.iconst 1, 1) := dk_4 (dk_at dksX1_run_7 14 rfl rfl)
theorem dX1_run_208 : decode cX1_run 208 = .ok (.goto 61, 3) := dk_167 0 61 (dk_at dksX1_run_7 15 rfl rfl)
theorem dX1_run_211 : decode cX1_run 211 = .ok (.iconst 0, 1) := dk_3 (dk_at dksX1_run_7 18 rfl rfl)
theorem dX1_run_212 : decode cX1_run 212 = .ok (.goto 57, 3) := dk_167 0 57 (dk_at dksX1_run_7 19 rfl rfl)
theorem dX1_run_215 : decode cX1_run 215 = .ok (.aload_n 1, 1) := dk_43 (dk_at dksX1_run_7 22 rfl rfl)
theorem dX1_run_216 : decode cX1_run 216 = .ok (.iload_n 3, 1) := dk_29 (dk_at dksX1_run_7 23 rfl rfl)
theorem dX1_run_217 : decode cX1_run 217 = .ok (.iload 4, 2) := dk_21 4 (dk_at dksX1_run_8 0 rfl rfl)
theorem dX1_run_219 : decode cX1_run 219 = .ok (.invokestatic 320, 3) := dk_184 1 64 (dk_at dksX1_run_8 2 rfl rfl)
theorem dX1_run_222 : decode cX1_run 222 = .ok (.goto 47, 3) := dk_167 0 47 (dk_at dksX1_run_8 5 rfl rfl)
theorem dX1_run_225 : decode cX1_run 225 = .ok (.iload_n 3, 1) := dk_29 (dk_at dksX1_run_8 8 rfl rfl)
theorem dX1_run_226 : decode cX1_run 226 = .ok (.ifCond .ne 38, 3) := dk_154 0 38 (dk_at dksX1_run_8 9 rfl rfl)
theorem dX1_run_229 : decode cX1_run 229 = .ok (.iload 4, 2) := dk_21 4 (dk_at dksX1_run_8 12 rfl rfl)
theorem dX1_run_231 : decode cX1_run 231 = .ok (.invokestatic 138, 3) := dk_184 0 138 (dk_at dksX1_run_8 14 rfl rfl)
theorem dX1_run_234 : decode cX1_run 234 = .ok (.ifCond .eq 30, 3) := dk_153 0 30 (dk_at dksX1_run_8 17 rfl rfl)
theorem dX1_run_237 : decode cX1_run 237 = .ok (.aload_n 1, 1) := dk_43 (dk_at dksX1_run_8 20 rfl rfl)
theorem dX1_run_238 : decode cX1_run 238 = .ok (.getfield 102, 3) := dk_180 0 102 (dk_at dksX1_run_8 21 rfl rfl)
theorem dX1_run_241 : decode cX1_run 241 = .ok (.ifnull 23, 3) := dk_198 0 23 (dk_at dksX1_run_9 0 rfl rfl)
theorem dX1_run_244 : decode cX1_run 244 = .ok (.aload_n 1, 1) := dk_43 (dk_at dksX1_run_9 3 rfl rfl)
theorem dX1_run_245 : decode cX1_run 245 = .ok (.getfield 102, 3) := dk_180 0 102 (dk_at dksX1_run_9 4 rfl rfl)
theorem dX1_run_248 : decode cX1_run 248 = .ok (.getfield 190, 3) := dk_180 0 190 (dk_at dksX1_run_9 7 rfl rfl)
theorem dX1_run_251 : decode cX1_run 251 = .ok (.iload 4, 2) := dk_21 4 (dk_at dksX1_run_9 10 rfl rfl)
theorem dX1_run_253 : decode cX1_run 253 = .ok (.aaload, 1) := dk_50 (dk_at dksX1_run_9 12 rfl rfl)
theorem dX1_run_254 : decode cX1_run 254 = .ok (.getfield 202, 3) := dk_180 0 202 (dk_at dksX1_run_9 13 rfl rfl)
theorem dX1_run_257 : decode cX1_run 257 = .ok (.ifCond .ne 7, 3) := dk_154 0 7 (dk_at dksX1_run_9 16 rfl rfl)
theorem dX1_run_260 : decode cX1_run 260 = .ok (.iconst 1, 1) := dk_4 (dk_at dksX1_run_9 19 rfl rfl)
theorem dX1_run_261 : decode cX1_run 261 = .ok (.goto 8, 3) := dk_167 0 8 (dk_at dksX1_run_9 20 rfl rfl)
theorem dX1_run_264 : decode cX1_run 264 = .ok (.iconst 0, 1) := dk_3 (dk_at dksX1_run_9 23 rfl rfl)
theorem dX1_run_265 : decode cX1_run 265 = .ok (.goto 4, 3) := dk_167 0 4 (dk_at dksX1_run_10 0 rfl rfl)
theorem dX1_run_268 : decode cX1_run 268 = .ok (.iconst 0, 1) := dk_3 (dk_at dksX1_run_10 3 rfl rfl)
theorem dX1_run_269 : decode cX1_run 269 = .ok (.ireturn, 1) := dk_172 (dk_at dksX1_run_10 4 rfl rfl)
abbrev cX1_runTell : ByteArray := prog_1_method_38_code
def yX1_runTell : MethodName := ⟨RX1, "runTell", "(LTaleDuel$State;)Z"⟩
def dkwX1_runTell_1 : List UInt8 := [182, 0, 242, 155, 0, 7, 4, 167, 0, 4, 3, 172]
abbrev dktX1_runTell_1 : List UInt8 := dkwX1_runTell_1 ++ []
def dkwX1_runTell_0 : List UInt8 := [43, 42, 180, 0, 57, 182, 0, 234, 153, 0, 24, 43, 180, 0, 102, 42, 180, 0, 57, 182, 0, 238]
abbrev dktX1_runTell_0 : List UInt8 := dkwX1_runTell_0 ++ dktX1_runTell_1
theorem dksX1_runTell_0 : cX1_runTell.data.toList.drop 0 = dktX1_runTell_0 := by decide +kernel
theorem dksX1_runTell_1 : cX1_runTell.data.toList.drop 22 = dktX1_runTell_1 := dk_seg dksX1_runTell_0 22 rfl rfl
theorem dX1_runTell_0 : decode cX1_runTell 0 = .ok (.aload_n 1, 1) := dk_43 (dk_at dksX1_runTell_0 0 rfl rfl)
theorem dX1_runTell_1 : decode cX1_runTell 1 = .ok (.aload_n 0, 1) := dk_42 (dk_at dksX1_runTell_0 1 rfl rfl)
theorem dX1_runTell_2 : decode cX1_runTell 2 = .ok (.getfield 57, 3) := dk_180 0 57 (dk_at dksX1_runTell_0 2 rfl rfl)
theorem dX1_runTell_5 : decode cX1_runTell 5 = .ok (.invokevirtual 234, 3) := dk_182 0 234 (dk_at dksX1_runTell_0 5 rfl rfl)
theorem dX1_runTell_8 : decode cX1_runTell 8 = .ok (.ifCond .eq 24, 3) := dk_153 0 24 (dk_at dksX1_runTell_0 8 rfl rfl)
theorem dX1_runTell_11 : decode cX1_runTell 11 = .ok (.aload_n 1, 1) := dk_43 (dk_at dksX1_runTell_0 11 rfl rfl)
theorem dX1_runTell_12 : decode cX1_runTell 12 = .ok (.getfield 102, 3) := dk_180 0 102 (dk_at dksX1_runTell_0 12 rfl rfl)
theorem dX1_runTell_15 : decode cX1_runTell 15 = .ok (.aload_n 0, 1) := dk_42 (dk_at dksX1_runTell_0 15 rfl rfl)
theorem dX1_runTell_16 : decode cX1_runTell 16 = .ok (.getfield 57, 3) := dk_180 0 57 (dk_at dksX1_runTell_0 16 rfl rfl)
theorem dX1_runTell_19 : decode cX1_runTell 19 = .ok (.invokevirtual 238, 3) := dk_182 0 238 (dk_at dksX1_runTell_0 19 rfl rfl)
theorem dX1_runTell_22 : decode cX1_runTell 22 = .ok (.invokevirtual 242, 3) := dk_182 0 242 (dk_at dksX1_runTell_1 0 rfl rfl)
theorem dX1_runTell_25 : decode cX1_runTell 25 = .ok (.ifCond .lt 7, 3) := dk_155 0 7 (dk_at dksX1_runTell_1 3 rfl rfl)
theorem dX1_runTell_28 : decode cX1_runTell 28 = .ok (.iconst 1, 1) := dk_4 (dk_at dksX1_runTell_1 6 rfl rfl)
theorem dX1_runTell_29 : decode cX1_runTell 29 = .ok (.goto 4, 3) := dk_167 0 4 (dk_at dksX1_runTell_1 7 rfl rfl)
theorem dX1_runTell_32 : decode cX1_runTell 32 = .ok (.iconst 0, 1) := dk_3 (dk_at dksX1_runTell_1 10 rfl rfl)
theorem dX1_runTell_33 : decode cX1_runTell 33 = .ok (.ireturn, 1) := dk_172 (dk_at dksX1_runTell_1 11 rfl rfl)
abbrev cX1_runForbid : ByteArray := prog_1_method_39_code
def yX1_runForbid : MethodName := ⟨RX1, "runForbid", "(LTaleDuel$State;I)Z"⟩
def dkwX1_runForbid_1 : List UInt8 := [158, 0, 7, 4, 167, 0, 4, 3, 172]
abbrev dktX1_runForbid_1 : List UInt8 := dkwX1_runForbid_1 ++ []
def dkwX1_runForbid_0 : List UInt8 := [27, 184, 0, 141, 153, 0, 26, 42, 27, 182, 0, 249, 153, 0, 18, 42, 180, 0, 102, 27, 182, 0, 252]
abbrev dktX1_runForbid_0 : List UInt8 := dkwX1_runForbid_0 ++ dktX1_runForbid_1
theorem dksX1_runForbid_0 : cX1_runForbid.data.toList.drop 0 = dktX1_runForbid_0 := by decide +kernel
theorem dksX1_runForbid_1 : cX1_runForbid.data.toList.drop 23 = dktX1_runForbid_1 := dk_seg dksX1_runForbid_0 23 rfl rfl
theorem dX1_runForbid_0 : decode cX1_runForbid 0 = .ok (.iload_n 1, 1) := dk_27 (dk_at dksX1_runForbid_0 0 rfl rfl)
theorem dX1_runForbid_1 : decode cX1_runForbid 1 = .ok (.invokestatic 141, 3) := dk_184 0 141 (dk_at dksX1_runForbid_0 1 rfl rfl)
theorem dX1_runForbid_4 : decode cX1_runForbid 4 = .ok (.ifCond .eq 26, 3) := dk_153 0 26 (dk_at dksX1_runForbid_0 4 rfl rfl)
theorem dX1_runForbid_7 : decode cX1_runForbid 7 = .ok (.aload_n 0, 1) := dk_42 (dk_at dksX1_runForbid_0 7 rfl rfl)
theorem dX1_runForbid_8 : decode cX1_runForbid 8 = .ok (.iload_n 1, 1) := dk_27 (dk_at dksX1_runForbid_0 8 rfl rfl)
theorem dX1_runForbid_9 : decode cX1_runForbid 9 = .ok (.invokevirtual 249, 3) := dk_182 0 249 (dk_at dksX1_runForbid_0 9 rfl rfl)
theorem dX1_runForbid_12 : decode cX1_runForbid 12 = .ok (.ifCond .eq 18, 3) := dk_153 0 18 (dk_at dksX1_runForbid_0 12 rfl rfl)
theorem dX1_runForbid_15 : decode cX1_runForbid 15 = .ok (.aload_n 0, 1) := dk_42 (dk_at dksX1_runForbid_0 15 rfl rfl)
theorem dX1_runForbid_16 : decode cX1_runForbid 16 = .ok (.getfield 102, 3) := dk_180 0 102 (dk_at dksX1_runForbid_0 16 rfl rfl)
theorem dX1_runForbid_19 : decode cX1_runForbid 19 = .ok (.iload_n 1, 1) := dk_27 (dk_at dksX1_runForbid_0 19 rfl rfl)
theorem dX1_runForbid_20 : decode cX1_runForbid 20 = .ok (.invokevirtual 252, 3) := dk_182 0 252 (dk_at dksX1_runForbid_0 20 rfl rfl)
theorem dX1_runForbid_23 : decode cX1_runForbid 23 = .ok (.ifCond .le 7, 3) := dk_158 0 7 (dk_at dksX1_runForbid_1 0 rfl rfl)
theorem dX1_runForbid_26 : decode cX1_runForbid 26 = .ok (.iconst 1, 1) := dk_4 (dk_at dksX1_runForbid_1 3 rfl rfl)
theorem dX1_runForbid_27 : decode cX1_runForbid 27 = .ok (.goto 4, 3) := dk_167 0 4 (dk_at dksX1_runForbid_1 4 rfl rfl)
theorem dX1_runForbid_30 : decode cX1_runForbid 30 = .ok (.iconst 0, 1) := dk_3 (dk_at dksX1_runForbid_1 7 rfl rfl)
theorem dX1_runForbid_31 : decode cX1_runForbid 31 = .ok (.ireturn, 1) := dk_172 (dk_at dksX1_runForbid_1 8 rfl rfl)
abbrev cX1_runDone : ByteArray := prog_1_method_40_code
def yX1_runDone : MethodName := ⟨RX1, "runDone", "(LTaleDuel$State;)Z"⟩
def dkwX1_runDone_0 : List UInt8 := [42, 182, 0, 255, 153, 0, 18, 42, 180, 0, 102, 182, 1, 3, 2, 161, 0, 7, 4, 167, 0, 4, 3, 172]
abbrev dktX1_runDone_0 : List UInt8 := dkwX1_runDone_0 ++ []
theorem dksX1_runDone_0 : cX1_runDone.data.toList.drop 0 = dktX1_runDone_0 := by decide +kernel
theorem dX1_runDone_0 : decode cX1_runDone 0 = .ok (.aload_n 0, 1) := dk_42 (dk_at dksX1_runDone_0 0 rfl rfl)
theorem dX1_runDone_1 : decode cX1_runDone 1 = .ok (.invokevirtual 255, 3) := dk_182 0 255 (dk_at dksX1_runDone_0 1 rfl rfl)
theorem dX1_runDone_4 : decode cX1_runDone 4 = .ok (.ifCond .eq 18, 3) := dk_153 0 18 (dk_at dksX1_runDone_0 4 rfl rfl)
theorem dX1_runDone_7 : decode cX1_runDone 7 = .ok (.aload_n 0, 1) := dk_42 (dk_at dksX1_runDone_0 7 rfl rfl)
theorem dX1_runDone_8 : decode cX1_runDone 8 = .ok (.getfield 102, 3) := dk_180 0 102 (dk_at dksX1_runDone_0 8 rfl rfl)
theorem dX1_runDone_11 : decode cX1_runDone 11 = .ok (.invokevirtual 259, 3) := dk_182 1 3 (dk_at dksX1_runDone_0 11 rfl rfl)
theorem dX1_runDone_14 : decode cX1_runDone 14 = .ok (.iconst (-1), 1) := dk_2 (dk_at dksX1_runDone_0 14 rfl rfl)
theorem dX1_runDone_15 : decode cX1_runDone 15 = .ok (.if_icmp .lt 7, 3) := dk_161 0 7 (dk_at dksX1_runDone_0 15 rfl rfl)
theorem dX1_runDone_18 : decode cX1_runDone 18 = .ok (.iconst 1, 1) := dk_4 (dk_at dksX1_runDone_0 18 rfl rfl)
theorem dX1_runDone_19 : decode cX1_runDone 19 = .ok (.goto 4, 3) := dk_167 0 4 (dk_at dksX1_runDone_0 19 rfl rfl)
theorem dX1_runDone_22 : decode cX1_runDone 22 = .ok (.iconst 0, 1) := dk_3 (dk_at dksX1_runDone_0 22 rfl rfl)
theorem dX1_runDone_23 : decode cX1_runDone 23 = .ok (.ireturn, 1) := dk_172 (dk_at dksX1_runDone_0 23 rfl rfl)
abbrev cX1_runPlay : ByteArray := prog_1_method_41_code
def yX1_runPlay : MethodName := ⟨RX1, "runPlay", "(LTaleDuel$State;)Z"⟩
def dkwX1_runPlay_0 : List UInt8 := [42, 182, 0, 255, 153, 0, 18, 42, 180, 0, 102, 182, 1, 6, 2, 161, 0, 7, 4, 167, 0, 4, 3, 172]
abbrev dktX1_runPlay_0 : List UInt8 := dkwX1_runPlay_0 ++ []
theorem dksX1_runPlay_0 : cX1_runPlay.data.toList.drop 0 = dktX1_runPlay_0 := by decide +kernel
theorem dX1_runPlay_0 : decode cX1_runPlay 0 = .ok (.aload_n 0, 1) := dk_42 (dk_at dksX1_runPlay_0 0 rfl rfl)
theorem dX1_runPlay_1 : decode cX1_runPlay 1 = .ok (.invokevirtual 255, 3) := dk_182 0 255 (dk_at dksX1_runPlay_0 1 rfl rfl)
theorem dX1_runPlay_4 : decode cX1_runPlay 4 = .ok (.ifCond .eq 18, 3) := dk_153 0 18 (dk_at dksX1_runPlay_0 4 rfl rfl)
theorem dX1_runPlay_7 : decode cX1_runPlay 7 = .ok (.aload_n 0, 1) := dk_42 (dk_at dksX1_runPlay_0 7 rfl rfl)
theorem dX1_runPlay_8 : decode cX1_runPlay 8 = .ok (.getfield 102, 3) := dk_180 0 102 (dk_at dksX1_runPlay_0 8 rfl rfl)
theorem dX1_runPlay_11 : decode cX1_runPlay 11 = .ok (.invokevirtual 262, 3) := dk_182 1 6 (dk_at dksX1_runPlay_0 11 rfl rfl)
theorem dX1_runPlay_14 : decode cX1_runPlay 14 = .ok (.iconst (-1), 1) := dk_2 (dk_at dksX1_runPlay_0 14 rfl rfl)
theorem dX1_runPlay_15 : decode cX1_runPlay 15 = .ok (.if_icmp .lt 7, 3) := dk_161 0 7 (dk_at dksX1_runPlay_0 15 rfl rfl)
theorem dX1_runPlay_18 : decode cX1_runPlay 18 = .ok (.iconst 1, 1) := dk_4 (dk_at dksX1_runPlay_0 18 rfl rfl)
theorem dX1_runPlay_19 : decode cX1_runPlay 19 = .ok (.goto 4, 3) := dk_167 0 4 (dk_at dksX1_runPlay_0 19 rfl rfl)
theorem dX1_runPlay_22 : decode cX1_runPlay 22 = .ok (.iconst 0, 1) := dk_3 (dk_at dksX1_runPlay_0 22 rfl rfl)
theorem dX1_runPlay_23 : decode cX1_runPlay 23 = .ok (.ireturn, 1) := dk_172 (dk_at dksX1_runPlay_0 23 rfl rfl)
abbrev cX1_runSet : ByteArray := prog_1_method_42_code
def yX1_runSet : MethodName := ⟨RX1, "runSet", "(LTaleDuel$State;I)Z"⟩
def dkwX1_runSet_0 : List UInt8 := [3, 27, 184, 1, 9, 153, 0, 16, 42, 3, 27, 182, 1, 13, 155, 0, 7, 4, 167, 0, 4, 3, 172]
abbrev dktX1_runSet_0 : List UInt8 := dkwX1_runSet_0 ++ []
theorem dksX1_runSet_0 : cX1_runSet.data.toList.drop 0 = dktX1_runSet_0 := by decide +kernel
theorem dX1_runSet_0 : decode cX1_runSet 0 = .ok (.iconst 0, 1) := dk_3 (dk_at dksX1_runSet_0 0 rfl rfl)
theorem dX1_runSet_1 : decode cX1_runSet 1 = .ok (.iload_n 1, 1) := dk_27 (dk_at dksX1_runSet_0 1 rfl rfl)
theorem dX1_runSet_2 : decode cX1_runSet 2 = .ok (.invokestatic 265, 3) := dk_184 1 9 (dk_at dksX1_runSet_0 2 rfl rfl)
theorem dX1_runSet_5 : decode cX1_runSet 5 = .ok (.ifCond .eq 16, 3) := dk_153 0 16 (dk_at dksX1_runSet_0 5 rfl rfl)
theorem dX1_runSet_8 : decode cX1_runSet 8 = .ok (.aload_n 0, 1) := dk_42 (dk_at dksX1_runSet_0 8 rfl rfl)
theorem dX1_runSet_9 : decode cX1_runSet 9 = .ok (.iconst 0, 1) := dk_3 (dk_at dksX1_runSet_0 9 rfl rfl)
theorem dX1_runSet_10 : decode cX1_runSet 10 = .ok (.iload_n 1, 1) := dk_27 (dk_at dksX1_runSet_0 10 rfl rfl)
theorem dX1_runSet_11 : decode cX1_runSet 11 = .ok (.invokevirtual 269, 3) := dk_182 1 13 (dk_at dksX1_runSet_0 11 rfl rfl)
theorem dX1_runSet_14 : decode cX1_runSet 14 = .ok (.ifCond .lt 7, 3) := dk_155 0 7 (dk_at dksX1_runSet_0 14 rfl rfl)
theorem dX1_runSet_17 : decode cX1_runSet 17 = .ok (.iconst 1, 1) := dk_4 (dk_at dksX1_runSet_0 17 rfl rfl)
theorem dX1_runSet_18 : decode cX1_runSet 18 = .ok (.goto 4, 3) := dk_167 0 4 (dk_at dksX1_runSet_0 18 rfl rfl)
theorem dX1_runSet_21 : decode cX1_runSet 21 = .ok (.iconst 0, 1) := dk_3 (dk_at dksX1_runSet_0 21 rfl rfl)
theorem dX1_runSet_22 : decode cX1_runSet 22 = .ok (.ireturn, 1) := dk_172 (dk_at dksX1_runSet_0 22 rfl rfl)
abbrev cX1_scores : ByteArray := prog_1_method_43_code
def yX1_scores : MethodName := ⟨RX1, "scores", "(LTaleDuel$State;II)Z"⟩
def dkwX1_scores_1 : List UInt8 := [180, 0, 150, 27, 50, 180, 0, 154, 28, 161, 0, 7, 4, 167, 0, 4, 3, 172]
abbrev dktX1_scores_1 : List UInt8 := dkwX1_scores_1 ++ []
def dkwX1_scores_0 : List UInt8 := [27, 184, 0, 131, 153, 0, 34, 42, 180, 0, 102, 199, 0, 7, 3, 167, 0, 15, 42, 180, 0, 102]
abbrev dktX1_scores_0 : List UInt8 := dkwX1_scores_0 ++ dktX1_scores_1
theorem dksX1_scores_0 : cX1_scores.data.toList.drop 0 = dktX1_scores_0 := by decide +kernel
theorem dksX1_scores_1 : cX1_scores.data.toList.drop 22 = dktX1_scores_1 := dk_seg dksX1_scores_0 22 rfl rfl
theorem dX1_scores_0 : decode cX1_scores 0 = .ok (.iload_n 1, 1) := dk_27 (dk_at dksX1_scores_0 0 rfl rfl)
theorem dX1_scores_1 : decode cX1_scores 1 = .ok (.invokestatic 131, 3) := dk_184 0 131 (dk_at dksX1_scores_0 1 rfl rfl)
theorem dX1_scores_4 : decode cX1_scores 4 = .ok (.ifCond .eq 34, 3) := dk_153 0 34 (dk_at dksX1_scores_0 4 rfl rfl)
theorem dX1_scores_7 : decode cX1_scores 7 = .ok (.aload_n 0, 1) := dk_42 (dk_at dksX1_scores_0 7 rfl rfl)
theorem dX1_scores_8 : decode cX1_scores 8 = .ok (.getfield 102, 3) := dk_180 0 102 (dk_at dksX1_scores_0 8 rfl rfl)
theorem dX1_scores_11 : decode cX1_scores 11 = .ok (.ifnonnull 7, 3) := dk_199 0 7 (dk_at dksX1_scores_0 11 rfl rfl)
theorem dX1_scores_14 : decode cX1_scores 14 = .ok (.iconst 0, 1) := dk_3 (dk_at dksX1_scores_0 14 rfl rfl)
theorem dX1_scores_15 : decode cX1_scores 15 = .ok (.goto 15, 3) := dk_167 0 15 (dk_at dksX1_scores_0 15 rfl rfl)
theorem dX1_scores_18 : decode cX1_scores 18 = .ok (.aload_n 0, 1) := dk_42 (dk_at dksX1_scores_0 18 rfl rfl)
theorem dX1_scores_19 : decode cX1_scores 19 = .ok (.getfield 102, 3) := dk_180 0 102 (dk_at dksX1_scores_0 19 rfl rfl)
theorem dX1_scores_22 : decode cX1_scores 22 = .ok (.getfield 150, 3) := dk_180 0 150 (dk_at dksX1_scores_1 0 rfl rfl)
theorem dX1_scores_25 : decode cX1_scores 25 = .ok (.iload_n 1, 1) := dk_27 (dk_at dksX1_scores_1 3 rfl rfl)
theorem dX1_scores_26 : decode cX1_scores 26 = .ok (.aaload, 1) := dk_50 (dk_at dksX1_scores_1 4 rfl rfl)
theorem dX1_scores_27 : decode cX1_scores 27 = .ok (.getfield 154, 3) := dk_180 0 154 (dk_at dksX1_scores_1 5 rfl rfl)
theorem dX1_scores_30 : decode cX1_scores 30 = .ok (.iload_n 2, 1) := dk_28 (dk_at dksX1_scores_1 8 rfl rfl)
theorem dX1_scores_31 : decode cX1_scores 31 = .ok (.if_icmp .lt 7, 3) := dk_161 0 7 (dk_at dksX1_scores_1 9 rfl rfl)
theorem dX1_scores_34 : decode cX1_scores 34 = .ok (.iconst 1, 1) := dk_4 (dk_at dksX1_scores_1 12 rfl rfl)
theorem dX1_scores_35 : decode cX1_scores 35 = .ok (.goto 4, 3) := dk_167 0 4 (dk_at dksX1_scores_1 13 rfl rfl)
theorem dX1_scores_38 : decode cX1_scores 38 = .ok (.iconst 0, 1) := dk_3 (dk_at dksX1_scores_1 16 rfl rfl)
theorem dX1_scores_39 : decode cX1_scores 39 = .ok (.ireturn, 1) := dk_172 (dk_at dksX1_scores_1 17 rfl rfl)
abbrev cX1_isForbidden : ByteArray := prog_1_method_44_code
def yX1_isForbidden : MethodName := ⟨RX1, "isForbidden", "(LTaleDuel$State;II)Z"⟩
def dkwX1_isForbidden_1 : List UInt8 := [182, 0, 159, 28, 184, 1, 40, 153, 0, 7, 4, 167, 0, 4, 3, 172]
abbrev dktX1_isForbidden_1 : List UInt8 := dkwX1_isForbidden_1 ++ []
def dkwX1_isForbidden_0 : List UInt8 := [27, 184, 0, 131, 153, 0, 33, 42, 180, 0, 102, 198, 0, 26, 42, 180, 0, 102, 180, 0, 150, 27, 50]
abbrev dktX1_isForbidden_0 : List UInt8 := dkwX1_isForbidden_0 ++ dktX1_isForbidden_1
theorem dksX1_isForbidden_0 : cX1_isForbidden.data.toList.drop 0 = dktX1_isForbidden_0 := by decide +kernel
theorem dksX1_isForbidden_1 : cX1_isForbidden.data.toList.drop 23 = dktX1_isForbidden_1 := dk_seg dksX1_isForbidden_0 23 rfl rfl
theorem dX1_isForbidden_0 : decode cX1_isForbidden 0 = .ok (.iload_n 1, 1) := dk_27 (dk_at dksX1_isForbidden_0 0 rfl rfl)
theorem dX1_isForbidden_1 : decode cX1_isForbidden 1 = .ok (.invokestatic 131, 3) := dk_184 0 131 (dk_at dksX1_isForbidden_0 1 rfl rfl)
theorem dX1_isForbidden_4 : decode cX1_isForbidden 4 = .ok (.ifCond .eq 33, 3) := dk_153 0 33 (dk_at dksX1_isForbidden_0 4 rfl rfl)
theorem dX1_isForbidden_7 : decode cX1_isForbidden 7 = .ok (.aload_n 0, 1) := dk_42 (dk_at dksX1_isForbidden_0 7 rfl rfl)
theorem dX1_isForbidden_8 : decode cX1_isForbidden 8 = .ok (.getfield 102, 3) := dk_180 0 102 (dk_at dksX1_isForbidden_0 8 rfl rfl)
theorem dX1_isForbidden_11 : decode cX1_isForbidden 11 = .ok (.ifnull 26, 3) := dk_198 0 26 (dk_at dksX1_isForbidden_0 11 rfl rfl)
theorem dX1_isForbidden_14 : decode cX1_isForbidden 14 = .ok (.aload_n 0, 1) := dk_42 (dk_at dksX1_isForbidden_0 14 rfl rfl)
theorem dX1_isForbidden_15 : decode cX1_isForbidden 15 = .ok (.getfield 102, 3) := dk_180 0 102 (dk_at dksX1_isForbidden_0 15 rfl rfl)
theorem dX1_isForbidden_18 : decode cX1_isForbidden 18 = .ok (.getfield 150, 3) := dk_180 0 150 (dk_at dksX1_isForbidden_0 18 rfl rfl)
theorem dX1_isForbidden_21 : decode cX1_isForbidden 21 = .ok (.iload_n 1, 1) := dk_27 (dk_at dksX1_isForbidden_0 21 rfl rfl)
theorem dX1_isForbidden_22 : decode cX1_isForbidden 22 = .ok (.aaload, 1) := dk_50 (dk_at dksX1_isForbidden_0 22 rfl rfl)
theorem dX1_isForbidden_23 : decode cX1_isForbidden 23 = .ok (.invokevirtual 159, 3) := dk_182 0 159 (dk_at dksX1_isForbidden_1 0 rfl rfl)
theorem dX1_isForbidden_26 : decode cX1_isForbidden 26 = .ok (.iload_n 2, 1) := dk_28 (dk_at dksX1_isForbidden_1 3 rfl rfl)
theorem dX1_isForbidden_27 : decode cX1_isForbidden 27 = .ok (.invokestatic 296, 3) := dk_184 1 40 (dk_at dksX1_isForbidden_1 4 rfl rfl)
theorem dX1_isForbidden_30 : decode cX1_isForbidden 30 = .ok (.ifCond .eq 7, 3) := dk_153 0 7 (dk_at dksX1_isForbidden_1 7 rfl rfl)
theorem dX1_isForbidden_33 : decode cX1_isForbidden 33 = .ok (.iconst 1, 1) := dk_4 (dk_at dksX1_isForbidden_1 10 rfl rfl)
theorem dX1_isForbidden_34 : decode cX1_isForbidden 34 = .ok (.goto 4, 3) := dk_167 0 4 (dk_at dksX1_isForbidden_1 11 rfl rfl)
theorem dX1_isForbidden_37 : decode cX1_isForbidden 37 = .ok (.iconst 0, 1) := dk_3 (dk_at dksX1_isForbidden_1 14 rfl rfl)
theorem dX1_isForbidden_38 : decode cX1_isForbidden 38 = .ok (.ireturn, 1) := dk_172 (dk_at dksX1_isForbidden_1 15 rfl rfl)
abbrev cX1_simulate : ByteArray := prog_1_method_48_code
def yX1_simulate : MethodName := ⟨RX1, "simulate", "(JI)I"⟩
def dkwX1_simulate_4 : List UInt8 := [25, 4, 180, 0, 102, 180, 0, 150, 4, 50, 180, 0, 154, 96, 172]
abbrev dktX1_simulate_4 : List UInt8 := dkwX1_simulate_4 ++ []
def dkwX1_simulate_3 : List UInt8 := [199, 0, 7, 3, 167, 0, 34, 17, 3, 232, 25, 4, 180, 0, 102, 180, 0, 150, 3, 50, 180, 0, 154, 104]
abbrev dktX1_simulate_3 : List UInt8 := dkwX1_simulate_3 ++ dktX1_simulate_4
def dkwX1_simulate_2 : List UInt8 := [55, 5, 25, 4, 22, 5, 16, 33, 125, 136, 184, 1, 85, 132, 7, 1, 167, 255, 216, 25, 4, 180, 0, 102]
abbrev dktX1_simulate_2 : List UInt8 := dkwX1_simulate_2 ++ dktX1_simulate_3
def dkwX1_simulate_1 : List UInt8 := [21, 7, 29, 162, 0, 40, 25, 4, 182, 0, 255, 153, 0, 32, 22, 5, 20, 1, 81, 105, 20, 1, 83, 97]
abbrev dktX1_simulate_1 : List UInt8 := dkwX1_simulate_1 ++ dktX1_simulate_2
def dkwX1_simulate_0 : List UInt8 := [29, 133, 10, 20, 1, 79, 184, 0, 15, 184, 0, 80, 42, 182, 1, 71, 58, 4, 31, 55, 5, 3, 54, 7]
abbrev dktX1_simulate_0 : List UInt8 := dkwX1_simulate_0 ++ dktX1_simulate_1
theorem dksX1_simulate_0 : cX1_simulate.data.toList.drop 0 = dktX1_simulate_0 := by decide +kernel
theorem dksX1_simulate_1 : cX1_simulate.data.toList.drop 24 = dktX1_simulate_1 := dk_seg dksX1_simulate_0 24 rfl rfl
theorem dksX1_simulate_2 : cX1_simulate.data.toList.drop 48 = dktX1_simulate_2 := dk_seg dksX1_simulate_1 24 rfl rfl
theorem dksX1_simulate_3 : cX1_simulate.data.toList.drop 72 = dktX1_simulate_3 := dk_seg dksX1_simulate_2 24 rfl rfl
theorem dksX1_simulate_4 : cX1_simulate.data.toList.drop 96 = dktX1_simulate_4 := dk_seg dksX1_simulate_3 24 rfl rfl
theorem dX1_simulate_0 : decode cX1_simulate 0 = .ok (.iload_n 3, 1) := dk_29 (dk_at dksX1_simulate_0 0 rfl rfl)
theorem dX1_simulate_1 : decode cX1_simulate 1 = .ok (.i2l, 1) := dk_133 (dk_at dksX1_simulate_0 1 rfl rfl)
theorem dX1_simulate_2 : decode cX1_simulate 2 = .ok (.lconst 1, 1) := dk_10 (dk_at dksX1_simulate_0 2 rfl rfl)
theorem dX1_simulate_3 : decode cX1_simulate 3 = .ok (.ldc2_w 335, 3) := dk_20 1 79 (dk_at dksX1_simulate_0 3 rfl rfl)
theorem dX1_simulate_6 : decode cX1_simulate 6 = .ok (.invokestatic 15, 3) := dk_184 0 15 (dk_at dksX1_simulate_0 6 rfl rfl)
theorem dX1_simulate_9 : decode cX1_simulate 9 = .ok (.invokestatic 80, 3) := dk_184 0 80 (dk_at dksX1_simulate_0 9 rfl rfl)
theorem dX1_simulate_12 : decode cX1_simulate 12 = .ok (.aload_n 0, 1) := dk_42 (dk_at dksX1_simulate_0 12 rfl rfl)
theorem dX1_simulate_13 : decode cX1_simulate 13 = .ok (.invokevirtual 327, 3) := dk_182 1 71 (dk_at dksX1_simulate_0 13 rfl rfl)
theorem dX1_simulate_16 : decode cX1_simulate 16 = .ok (.astore 4, 2) := dk_58 4 (dk_at dksX1_simulate_0 16 rfl rfl)
theorem dX1_simulate_18 : decode cX1_simulate 18 = .ok (.lload_n 1, 1) := dk_31 (dk_at dksX1_simulate_0 18 rfl rfl)
theorem dX1_simulate_19 : decode cX1_simulate 19 = .ok (.lstore 5, 2) := dk_55 5 (dk_at dksX1_simulate_0 19 rfl rfl)
theorem dX1_simulate_21 : decode cX1_simulate 21 = .ok (.iconst 0, 1) := dk_3 (dk_at dksX1_simulate_0 21 rfl rfl)
theorem dX1_simulate_22 : decode cX1_simulate 22 = .ok (.istore 7, 2) := dk_54 7 (dk_at dksX1_simulate_0 22 rfl rfl)
theorem dX1_simulate_24 : decode cX1_simulate 24 = .ok (.iload 7, 2) := dk_21 7 (dk_at dksX1_simulate_1 0 rfl rfl)
theorem dX1_simulate_26 : decode cX1_simulate 26 = .ok (.iload_n 3, 1) := dk_29 (dk_at dksX1_simulate_1 2 rfl rfl)
theorem dX1_simulate_27 : decode cX1_simulate 27 = .ok (.if_icmp .ge 40, 3) := dk_162 0 40 (dk_at dksX1_simulate_1 3 rfl rfl)
theorem dX1_simulate_30 : decode cX1_simulate 30 = .ok (.aload 4, 2) := dk_25 4 (dk_at dksX1_simulate_1 6 rfl rfl)
theorem dX1_simulate_32 : decode cX1_simulate 32 = .ok (.invokevirtual 255, 3) := dk_182 0 255 (dk_at dksX1_simulate_1 8 rfl rfl)
theorem dX1_simulate_35 : decode cX1_simulate 35 = .ok (.ifCond .eq 32, 3) := dk_153 0 32 (dk_at dksX1_simulate_1 11 rfl rfl)
theorem dX1_simulate_38 : decode cX1_simulate 38 = .ok (.lload 5, 2) := dk_22 5 (dk_at dksX1_simulate_1 14 rfl rfl)
theorem dX1_simulate_40 : decode cX1_simulate 40 = .ok (.ldc2_w 337, 3) := dk_20 1 81 (dk_at dksX1_simulate_1 16 rfl rfl)
theorem dX1_simulate_43 : decode cX1_simulate 43 = .ok (.lmul, 1) := dk_105 (dk_at dksX1_simulate_1 19 rfl rfl)
theorem dX1_simulate_44 : decode cX1_simulate 44 = .ok (.ldc2_w 339, 3) := dk_20 1 83 (dk_at dksX1_simulate_1 20 rfl rfl)
theorem dX1_simulate_47 : decode cX1_simulate 47 = .ok (.ladd, 1) := dk_97 (dk_at dksX1_simulate_1 23 rfl rfl)
theorem dX1_simulate_48 : decode cX1_simulate 48 = .ok (.lstore 5, 2) := dk_55 5 (dk_at dksX1_simulate_2 0 rfl rfl)
theorem dX1_simulate_50 : decode cX1_simulate 50 = .ok (.aload 4, 2) := dk_25 4 (dk_at dksX1_simulate_2 2 rfl rfl)
theorem dX1_simulate_52 : decode cX1_simulate 52 = .ok (.lload 5, 2) := dk_22 5 (dk_at dksX1_simulate_2 4 rfl rfl)
theorem dX1_simulate_54 : decode cX1_simulate 54 = .ok (.bipush 33, 2) := dk_16 33 (dk_at dksX1_simulate_2 6 rfl rfl)
theorem dX1_simulate_56 : decode cX1_simulate 56 = .ok (.lushr, 1) := dk_125 (dk_at dksX1_simulate_2 8 rfl rfl)
theorem dX1_simulate_57 : decode cX1_simulate 57 = .ok (.l2i, 1) := dk_136 (dk_at dksX1_simulate_2 9 rfl rfl)
theorem dX1_simulate_58 : decode cX1_simulate 58 = .ok (.invokestatic 341, 3) := dk_184 1 85 (dk_at dksX1_simulate_2 10 rfl rfl)
theorem dX1_simulate_61 : decode cX1_simulate 61 = .ok (.iinc 7 1, 3) := dk_132 7 1 (dk_at dksX1_simulate_2 13 rfl rfl)
theorem dX1_simulate_64 : decode cX1_simulate 64 = .ok (.goto (-40), 3) := dk_167 255 216 (dk_at dksX1_simulate_2 16 rfl rfl)
theorem dX1_simulate_67 : decode cX1_simulate 67 = .ok (.aload 4, 2) := dk_25 4 (dk_at dksX1_simulate_2 19 rfl rfl)
theorem dX1_simulate_69 : decode cX1_simulate 69 = .ok (.getfield 102, 3) := dk_180 0 102 (dk_at dksX1_simulate_2 21 rfl rfl)
theorem dX1_simulate_72 : decode cX1_simulate 72 = .ok (.ifnonnull 7, 3) := dk_199 0 7 (dk_at dksX1_simulate_3 0 rfl rfl)
theorem dX1_simulate_75 : decode cX1_simulate 75 = .ok (.iconst 0, 1) := dk_3 (dk_at dksX1_simulate_3 3 rfl rfl)
theorem dX1_simulate_76 : decode cX1_simulate 76 = .ok (.goto 34, 3) := dk_167 0 34 (dk_at dksX1_simulate_3 4 rfl rfl)
theorem dX1_simulate_79 : decode cX1_simulate 79 = .ok (.sipush 1000, 3) := dk_17 3 232 (dk_at dksX1_simulate_3 7 rfl rfl)
theorem dX1_simulate_82 : decode cX1_simulate 82 = .ok (.aload 4, 2) := dk_25 4 (dk_at dksX1_simulate_3 10 rfl rfl)
theorem dX1_simulate_84 : decode cX1_simulate 84 = .ok (.getfield 102, 3) := dk_180 0 102 (dk_at dksX1_simulate_3 12 rfl rfl)
theorem dX1_simulate_87 : decode cX1_simulate 87 = .ok (.getfield 150, 3) := dk_180 0 150 (dk_at dksX1_simulate_3 15 rfl rfl)
theorem dX1_simulate_90 : decode cX1_simulate 90 = .ok (.iconst 0, 1) := dk_3 (dk_at dksX1_simulate_3 18 rfl rfl)
theorem dX1_simulate_91 : decode cX1_simulate 91 = .ok (.aaload, 1) := dk_50 (dk_at dksX1_simulate_3 19 rfl rfl)
theorem dX1_simulate_92 : decode cX1_simulate 92 = .ok (.getfield 154, 3) := dk_180 0 154 (dk_at dksX1_simulate_3 20 rfl rfl)
theorem dX1_simulate_95 : decode cX1_simulate 95 = .ok (.imul, 1) := dk_104 (dk_at dksX1_simulate_3 23 rfl rfl)
theorem dX1_simulate_96 : decode cX1_simulate 96 = .ok (.aload 4, 2) := dk_25 4 (dk_at dksX1_simulate_4 0 rfl rfl)
theorem dX1_simulate_98 : decode cX1_simulate 98 = .ok (.getfield 102, 3) := dk_180 0 102 (dk_at dksX1_simulate_4 2 rfl rfl)
theorem dX1_simulate_101 : decode cX1_simulate 101 = .ok (.getfield 150, 3) := dk_180 0 150 (dk_at dksX1_simulate_4 5 rfl rfl)
theorem dX1_simulate_104 : decode cX1_simulate 104 = .ok (.iconst 1, 1) := dk_4 (dk_at dksX1_simulate_4 8 rfl rfl)
theorem dX1_simulate_105 : decode cX1_simulate 105 = .ok (.aaload, 1) := dk_50 (dk_at dksX1_simulate_4 9 rfl rfl)
theorem dX1_simulate_106 : decode cX1_simulate 106 = .ok (.getfield 154, 3) := dk_180 0 154 (dk_at dksX1_simulate_4 10 rfl rfl)
theorem dX1_simulate_109 : decode cX1_simulate 109 = .ok (.iadd, 1) := dk_96 (dk_at dksX1_simulate_4 13 rfl rfl)
theorem dX1_simulate_110 : decode cX1_simulate 110 = .ok (.ireturn, 1) := dk_172 (dk_at dksX1_simulate_4 14 rfl rfl)
abbrev cX1_stir : ByteArray := prog_1_method_47_code
def yX1_stir : MethodName := ⟨RX1, "stir", "(LTaleDuel$State;I)V"⟩
def dkwX1_stir_3 : List UInt8 := [167, 0, 7, 42, 184, 1, 54, 54, 4, 177]
abbrev dktX1_stir_3 : List UInt8 := dkwX1_stir_3 ++ []
def dkwX1_stir_2 : List UInt8 := [42, 180, 0, 102, 180, 0, 116, 153, 0, 7, 4, 167, 0, 4, 3, 62, 29, 153, 0, 10, 42, 184, 1, 51]
abbrev dktX1_stir_2 : List UInt8 := dkwX1_stir_2 ++ dktX1_stir_3
def dkwX1_stir_1 : List UInt8 := [167, 0, 4, 3, 61, 28, 154, 0, 51, 27, 16, 8, 112, 153, 0, 21, 27, 16, 8, 112, 4, 160, 0, 17]
abbrev dktX1_stir_1 : List UInt8 := dkwX1_stir_1 ++ dktX1_stir_2
def dkwX1_stir_0 : List UInt8 := [27, 16, 8, 112, 4, 160, 0, 21, 42, 27, 16, 8, 108, 16, 18, 112, 184, 1, 47, 153, 0, 7, 4]
abbrev dktX1_stir_0 : List UInt8 := dkwX1_stir_0 ++ dktX1_stir_1
theorem dksX1_stir_0 : cX1_stir.data.toList.drop 0 = dktX1_stir_0 := by decide +kernel
theorem dksX1_stir_1 : cX1_stir.data.toList.drop 23 = dktX1_stir_1 := dk_seg dksX1_stir_0 23 rfl rfl
theorem dksX1_stir_2 : cX1_stir.data.toList.drop 47 = dktX1_stir_2 := dk_seg dksX1_stir_1 24 rfl rfl
theorem dksX1_stir_3 : cX1_stir.data.toList.drop 71 = dktX1_stir_3 := dk_seg dksX1_stir_2 24 rfl rfl
theorem dX1_stir_0 : decode cX1_stir 0 = .ok (.iload_n 1, 1) := dk_27 (dk_at dksX1_stir_0 0 rfl rfl)
theorem dX1_stir_1 : decode cX1_stir 1 = .ok (.bipush 8, 2) := dk_16 8 (dk_at dksX1_stir_0 1 rfl rfl)
theorem dX1_stir_3 : decode cX1_stir 3 = .ok (.irem, 1) := dk_112 (dk_at dksX1_stir_0 3 rfl rfl)
theorem dX1_stir_4 : decode cX1_stir 4 = .ok (.iconst 1, 1) := dk_4 (dk_at dksX1_stir_0 4 rfl rfl)
theorem dX1_stir_5 : decode cX1_stir 5 = .ok (.if_icmp .ne 21, 3) := dk_160 0 21 (dk_at dksX1_stir_0 5 rfl rfl)
theorem dX1_stir_8 : decode cX1_stir 8 = .ok (.aload_n 0, 1) := dk_42 (dk_at dksX1_stir_0 8 rfl rfl)
theorem dX1_stir_9 : decode cX1_stir 9 = .ok (.iload_n 1, 1) := dk_27 (dk_at dksX1_stir_0 9 rfl rfl)
theorem dX1_stir_10 : decode cX1_stir 10 = .ok (.bipush 8, 2) := dk_16 8 (dk_at dksX1_stir_0 10 rfl rfl)
theorem dX1_stir_12 : decode cX1_stir 12 = .ok (.idiv, 1) := dk_108 (dk_at dksX1_stir_0 12 rfl rfl)
theorem dX1_stir_13 : decode cX1_stir 13 = .ok (.bipush 18, 2) := dk_16 18 (dk_at dksX1_stir_0 13 rfl rfl)
theorem dX1_stir_15 : decode cX1_stir 15 = .ok (.irem, 1) := dk_112 (dk_at dksX1_stir_0 15 rfl rfl)
theorem dX1_stir_16 : decode cX1_stir 16 = .ok (.invokestatic 303, 3) := dk_184 1 47 (dk_at dksX1_stir_0 16 rfl rfl)
theorem dX1_stir_19 : decode cX1_stir 19 = .ok (.ifCond .eq 7, 3) := dk_153 0 7 (dk_at dksX1_stir_0 19 rfl rfl)
theorem dX1_stir_22 : decode cX1_stir 22 = .ok (.iconst 1, 1) := dk_4 (dk_at dksX1_stir_0 22 rfl rfl)
theorem dX1_stir_23 : decode cX1_stir 23 = .ok (.goto 4, 3) := dk_167 0 4 (dk_at dksX1_stir_1 0 rfl rfl)
theorem dX1_stir_26 : decode cX1_stir 26 = .ok (.iconst 0, 1) := dk_3 (dk_at dksX1_stir_1 3 rfl rfl)
theorem dX1_stir_27 : decode cX1_stir 27 = .ok (.istore_n 2, 1) := dk_61 (dk_at dksX1_stir_1 4 rfl rfl)
theorem dX1_stir_28 : decode cX1_stir 28 = .ok (.iload_n 2, 1) := dk_28 (dk_at dksX1_stir_1 5 rfl rfl)
theorem dX1_stir_29 : decode cX1_stir 29 = .ok (.ifCond .ne 51, 3) := dk_154 0 51 (dk_at dksX1_stir_1 6 rfl rfl)
theorem dX1_stir_32 : decode cX1_stir 32 = .ok (.iload_n 1, 1) := dk_27 (dk_at dksX1_stir_1 9 rfl rfl)
theorem dX1_stir_33 : decode cX1_stir 33 = .ok (.bipush 8, 2) := dk_16 8 (dk_at dksX1_stir_1 10 rfl rfl)
theorem dX1_stir_35 : decode cX1_stir 35 = .ok (.irem, 1) := dk_112 (dk_at dksX1_stir_1 12 rfl rfl)
theorem dX1_stir_36 : decode cX1_stir 36 = .ok (.ifCond .eq 21, 3) := dk_153 0 21 (dk_at dksX1_stir_1 13 rfl rfl)
theorem dX1_stir_39 : decode cX1_stir 39 = .ok (.iload_n 1, 1) := dk_27 (dk_at dksX1_stir_1 16 rfl rfl)
theorem dX1_stir_40 : decode cX1_stir 40 = .ok (.bipush 8, 2) := dk_16 8 (dk_at dksX1_stir_1 17 rfl rfl)
theorem dX1_stir_42 : decode cX1_stir 42 = .ok (.irem, 1) := dk_112 (dk_at dksX1_stir_1 19 rfl rfl)
theorem dX1_stir_43 : decode cX1_stir 43 = .ok (.iconst 1, 1) := dk_4 (dk_at dksX1_stir_1 20 rfl rfl)
theorem dX1_stir_44 : decode cX1_stir 44 = .ok (.if_icmp .ne 17, 3) := dk_160 0 17 (dk_at dksX1_stir_1 21 rfl rfl)
theorem dX1_stir_47 : decode cX1_stir 47 = .ok (.aload_n 0, 1) := dk_42 (dk_at dksX1_stir_2 0 rfl rfl)
theorem dX1_stir_48 : decode cX1_stir 48 = .ok (.getfield 102, 3) := dk_180 0 102 (dk_at dksX1_stir_2 1 rfl rfl)
theorem dX1_stir_51 : decode cX1_stir 51 = .ok (.getfield 116, 3) := dk_180 0 116 (dk_at dksX1_stir_2 4 rfl rfl)
theorem dX1_stir_54 : decode cX1_stir 54 = .ok (.ifCond .eq 7, 3) := dk_153 0 7 (dk_at dksX1_stir_2 7 rfl rfl)
theorem dX1_stir_57 : decode cX1_stir 57 = .ok (.iconst 1, 1) := dk_4 (dk_at dksX1_stir_2 10 rfl rfl)
theorem dX1_stir_58 : decode cX1_stir 58 = .ok (.goto 4, 3) := dk_167 0 4 (dk_at dksX1_stir_2 11 rfl rfl)
theorem dX1_stir_61 : decode cX1_stir 61 = .ok (.iconst 0, 1) := dk_3 (dk_at dksX1_stir_2 14 rfl rfl)
theorem dX1_stir_62 : decode cX1_stir 62 = .ok (.istore_n 3, 1) := dk_62 (dk_at dksX1_stir_2 15 rfl rfl)
theorem dX1_stir_63 : decode cX1_stir 63 = .ok (.iload_n 3, 1) := dk_29 (dk_at dksX1_stir_2 16 rfl rfl)
theorem dX1_stir_64 : decode cX1_stir 64 = .ok (.ifCond .eq 10, 3) := dk_153 0 10 (dk_at dksX1_stir_2 17 rfl rfl)
theorem dX1_stir_67 : decode cX1_stir 67 = .ok (.aload_n 0, 1) := dk_42 (dk_at dksX1_stir_2 20 rfl rfl)
theorem dX1_stir_68 : decode cX1_stir 68 = .ok (.invokestatic 307, 3) := dk_184 1 51 (dk_at dksX1_stir_2 21 rfl rfl)
theorem dX1_stir_71 : decode cX1_stir 71 = .ok (.goto 7, 3) := dk_167 0 7 (dk_at dksX1_stir_3 0 rfl rfl)
theorem dX1_stir_74 : decode cX1_stir 74 = .ok (.aload_n 0, 1) := dk_42 (dk_at dksX1_stir_3 3 rfl rfl)
theorem dX1_stir_75 : decode cX1_stir 75 = .ok (.invokestatic 310, 3) := dk_184 1 54 (dk_at dksX1_stir_3 4 rfl rfl)
theorem dX1_stir_78 : decode cX1_stir 78 = .ok (.istore 4, 2) := dk_54 4 (dk_at dksX1_stir_3 7 rfl rfl)
theorem dX1_stir_80 : decode cX1_stir 80 = .ok (.return_, 1) := dk_177 (dk_at dksX1_stir_3 9 rfl rfl)
abbrev cX1_save : ByteArray := prog_1_method_50_code
def yX1_save : MethodName := ⟨RX1, "save", "(I)I"⟩
def dkwX1_save_1 : List UInt8 := [172]
abbrev dktX1_save_1 : List UInt8 := dkwX1_save_1 ++ []
def dkwX1_save_0 : List UInt8 := [27, 133, 9, 10, 184, 0, 15, 184, 0, 135, 42, 180, 0, 50, 27, 42, 182, 1, 71, 83, 42, 182, 1, 89]
abbrev dktX1_save_0 : List UInt8 := dkwX1_save_0 ++ dktX1_save_1
theorem dksX1_save_0 : cX1_save.data.toList.drop 0 = dktX1_save_0 := by decide +kernel
theorem dksX1_save_1 : cX1_save.data.toList.drop 24 = dktX1_save_1 := dk_seg dksX1_save_0 24 rfl rfl
theorem dX1_save_0 : decode cX1_save 0 = .ok (.iload_n 1, 1) := dk_27 (dk_at dksX1_save_0 0 rfl rfl)
theorem dX1_save_1 : decode cX1_save 1 = .ok (.i2l, 1) := dk_133 (dk_at dksX1_save_0 1 rfl rfl)
theorem dX1_save_2 : decode cX1_save 2 = .ok (.lconst 0, 1) := dk_9 (dk_at dksX1_save_0 2 rfl rfl)
theorem dX1_save_3 : decode cX1_save 3 = .ok (.lconst 1, 1) := dk_10 (dk_at dksX1_save_0 3 rfl rfl)
theorem dX1_save_4 : decode cX1_save 4 = .ok (.invokestatic 15, 3) := dk_184 0 15 (dk_at dksX1_save_0 4 rfl rfl)
theorem dX1_save_7 : decode cX1_save 7 = .ok (.invokestatic 135, 3) := dk_184 0 135 (dk_at dksX1_save_0 7 rfl rfl)
theorem dX1_save_10 : decode cX1_save 10 = .ok (.aload_n 0, 1) := dk_42 (dk_at dksX1_save_0 10 rfl rfl)
theorem dX1_save_11 : decode cX1_save 11 = .ok (.getfield 50, 3) := dk_180 0 50 (dk_at dksX1_save_0 11 rfl rfl)
theorem dX1_save_14 : decode cX1_save 14 = .ok (.iload_n 1, 1) := dk_27 (dk_at dksX1_save_0 14 rfl rfl)
theorem dX1_save_15 : decode cX1_save 15 = .ok (.aload_n 0, 1) := dk_42 (dk_at dksX1_save_0 15 rfl rfl)
theorem dX1_save_16 : decode cX1_save 16 = .ok (.invokevirtual 327, 3) := dk_182 1 71 (dk_at dksX1_save_0 16 rfl rfl)
theorem dX1_save_19 : decode cX1_save 19 = .ok (.aastore, 1) := dk_83 (dk_at dksX1_save_0 19 rfl rfl)
theorem dX1_save_20 : decode cX1_save 20 = .ok (.aload_n 0, 1) := dk_42 (dk_at dksX1_save_0 20 rfl rfl)
theorem dX1_save_21 : decode cX1_save 21 = .ok (.invokevirtual 345, 3) := dk_182 1 89 (dk_at dksX1_save_0 21 rfl rfl)
theorem dX1_save_24 : decode cX1_save 24 = .ok (.ireturn, 1) := dk_172 (dk_at dksX1_save_1 0 rfl rfl)
abbrev cX1_turns : ByteArray := prog_1_method_49_code
def yX1_turns : MethodName := ⟨RX1, "turns", "()I"⟩
def dkwX1_turns_1 : List UInt8 := [172]
abbrev dktX1_turns_1 : List UInt8 := dkwX1_turns_1 ++ []
def dkwX1_turns_0 : List UInt8 := [42, 180, 0, 39, 180, 0, 102, 199, 0, 7, 3, 167, 0, 13, 42, 180, 0, 39, 180, 0, 102, 180, 0, 119]
abbrev dktX1_turns_0 : List UInt8 := dkwX1_turns_0 ++ dktX1_turns_1
theorem dksX1_turns_0 : cX1_turns.data.toList.drop 0 = dktX1_turns_0 := by decide +kernel
theorem dksX1_turns_1 : cX1_turns.data.toList.drop 24 = dktX1_turns_1 := dk_seg dksX1_turns_0 24 rfl rfl
theorem dX1_turns_0 : decode cX1_turns 0 = .ok (.aload_n 0, 1) := dk_42 (dk_at dksX1_turns_0 0 rfl rfl)
theorem dX1_turns_1 : decode cX1_turns 1 = .ok (.getfield 39, 3) := dk_180 0 39 (dk_at dksX1_turns_0 1 rfl rfl)
theorem dX1_turns_4 : decode cX1_turns 4 = .ok (.getfield 102, 3) := dk_180 0 102 (dk_at dksX1_turns_0 4 rfl rfl)
theorem dX1_turns_7 : decode cX1_turns 7 = .ok (.ifnonnull 7, 3) := dk_199 0 7 (dk_at dksX1_turns_0 7 rfl rfl)
theorem dX1_turns_10 : decode cX1_turns 10 = .ok (.iconst 0, 1) := dk_3 (dk_at dksX1_turns_0 10 rfl rfl)
theorem dX1_turns_11 : decode cX1_turns 11 = .ok (.goto 13, 3) := dk_167 0 13 (dk_at dksX1_turns_0 11 rfl rfl)
theorem dX1_turns_14 : decode cX1_turns 14 = .ok (.aload_n 0, 1) := dk_42 (dk_at dksX1_turns_0 14 rfl rfl)
theorem dX1_turns_15 : decode cX1_turns 15 = .ok (.getfield 39, 3) := dk_180 0 39 (dk_at dksX1_turns_0 15 rfl rfl)
theorem dX1_turns_18 : decode cX1_turns 18 = .ok (.getfield 102, 3) := dk_180 0 102 (dk_at dksX1_turns_0 18 rfl rfl)
theorem dX1_turns_21 : decode cX1_turns 21 = .ok (.getfield 119, 3) := dk_180 0 119 (dk_at dksX1_turns_0 21 rfl rfl)
theorem dX1_turns_24 : decode cX1_turns 24 = .ok (.ireturn, 1) := dk_172 (dk_at dksX1_turns_1 0 rfl rfl)
abbrev cX1_restore : ByteArray := prog_1_method_51_code
def yX1_restore : MethodName := ⟨RX1, "restore", "(I)I"⟩
def dkwX1_restore_2 : List UInt8 := [185, 1, 91, 1, 0, 42, 182, 1, 89, 172]
abbrev dktX1_restore_2 : List UInt8 := dkwX1_restore_2 ++ []
def dkwX1_restore_1 : List UInt8 := [184, 0, 87, 42, 187, 0, 36, 89, 42, 180, 0, 50, 27, 50, 183, 0, 75, 181, 0, 39, 42, 180, 0, 46]
abbrev dktX1_restore_1 : List UInt8 := dkwX1_restore_1 ++ dktX1_restore_2
def dkwX1_restore_0 : List UInt8 := [27, 133, 9, 10, 184, 0, 15, 184, 0, 135, 42, 180, 0, 50, 27, 50, 198, 0, 7, 4, 167, 0, 4, 3]
abbrev dktX1_restore_0 : List UInt8 := dkwX1_restore_0 ++ dktX1_restore_1
theorem dksX1_restore_0 : cX1_restore.data.toList.drop 0 = dktX1_restore_0 := by decide +kernel
theorem dksX1_restore_1 : cX1_restore.data.toList.drop 24 = dktX1_restore_1 := dk_seg dksX1_restore_0 24 rfl rfl
theorem dksX1_restore_2 : cX1_restore.data.toList.drop 48 = dktX1_restore_2 := dk_seg dksX1_restore_1 24 rfl rfl
theorem dX1_restore_0 : decode cX1_restore 0 = .ok (.iload_n 1, 1) := dk_27 (dk_at dksX1_restore_0 0 rfl rfl)
theorem dX1_restore_1 : decode cX1_restore 1 = .ok (.i2l, 1) := dk_133 (dk_at dksX1_restore_0 1 rfl rfl)
theorem dX1_restore_2 : decode cX1_restore 2 = .ok (.lconst 0, 1) := dk_9 (dk_at dksX1_restore_0 2 rfl rfl)
theorem dX1_restore_3 : decode cX1_restore 3 = .ok (.lconst 1, 1) := dk_10 (dk_at dksX1_restore_0 3 rfl rfl)
theorem dX1_restore_4 : decode cX1_restore 4 = .ok (.invokestatic 15, 3) := dk_184 0 15 (dk_at dksX1_restore_0 4 rfl rfl)
theorem dX1_restore_7 : decode cX1_restore 7 = .ok (.invokestatic 135, 3) := dk_184 0 135 (dk_at dksX1_restore_0 7 rfl rfl)
theorem dX1_restore_10 : decode cX1_restore 10 = .ok (.aload_n 0, 1) := dk_42 (dk_at dksX1_restore_0 10 rfl rfl)
theorem dX1_restore_11 : decode cX1_restore 11 = .ok (.getfield 50, 3) := dk_180 0 50 (dk_at dksX1_restore_0 11 rfl rfl)
theorem dX1_restore_14 : decode cX1_restore 14 = .ok (.iload_n 1, 1) := dk_27 (dk_at dksX1_restore_0 14 rfl rfl)
theorem dX1_restore_15 : decode cX1_restore 15 = .ok (.aaload, 1) := dk_50 (dk_at dksX1_restore_0 15 rfl rfl)
theorem dX1_restore_16 : decode cX1_restore 16 = .ok (.ifnull 7, 3) := dk_198 0 7 (dk_at dksX1_restore_0 16 rfl rfl)
theorem dX1_restore_19 : decode cX1_restore 19 = .ok (.iconst 1, 1) := dk_4 (dk_at dksX1_restore_0 19 rfl rfl)
theorem dX1_restore_20 : decode cX1_restore 20 = .ok (.goto 4, 3) := dk_167 0 4 (dk_at dksX1_restore_0 20 rfl rfl)
theorem dX1_restore_23 : decode cX1_restore 23 = .ok (.iconst 0, 1) := dk_3 (dk_at dksX1_restore_0 23 rfl rfl)
theorem dX1_restore_24 : decode cX1_restore 24 = .ok (.invokestatic 87, 3) := dk_184 0 87 (dk_at dksX1_restore_1 0 rfl rfl)
theorem dX1_restore_27 : decode cX1_restore 27 = .ok (.aload_n 0, 1) := dk_42 (dk_at dksX1_restore_1 3 rfl rfl)
theorem dX1_restore_28 : decode cX1_restore 28 = .ok (.new 36, 3) := dk_187 0 36 (dk_at dksX1_restore_1 4 rfl rfl)
theorem dX1_restore_31 : decode cX1_restore 31 = .ok (.dup, 1) := dk_89 (dk_at dksX1_restore_1 7 rfl rfl)
theorem dX1_restore_32 : decode cX1_restore 32 = .ok (.aload_n 0, 1) := dk_42 (dk_at dksX1_restore_1 8 rfl rfl)
theorem dX1_restore_33 : decode cX1_restore 33 = .ok (.getfield 50, 3) := dk_180 0 50 (dk_at dksX1_restore_1 9 rfl rfl)
theorem dX1_restore_36 : decode cX1_restore 36 = .ok (.iload_n 1, 1) := dk_27 (dk_at dksX1_restore_1 12 rfl rfl)
theorem dX1_restore_37 : decode cX1_restore 37 = .ok (.aaload, 1) := dk_50 (dk_at dksX1_restore_1 13 rfl rfl)
theorem dX1_restore_38 : decode cX1_restore 38 = .ok (.invokespecial 75, 3) := dk_183 0 75 (dk_at dksX1_restore_1 14 rfl rfl)
theorem dX1_restore_41 : decode cX1_restore 41 = .ok (.putfield 39, 3) := dk_181 0 39 (dk_at dksX1_restore_1 17 rfl rfl)
theorem dX1_restore_44 : decode cX1_restore 44 = .ok (.aload_n 0, 1) := dk_42 (dk_at dksX1_restore_1 20 rfl rfl)
theorem dX1_restore_45 : decode cX1_restore 45 = .ok (.getfield 46, 3) := dk_180 0 46 (dk_at dksX1_restore_1 21 rfl rfl)
theorem dX1_restore_48 : decode cX1_restore 48 = .ok (.invokeinterface 347 1, 5) := by decide +kernel
theorem dX1_restore_53 : decode cX1_restore 53 = .ok (.aload_n 0, 1) := dk_42 (dk_at dksX1_restore_2 5 rfl rfl)
theorem dX1_restore_54 : decode cX1_restore 54 = .ok (.invokevirtual 345, 3) := dk_182 1 89 (dk_at dksX1_restore_2 6 rfl rfl)
theorem dX1_restore_57 : decode cX1_restore 57 = .ok (.ireturn, 1) := dk_172 (dk_at dksX1_restore_2 9 rfl rfl)
theorem q39 : (Jvm.Cond.initialized "TaleDuel") ∈ lw_all := lw_g (lw_at lw_m1 1 rfl) rfl
theorem q76 : (Jvm.Cond.instantiable "TaleDuel" (4 : Nat)) ∈ lw_all := lw_g (lw_at lw_m1 38 rfl) rfl
theorem q78 : (Jvm.Cond.instanceMethod ({ cls := "TaleDuel", name := "<init>", desc := "()V" } : Jvm.MethodName)) ∈ lw_all := lw_g (lw_at lw_m1 40 rfl) rfl
theorem q79 : (Jvm.Cond.code ({ cls := "TaleDuel", name := "<init>", desc := "()V" } : Jvm.MethodName) prog_1_method_11_code (1 : Nat) (Option.none : Option Jvm.ClassFile.FieldType)) ∈ lw_all := lw_g (lw_at lw_m1 41 rfl) rfl
theorem q80 : (Jvm.Cond.methodLink "TaleDuel" (33 : Nat) ({ cls := "java/lang/Object", name := "<init>", desc := "()V" } : Jvm.MethodName)) ∈ lw_all := lw_g (lw_at lw_m1 42 rfl) rfl
theorem q83 : (Jvm.Cond.classLink "TaleDuel" (36 : Nat) "TaleDuel$State") ∈ lw_all := lw_g (lw_at lw_m1 45 rfl) rfl
theorem q85 : (Jvm.Cond.methodLink "TaleDuel" (38 : Nat) ({ cls := "TaleDuel$State", name := "<init>", desc := "()V" } : Jvm.MethodName)) ∈ lw_all := lw_g (lw_at lw_m1 47 rfl) rfl
theorem q90 : (Jvm.Cond.fieldLinkNest "TaleDuel" (222 : Nat) "TaleDuel$State" "settings" "[I" "TaleDuel") ∈ lw_tbl := lw_at lw_m1 52 rfl
theorem q92 : (Jvm.Cond.fieldLinkNest "TaleDuel" (102 : Nat) "TaleDuel$State" "duel" "LTaleDuel$Duel;" "TaleDuel") ∈ lw_tbl := lw_at lw_m1 54 rfl
theorem q99 : (Jvm.Cond.classLink "TaleDuel" (43 : Nat) "java/util/ArrayDeque") ∈ lw_all := lw_g (lw_at lw_m1 61 rfl) rfl
theorem q101 : (Jvm.Cond.methodLink "TaleDuel" (45 : Nat) ({ cls := "java/util/ArrayDeque", name := "<init>", desc := "()V" } : Jvm.MethodName)) ∈ lw_all := lw_g (lw_at lw_m1 63 rfl) rfl
theorem q121 : (Jvm.Cond.classLink "TaleDuel" (54 : Nat) "TaleDuel$Sentence") ∈ lw_all := lw_g (lw_at lw_m1 83 rfl) rfl
theorem q123 : (Jvm.Cond.methodLinkNest "TaleDuel" (56 : Nat) ({ cls := "TaleDuel$Sentence", name := "<init>", desc := "()V" } : Jvm.MethodName) "TaleDuel") ∈ lw_tbl := lw_at lw_m1 85 rfl
theorem q135 : (Jvm.Cond.fieldLink "TaleDuel" (39 : Nat) "TaleDuel" "now" "LTaleDuel$State;") ∈ lw_all := lw_g (lw_at lw_m1 97 rfl) rfl
theorem q136 : (Jvm.Cond.fieldLink "TaleDuel" (46 : Nat) "TaleDuel" "history" "Ljava/util/Deque;") ∈ lw_all := lw_g (lw_at lw_m1 98 rfl) rfl
theorem q137 : (Jvm.Cond.fieldLink "TaleDuel" (50 : Nat) "TaleDuel" "slots" "[LTaleDuel$State;") ∈ lw_all := lw_g (lw_at lw_m1 99 rfl) rfl
theorem q138 : (Jvm.Cond.fieldLink "TaleDuel" (57 : Nat) "TaleDuel" "text" "LTaleDuel$Sentence;") ∈ lw_all := lw_g (lw_at lw_m1 100 rfl) rfl
theorem q139 : (Jvm.Cond.lays "TaleDuel" "TaleDuel" "now" "LTaleDuel$State;") ∈ lw_all := lw_g (lw_at lw_m1 101 rfl) rfl
theorem q140 : (Jvm.Cond.soleField "TaleDuel" "now") ∈ lw_all := lw_g (lw_at lw_m1 102 rfl) rfl
theorem q141 : (Jvm.Cond.laysFinal "TaleDuel" "TaleDuel" "history" "Ljava/util/Deque;") ∈ lw_all := lw_g (lw_at lw_m1 103 rfl) rfl
theorem q142 : (Jvm.Cond.soleField "TaleDuel" "history") ∈ lw_all := lw_g (lw_at lw_m1 104 rfl) rfl
theorem q143 : (Jvm.Cond.laysFinal "TaleDuel" "TaleDuel" "slots" "[LTaleDuel$State;") ∈ lw_all := lw_g (lw_at lw_m1 105 rfl) rfl
theorem q144 : (Jvm.Cond.soleField "TaleDuel" "slots") ∈ lw_all := lw_g (lw_at lw_m1 106 rfl) rfl
theorem q145 : (Jvm.Cond.laysFinal "TaleDuel" "TaleDuel" "text" "LTaleDuel$Sentence;") ∈ lw_all := lw_g (lw_at lw_m1 107 rfl) rfl
theorem q146 : (Jvm.Cond.soleField "TaleDuel" "text") ∈ lw_all := lw_g (lw_at lw_m1 108 rfl) rfl
theorem q147 : (Jvm.Cond.superclass "TaleDuel" "java/lang/Object") ∈ lw_all := lw_g (lw_at lw_m1 109 rfl) rfl
theorem q149 : (Jvm.Cond.instanceMethod ({ cls := "TaleDuel", name := "clearText", desc := "()I" } : Jvm.MethodName)) ∈ lw_all := lw_g (lw_at lw_m1 111 rfl) rfl
theorem q150 : (Jvm.Cond.selects "TaleDuel" ({ cls := "TaleDuel", name := "clearText", desc := "()I" } : Jvm.MethodName) ({ cls := "TaleDuel", name := "clearText", desc := "()I" } : Jvm.MethodName)) ∈ lw_all := lw_g (lw_at lw_m1 112 rfl) rfl
theorem q151 : (Jvm.Cond.code ({ cls := "TaleDuel", name := "clearText", desc := "()I" } : Jvm.MethodName) prog_1_method_15_code (1 : Nat) (Option.some Jvm.ClassFile.FieldType.int)) ∈ lw_all := lw_g (lw_at lw_m1 113 rfl) rfl
theorem q152 : (Jvm.Cond.methodLink "TaleDuel" (94 : Nat) ({ cls := "TaleDuel$Sentence", name := "clear", desc := "()I" } : Jvm.MethodName)) ∈ lw_all := lw_g (lw_at lw_m1 114 rfl) rfl
theorem q157 : (Jvm.Cond.instanceMethod ({ cls := "TaleDuel", name := "errorPosition", desc := "()I" } : Jvm.MethodName)) ∈ lw_all := lw_g (lw_at lw_m1 119 rfl) rfl
theorem q158 : (Jvm.Cond.selects "TaleDuel" ({ cls := "TaleDuel", name := "errorPosition", desc := "()I" } : Jvm.MethodName) ({ cls := "TaleDuel", name := "errorPosition", desc := "()I" } : Jvm.MethodName)) ∈ lw_all := lw_g (lw_at lw_m1 120 rfl) rfl
theorem q159 : (Jvm.Cond.code ({ cls := "TaleDuel", name := "errorPosition", desc := "()I" } : Jvm.MethodName) prog_1_method_16_code (1 : Nat) (Option.some Jvm.ClassFile.FieldType.int)) ∈ lw_all := lw_g (lw_at lw_m1 121 rfl) rfl
theorem q160 : (Jvm.Cond.methodLink "TaleDuel" (97 : Nat) ({ cls := "TaleDuel$Sentence", name := "error", desc := "()I" } : Jvm.MethodName)) ∈ lw_all := lw_g (lw_at lw_m1 122 rfl) rfl
theorem q165 : (Jvm.Cond.static ({ cls := "TaleDuel", name := "isWord", desc := "(I)Z" } : Jvm.MethodName)) ∈ lw_all := lw_g (lw_at lw_m1 127 rfl) rfl
theorem q166 : (Jvm.Cond.code ({ cls := "TaleDuel", name := "isWord", desc := "(I)Z" } : Jvm.MethodName) prog_1_method_8_code (1 : Nat) (Option.some Jvm.ClassFile.FieldType.boolean)) ∈ lw_all := lw_g (lw_at lw_m1 128 rfl) rfl
theorem q167 : (Jvm.Cond.constantLong "TaleDuel" (23 : Nat) (17 : Int64)) ∈ lw_all := lw_g (lw_at lw_m1 129 rfl) rfl
theorem q168 : (Jvm.Cond.methodLink "TaleDuel" (15 : Nat) ({ cls := "TaleDuel", name := "inRange", desc := "(JJJ)Z" } : Jvm.MethodName)) ∈ lw_all := lw_g (lw_at lw_m1 130 rfl) rfl
theorem q169 : (Jvm.Cond.static ({ cls := "TaleDuel", name := "inRange", desc := "(JJJ)Z" } : Jvm.MethodName)) ∈ lw_all := lw_g (lw_at lw_m1 131 rfl) rfl
theorem q170 : (Jvm.Cond.code ({ cls := "TaleDuel", name := "inRange", desc := "(JJJ)Z" } : Jvm.MethodName) prog_1_method_1_code (6 : Nat) (Option.some Jvm.ClassFile.FieldType.boolean)) ∈ lw_all := lw_g (lw_at lw_m1 132 rfl) rfl
theorem q172 : (Jvm.Cond.static ({ cls := "TaleDuel", name := "has", desc := "(II)Z" } : Jvm.MethodName)) ∈ lw_all := lw_g (lw_at lw_m1 134 rfl) rfl
theorem q173 : (Jvm.Cond.code ({ cls := "TaleDuel", name := "has", desc := "(II)Z" } : Jvm.MethodName) prog_1_method_9_code (2 : Nat) (Option.some Jvm.ClassFile.FieldType.boolean)) ∈ lw_all := lw_g (lw_at lw_m1 135 rfl) rfl
theorem q181 : (Jvm.Cond.instanceMethod ({ cls := "TaleDuel", name := "begin", desc := "(J)I" } : Jvm.MethodName)) ∈ lw_all := lw_g (lw_at lw_m1 143 rfl) rfl
theorem q182 : (Jvm.Cond.selects "TaleDuel" ({ cls := "TaleDuel", name := "begin", desc := "(J)I" } : Jvm.MethodName) ({ cls := "TaleDuel", name := "begin", desc := "(J)I" } : Jvm.MethodName)) ∈ lw_all := lw_g (lw_at lw_m1 144 rfl) rfl
theorem q183 : (Jvm.Cond.code ({ cls := "TaleDuel", name := "begin", desc := "(J)I" } : Jvm.MethodName) prog_1_method_26_code (3 : Nat) (Option.some Jvm.ClassFile.FieldType.int)) ∈ lw_all := lw_g (lw_at lw_m1 145 rfl) rfl
theorem q184 : (Jvm.Cond.methodLink "TaleDuel" (226 : Nat) ({ cls := "TaleDuel", name := "act", desc := "()LTaleDuel$State;" } : Jvm.MethodName)) ∈ lw_all := lw_g (lw_at lw_m1 146 rfl) rfl
theorem q185 : (Jvm.Cond.privateMethod ({ cls := "TaleDuel", name := "act", desc := "()LTaleDuel$State;" } : Jvm.MethodName)) ∈ lw_tbl := lw_at lw_m1 147 rfl
theorem q186 : (Jvm.Cond.instanceMethod ({ cls := "TaleDuel", name := "act", desc := "()LTaleDuel$State;" } : Jvm.MethodName)) ∈ lw_all := lw_g (lw_at lw_m1 148 rfl) rfl
theorem q187 : (Jvm.Cond.code ({ cls := "TaleDuel", name := "act", desc := "()LTaleDuel$State;" } : Jvm.MethodName) prog_1_method_12_code (1 : Nat) (Option.some (Jvm.ClassFile.FieldType.object "TaleDuel$State"))) ∈ lw_all := lw_g (lw_at lw_m1 149 rfl) rfl
theorem q188 : (Jvm.Cond.interfaceEntry "TaleDuel" (61 : Nat)) ∈ lw_tbl := lw_at lw_m1 150 rfl
theorem q189 : (Jvm.Cond.methodLink "TaleDuel" (61 : Nat) ({ cls := "java/util/Deque", name := "size", desc := "()I" } : Jvm.MethodName)) ∈ lw_all := lw_g (lw_at lw_m1 151 rfl) rfl
theorem q201 : (Jvm.Cond.interfaceEntry "TaleDuel" (67 : Nat)) ∈ lw_tbl := lw_at lw_m1 163 rfl
theorem q202 : (Jvm.Cond.methodLink "TaleDuel" (67 : Nat) ({ cls := "java/util/Deque", name := "removeFirst", desc := "()Ljava/lang/Object;" } : Jvm.MethodName)) ∈ lw_all := lw_g (lw_at lw_m1 164 rfl) rfl
theorem q220 : (Jvm.Cond.interfaceEntry "TaleDuel" (71 : Nat)) ∈ lw_tbl := lw_at lw_m1 182 rfl
theorem q221 : (Jvm.Cond.methodLink "TaleDuel" (71 : Nat) ({ cls := "java/util/Deque", name := "addLast", desc := "(Ljava/lang/Object;)V" } : Jvm.MethodName)) ∈ lw_all := lw_g (lw_at lw_m1 183 rfl) rfl
theorem q314 : (Jvm.Cond.selects "TaleDuel" ({ cls := "java/lang/Object", name := "getClass", desc := "()Ljava/lang/Class;" } : Jvm.MethodName) ({ cls := "java/lang/Object", name := "getClass", desc := "()Ljava/lang/Class;" } : Jvm.MethodName)) ∈ lw_all := lw_g (lw_at lw_m2 36 rfl) rfl
theorem q346 : (Jvm.Cond.methodLink "TaleDuel" (75 : Nat) ({ cls := "TaleDuel$State", name := "<init>", desc := "(LTaleDuel$State;)V" } : Jvm.MethodName)) ∈ lw_all := lw_g (lw_at lw_m2 68 rfl) rfl
theorem q501 : (Jvm.Cond.fieldLinkNest "TaleDuel" (154 : Nat) "TaleDuel$Teller" "score" "I" "TaleDuel") ∈ lw_tbl := lw_at lw_m2 223 rfl
theorem q504 : (Jvm.Cond.fieldLinkNest "TaleDuel" (168 : Nat) "TaleDuel$Teller" "sentences" "I" "TaleDuel") ∈ lw_tbl := lw_at lw_m2 226 rfl
theorem q507 : (Jvm.Cond.fieldLinkNest "TaleDuel" (162 : Nat) "TaleDuel$Teller" "latest" "LTaleDuel$Sentence;" "TaleDuel") ∈ lw_tbl := lw_at lw_m2 229 rfl
theorem q509 : (Jvm.Cond.fieldLinkNest "TaleDuel" (169 : Nat) "TaleDuel$Teller" "forbidden" "Ljava/util/List;" "TaleDuel") ∈ lw_tbl := lw_at lw_m2 231 rfl
theorem q529 : (Jvm.Cond.fieldLinkNest "TaleDuel" (194 : Nat) "TaleDuel$Listener" "likes" "I" "TaleDuel") ∈ lw_tbl := lw_at lw_m3 11 rfl
theorem q531 : (Jvm.Cond.fieldLinkNest "TaleDuel" (199 : Nat) "TaleDuel$Listener" "bored" "I" "TaleDuel") ∈ lw_tbl := lw_at lw_m3 13 rfl
theorem q534 : (Jvm.Cond.fieldLinkNest "TaleDuel" (202 : Nat) "TaleDuel$Listener" "gone" "Z" "TaleDuel") ∈ lw_tbl := lw_at lw_m3 16 rfl
theorem q536 : (Jvm.Cond.fieldLinkNest "TaleDuel" (205 : Nat) "TaleDuel$Listener" "points" "I" "TaleDuel") ∈ lw_tbl := lw_at lw_m3 18 rfl
theorem q878 : (Jvm.Cond.fieldLinkNest "TaleDuel" (150 : Nat) "TaleDuel$Duel" "tellers" "[LTaleDuel$Teller;" "TaleDuel") ∈ lw_tbl := lw_at lw_m4 120 rfl
theorem q881 : (Jvm.Cond.fieldLinkNest "TaleDuel" (190 : Nat) "TaleDuel$Duel" "listeners" "[LTaleDuel$Listener;" "TaleDuel") ∈ lw_tbl := lw_at lw_m4 123 rfl
theorem q883 : (Jvm.Cond.fieldLinkNest "TaleDuel" (208 : Nat) "TaleDuel$Duel" "told" "LTaleDuel$Store;" "TaleDuel") ∈ lw_tbl := lw_at lw_m4 125 rfl
theorem q885 : (Jvm.Cond.fieldLinkNest "TaleDuel" (122 : Nat) "TaleDuel$Duel" "sentences" "I" "TaleDuel") ∈ lw_tbl := lw_at lw_m4 127 rfl
theorem q887 : (Jvm.Cond.fieldLinkNest "TaleDuel" (112 : Nat) "TaleDuel$Duel" "turn" "I" "TaleDuel") ∈ lw_tbl := lw_at lw_m4 129 rfl
theorem q889 : (Jvm.Cond.fieldLinkNest "TaleDuel" (119 : Nat) "TaleDuel$Duel" "turns" "I" "TaleDuel") ∈ lw_tbl := lw_at lw_m4 131 rfl
theorem q891 : (Jvm.Cond.fieldLinkNest "TaleDuel" (116 : Nat) "TaleDuel$Duel" "spoken" "Z" "TaleDuel") ∈ lw_tbl := lw_at lw_m4 133 rfl
theorem q895 : (Jvm.Cond.fieldLinkNest "TaleDuel" (106 : Nat) "TaleDuel$Duel" "over" "Z" "TaleDuel") ∈ lw_tbl := lw_at lw_m4 137 rfl
theorem q917 : (Jvm.Cond.methodLink "TaleDuel" (230 : Nat) ({ cls := "TaleDuel$State", name := "begin", desc := "(J)I" } : Jvm.MethodName)) ∈ lw_all := lw_g (lw_at lw_m4 159 rfl) rfl
theorem q937 : (Jvm.Cond.instanceMethod ({ cls := "TaleDuel", name := "bestBan", desc := "()I" } : Jvm.MethodName)) ∈ lw_all := lw_g (lw_at lw_m4 179 rfl) rfl
theorem q938 : (Jvm.Cond.selects "TaleDuel" ({ cls := "TaleDuel", name := "bestBan", desc := "()I" } : Jvm.MethodName) ({ cls := "TaleDuel", name := "bestBan", desc := "()I" } : Jvm.MethodName)) ∈ lw_all := lw_g (lw_at lw_m4 180 rfl) rfl
theorem q939 : (Jvm.Cond.code ({ cls := "TaleDuel", name := "bestBan", desc := "()I" } : Jvm.MethodName) prog_1_method_36_code (1 : Nat) (Option.some Jvm.ClassFile.FieldType.int)) ∈ lw_all := lw_g (lw_at lw_m4 181 rfl) rfl
theorem q940 : (Jvm.Cond.methodLink "TaleDuel" (255 : Nat) ({ cls := "TaleDuel$State", name := "goesOn", desc := "()Z" } : Jvm.MethodName)) ∈ lw_all := lw_g (lw_at lw_m4 182 rfl) rfl
theorem q944 : (Jvm.Cond.methodLink "TaleDuel" (293 : Nat) ({ cls := "TaleDuel$Duel", name := "bestBan", desc := "()I" } : Jvm.MethodName)) ∈ lw_all := lw_g (lw_at lw_m4 186 rfl) rfl
theorem q1055 : (Jvm.Cond.fieldLinkNest "TaleDuel" (287 : Nat) "TaleDuel$Search" "points" "I" "TaleDuel") ∈ lw_tbl := lw_at lw_m5 57 rfl
theorem q1058 : (Jvm.Cond.fieldLinkNest "TaleDuel" (290 : Nat) "TaleDuel$Search" "best" "LTaleDuel$Sentence;" "TaleDuel") ∈ lw_tbl := lw_at lw_m5 60 rfl
theorem q1076 : (Jvm.Cond.instanceMethod ({ cls := "TaleDuel", name := "append", desc := "(I)I" } : Jvm.MethodName)) ∈ lw_all := lw_g (lw_at lw_m5 78 rfl) rfl
theorem q1077 : (Jvm.Cond.selects "TaleDuel" ({ cls := "TaleDuel", name := "append", desc := "(I)I" } : Jvm.MethodName) ({ cls := "TaleDuel", name := "append", desc := "(I)I" } : Jvm.MethodName)) ∈ lw_all := lw_g (lw_at lw_m5 79 rfl) rfl
theorem q1078 : (Jvm.Cond.code ({ cls := "TaleDuel", name := "append", desc := "(I)I" } : Jvm.MethodName) prog_1_method_14_code (2 : Nat) (Option.some Jvm.ClassFile.FieldType.int)) ∈ lw_all := lw_g (lw_at lw_m5 80 rfl) rfl
theorem q1079 : (Jvm.Cond.constantLong "TaleDuel" (78 : Nat) (255 : Int64)) ∈ lw_all := lw_g (lw_at lw_m5 81 rfl) rfl
theorem q1080 : (Jvm.Cond.methodLink "TaleDuel" (80 : Nat) ({ cls := "TaleDuel", name := "demandArgument", desc := "(Z)V" } : Jvm.MethodName)) ∈ lw_all := lw_g (lw_at lw_m5 82 rfl) rfl
theorem q1081 : (Jvm.Cond.static ({ cls := "TaleDuel", name := "demandArgument", desc := "(Z)V" } : Jvm.MethodName)) ∈ lw_all := lw_g (lw_at lw_m5 83 rfl) rfl
theorem q1082 : (Jvm.Cond.code ({ cls := "TaleDuel", name := "demandArgument", desc := "(Z)V" } : Jvm.MethodName) prog_1_method_3_code (1 : Nat) (Option.none : Option Jvm.ClassFile.FieldType)) ∈ lw_all := lw_g (lw_at lw_m5 84 rfl) rfl
theorem q1083 : (Jvm.Cond.classLink "TaleDuel" (7 : Nat) "java/lang/IllegalArgumentException") ∈ lw_all := lw_g (lw_at lw_m5 85 rfl) rfl
theorem q1084 : (Jvm.Cond.methodLink "TaleDuel" (9 : Nat) ({ cls := "java/lang/IllegalArgumentException", name := "<init>", desc := "()V" } : Jvm.MethodName)) ∈ lw_all := lw_g (lw_at lw_m5 86 rfl) rfl
theorem q1094 : (Jvm.Cond.methodLink "TaleDuel" (84 : Nat) ({ cls := "TaleDuel$Sentence", name := "length", desc := "()I" } : Jvm.MethodName)) ∈ lw_all := lw_g (lw_at lw_m5 96 rfl) rfl
theorem q1098 : (Jvm.Cond.methodLink "TaleDuel" (87 : Nat) ({ cls := "TaleDuel", name := "demandState", desc := "(Z)V" } : Jvm.MethodName)) ∈ lw_all := lw_g (lw_at lw_m5 100 rfl) rfl
theorem q1099 : (Jvm.Cond.static ({ cls := "TaleDuel", name := "demandState", desc := "(Z)V" } : Jvm.MethodName)) ∈ lw_all := lw_g (lw_at lw_m5 101 rfl) rfl
theorem q1100 : (Jvm.Cond.code ({ cls := "TaleDuel", name := "demandState", desc := "(Z)V" } : Jvm.MethodName) prog_1_method_4_code (1 : Nat) (Option.none : Option Jvm.ClassFile.FieldType)) ∈ lw_all := lw_g (lw_at lw_m5 102 rfl) rfl
theorem q1101 : (Jvm.Cond.classLink "TaleDuel" (10 : Nat) "java/lang/IllegalStateException") ∈ lw_all := lw_g (lw_at lw_m5 103 rfl) rfl
theorem q1102 : (Jvm.Cond.methodLink "TaleDuel" (12 : Nat) ({ cls := "java/lang/IllegalStateException", name := "<init>", desc := "()V" } : Jvm.MethodName)) ∈ lw_all := lw_g (lw_at lw_m5 104 rfl) rfl
theorem q1106 : (Jvm.Cond.methodLink "TaleDuel" (90 : Nat) ({ cls := "TaleDuel$Sentence", name := "add", desc := "(C)I" } : Jvm.MethodName)) ∈ lw_all := lw_g (lw_at lw_m5 108 rfl) rfl
theorem q1111 : (Jvm.Cond.instanceMethod ({ cls := "TaleDuel", name := "about", desc := "(I)I" } : Jvm.MethodName)) ∈ lw_all := lw_g (lw_at lw_m5 113 rfl) rfl
theorem q1112 : (Jvm.Cond.selects "TaleDuel" ({ cls := "TaleDuel", name := "about", desc := "(I)I" } : Jvm.MethodName) ({ cls := "TaleDuel", name := "about", desc := "(I)I" } : Jvm.MethodName)) ∈ lw_all := lw_g (lw_at lw_m5 114 rfl) rfl
theorem q1113 : (Jvm.Cond.code ({ cls := "TaleDuel", name := "about", desc := "(I)I" } : Jvm.MethodName) prog_1_method_17_code (3 : Nat) (Option.some Jvm.ClassFile.FieldType.int)) ∈ lw_all := lw_g (lw_at lw_m5 115 rfl) rfl
theorem q1114 : (Jvm.Cond.constantLong "TaleDuel" (100 : Nat) (7 : Int64)) ∈ lw_all := lw_g (lw_at lw_m5 116 rfl) rfl
theorem q1115 : (Jvm.Cond.methodLinkNest "TaleDuel" (125 : Nat) ({ cls := "TaleDuel$Duel", name := "there", desc := "()I" } : Jvm.MethodName) "TaleDuel") ∈ lw_tbl := lw_at lw_m5 117 rfl
theorem q1119 : (Jvm.Cond.methodLink "TaleDuel" (128 : Nat) ({ cls := "TaleDuel$Duel", name := "memory", desc := "()I" } : Jvm.MethodName)) ∈ lw_all := lw_g (lw_at lw_m5 121 rfl) rfl
theorem q1140 : (Jvm.Cond.instanceMethod ({ cls := "TaleDuel", name := "teller", desc := "(II)I" } : Jvm.MethodName)) ∈ lw_all := lw_g (lw_at lw_m5 142 rfl) rfl
theorem q1141 : (Jvm.Cond.selects "TaleDuel" ({ cls := "TaleDuel", name := "teller", desc := "(II)I" } : Jvm.MethodName) ({ cls := "TaleDuel", name := "teller", desc := "(II)I" } : Jvm.MethodName)) ∈ lw_all := lw_g (lw_at lw_m5 143 rfl) rfl
theorem q1142 : (Jvm.Cond.code ({ cls := "TaleDuel", name := "teller", desc := "(II)I" } : Jvm.MethodName) prog_1_method_21_code (4 : Nat) (Option.some Jvm.ClassFile.FieldType.int)) ∈ lw_all := lw_g (lw_at lw_m5 144 rfl) rfl
theorem q1143 : (Jvm.Cond.methodLink "TaleDuel" (144 : Nat) ({ cls := "TaleDuel", name := "demandTeller", desc := "(I)V" } : Jvm.MethodName)) ∈ lw_all := lw_g (lw_at lw_m5 145 rfl) rfl
theorem q1144 : (Jvm.Cond.static ({ cls := "TaleDuel", name := "demandTeller", desc := "(I)V" } : Jvm.MethodName)) ∈ lw_all := lw_g (lw_at lw_m5 146 rfl) rfl
theorem q1145 : (Jvm.Cond.code ({ cls := "TaleDuel", name := "demandTeller", desc := "(I)V" } : Jvm.MethodName) prog_1_method_18_code (1 : Nat) (Option.none : Option Jvm.ClassFile.FieldType)) ∈ lw_all := lw_g (lw_at lw_m5 147 rfl) rfl
theorem q1146 : (Jvm.Cond.methodLink "TaleDuel" (131 : Nat) ({ cls := "TaleDuel", name := "isTeller", desc := "(I)Z" } : Jvm.MethodName)) ∈ lw_all := lw_g (lw_at lw_m5 148 rfl) rfl
theorem q1147 : (Jvm.Cond.static ({ cls := "TaleDuel", name := "isTeller", desc := "(I)Z" } : Jvm.MethodName)) ∈ lw_all := lw_g (lw_at lw_m5 149 rfl) rfl
theorem q1148 : (Jvm.Cond.code ({ cls := "TaleDuel", name := "isTeller", desc := "(I)Z" } : Jvm.MethodName) prog_1_method_6_code (1 : Nat) (Option.some Jvm.ClassFile.FieldType.boolean)) ∈ lw_all := lw_g (lw_at lw_m5 150 rfl) rfl
theorem q1149 : (Jvm.Cond.methodLink "TaleDuel" (135 : Nat) ({ cls := "TaleDuel", name := "demandIndex", desc := "(Z)V" } : Jvm.MethodName)) ∈ lw_all := lw_g (lw_at lw_m5 151 rfl) rfl
theorem q1150 : (Jvm.Cond.static ({ cls := "TaleDuel", name := "demandIndex", desc := "(Z)V" } : Jvm.MethodName)) ∈ lw_all := lw_g (lw_at lw_m5 152 rfl) rfl
theorem q1151 : (Jvm.Cond.code ({ cls := "TaleDuel", name := "demandIndex", desc := "(Z)V" } : Jvm.MethodName) prog_1_method_2_code (1 : Nat) (Option.none : Option Jvm.ClassFile.FieldType)) ∈ lw_all := lw_g (lw_at lw_m5 153 rfl) rfl
theorem q1152 : (Jvm.Cond.classLink "TaleDuel" (1 : Nat) "java/lang/IndexOutOfBoundsException") ∈ lw_all := lw_g (lw_at lw_m5 154 rfl) rfl
theorem q1153 : (Jvm.Cond.methodLink "TaleDuel" (3 : Nat) ({ cls := "java/lang/IndexOutOfBoundsException", name := "<init>", desc := "()V" } : Jvm.MethodName)) ∈ lw_all := lw_g (lw_at lw_m5 155 rfl) rfl
theorem q1157 : (Jvm.Cond.constantLong "TaleDuel" (148 : Nat) (4 : Int64)) ∈ lw_all := lw_g (lw_at lw_m5 159 rfl) rfl
theorem q1158 : (Jvm.Cond.methodLink "TaleDuel" (159 : Nat) ({ cls := "TaleDuel$Teller", name := "bans", desc := "()I" } : Jvm.MethodName)) ∈ lw_all := lw_g (lw_at lw_m5 160 rfl) rfl
theorem q1159 : (Jvm.Cond.methodLink "TaleDuel" (165 : Nat) ({ cls := "TaleDuel$Teller", name := "latestWords", desc := "()I" } : Jvm.MethodName)) ∈ lw_all := lw_g (lw_at lw_m5 161 rfl) rfl
theorem q1164 : (Jvm.Cond.instanceMethod ({ cls := "TaleDuel", name := "forbidden", desc := "(II)I" } : Jvm.MethodName)) ∈ lw_all := lw_g (lw_at lw_m5 166 rfl) rfl
theorem q1165 : (Jvm.Cond.selects "TaleDuel" ({ cls := "TaleDuel", name := "forbidden", desc := "(II)I" } : Jvm.MethodName) ({ cls := "TaleDuel", name := "forbidden", desc := "(II)I" } : Jvm.MethodName)) ∈ lw_all := lw_g (lw_at lw_m5 167 rfl) rfl
theorem q1166 : (Jvm.Cond.code ({ cls := "TaleDuel", name := "forbidden", desc := "(II)I" } : Jvm.MethodName) prog_1_method_22_code (3 : Nat) (Option.some Jvm.ClassFile.FieldType.int)) ∈ lw_all := lw_g (lw_at lw_m5 168 rfl) rfl
theorem q1167 : (Jvm.Cond.interfaceEntry "TaleDuel" (173 : Nat)) ∈ lw_tbl := lw_at lw_m5 169 rfl
theorem q1168 : (Jvm.Cond.methodLink "TaleDuel" (173 : Nat) ({ cls := "java/util/List", name := "size", desc := "()I" } : Jvm.MethodName)) ∈ lw_all := lw_g (lw_at lw_m5 170 rfl) rfl
theorem q1169 : (Jvm.Cond.interfaceEntry "TaleDuel" (176 : Nat)) ∈ lw_tbl := lw_at lw_m5 171 rfl
theorem q1170 : (Jvm.Cond.methodLink "TaleDuel" (176 : Nat) ({ cls := "java/util/List", name := "get", desc := "(I)Ljava/lang/Object;" } : Jvm.MethodName)) ∈ lw_all := lw_g (lw_at lw_m5 172 rfl) rfl
theorem q1171 : (Jvm.Cond.classLink "TaleDuel" (180 : Nat) "java/lang/Integer") ∈ lw_all := lw_g (lw_at lw_m5 173 rfl) rfl
theorem q1172 : (Jvm.Cond.methodLink "TaleDuel" (182 : Nat) ({ cls := "java/lang/Integer", name := "intValue", desc := "()I" } : Jvm.MethodName)) ∈ lw_all := lw_g (lw_at lw_m5 174 rfl) rfl
theorem q1177 : (Jvm.Cond.instanceMethod ({ cls := "TaleDuel", name := "listener", desc := "(II)I" } : Jvm.MethodName)) ∈ lw_all := lw_g (lw_at lw_m5 179 rfl) rfl
theorem q1178 : (Jvm.Cond.selects "TaleDuel" ({ cls := "TaleDuel", name := "listener", desc := "(II)I" } : Jvm.MethodName) ({ cls := "TaleDuel", name := "listener", desc := "(II)I" } : Jvm.MethodName)) ∈ lw_all := lw_g (lw_at lw_m5 180 rfl) rfl
theorem q1179 : (Jvm.Cond.code ({ cls := "TaleDuel", name := "listener", desc := "(II)I" } : Jvm.MethodName) prog_1_method_23_code (4 : Nat) (Option.some Jvm.ClassFile.FieldType.int)) ∈ lw_all := lw_g (lw_at lw_m5 181 rfl) rfl
theorem q1180 : (Jvm.Cond.methodLink "TaleDuel" (185 : Nat) ({ cls := "TaleDuel", name := "demandListener", desc := "(I)V" } : Jvm.MethodName)) ∈ lw_all := lw_g (lw_at lw_m5 182 rfl) rfl
theorem q1181 : (Jvm.Cond.static ({ cls := "TaleDuel", name := "demandListener", desc := "(I)V" } : Jvm.MethodName)) ∈ lw_all := lw_g (lw_at lw_m5 183 rfl) rfl
theorem q1182 : (Jvm.Cond.code ({ cls := "TaleDuel", name := "demandListener", desc := "(I)V" } : Jvm.MethodName) prog_1_method_19_code (1 : Nat) (Option.none : Option Jvm.ClassFile.FieldType)) ∈ lw_all := lw_g (lw_at lw_m5 184 rfl) rfl
theorem q1183 : (Jvm.Cond.methodLink "TaleDuel" (138 : Nat) ({ cls := "TaleDuel", name := "isListener", desc := "(I)Z" } : Jvm.MethodName)) ∈ lw_all := lw_g (lw_at lw_m5 185 rfl) rfl
theorem q1184 : (Jvm.Cond.static ({ cls := "TaleDuel", name := "isListener", desc := "(I)Z" } : Jvm.MethodName)) ∈ lw_all := lw_g (lw_at lw_m5 186 rfl) rfl
theorem q1185 : (Jvm.Cond.code ({ cls := "TaleDuel", name := "isListener", desc := "(I)Z" } : Jvm.MethodName) prog_1_method_7_code (1 : Nat) (Option.some Jvm.ClassFile.FieldType.boolean)) ∈ lw_all := lw_g (lw_at lw_m5 187 rfl) rfl
theorem q1186 : (Jvm.Cond.constantLong "TaleDuel" (21 : Nat) (2 : Int64)) ∈ lw_all := lw_g (lw_at lw_m5 188 rfl) rfl
theorem q1187 : (Jvm.Cond.constantLong "TaleDuel" (188 : Nat) (3 : Int64)) ∈ lw_all := lw_g (lw_at lw_m5 189 rfl) rfl
theorem q1192 : (Jvm.Cond.instanceMethod ({ cls := "TaleDuel", name := "told", desc := "(II)I" } : Jvm.MethodName)) ∈ lw_all := lw_g (lw_at lw_m5 194 rfl) rfl
theorem q1193 : (Jvm.Cond.selects "TaleDuel" ({ cls := "TaleDuel", name := "told", desc := "(II)I" } : Jvm.MethodName) ({ cls := "TaleDuel", name := "told", desc := "(II)I" } : Jvm.MethodName)) ∈ lw_all := lw_g (lw_at lw_m5 195 rfl) rfl
theorem q1194 : (Jvm.Cond.code ({ cls := "TaleDuel", name := "told", desc := "(II)I" } : Jvm.MethodName) prog_1_method_24_code (4 : Nat) (Option.some Jvm.ClassFile.FieldType.int)) ∈ lw_all := lw_g (lw_at lw_m5 196 rfl) rfl
theorem q1195 : (Jvm.Cond.methodLink "TaleDuel" (212 : Nat) ({ cls := "TaleDuel$Store", name := "size", desc := "()I" } : Jvm.MethodName)) ∈ lw_all := lw_g (lw_at lw_m5 197 rfl) rfl
theorem q1196 : (Jvm.Cond.methodLink "TaleDuel" (215 : Nat) ({ cls := "TaleDuel$Store", name := "get", desc := "(I)Ljava/lang/CharSequence;" } : Jvm.MethodName)) ∈ lw_all := lw_g (lw_at lw_m5 198 rfl) rfl
theorem q1197 : (Jvm.Cond.methodLink "TaleDuel" (218 : Nat) ({ cls := "TaleDuel$Sentence", name := "word", desc := "(I)I" } : Jvm.MethodName)) ∈ lw_all := lw_g (lw_at lw_m5 199 rfl) rfl
theorem q1202 : (Jvm.Cond.instanceMethod ({ cls := "TaleDuel", name := "setting", desc := "(I)I" } : Jvm.MethodName)) ∈ lw_all := lw_g (lw_at lw_m5 204 rfl) rfl
theorem q1203 : (Jvm.Cond.selects "TaleDuel" ({ cls := "TaleDuel", name := "setting", desc := "(I)I" } : Jvm.MethodName) ({ cls := "TaleDuel", name := "setting", desc := "(I)I" } : Jvm.MethodName)) ∈ lw_all := lw_g (lw_at lw_m5 205 rfl) rfl
theorem q1204 : (Jvm.Cond.code ({ cls := "TaleDuel", name := "setting", desc := "(I)I" } : Jvm.MethodName) prog_1_method_25_code (2 : Nat) (Option.some Jvm.ClassFile.FieldType.int)) ∈ lw_all := lw_g (lw_at lw_m5 206 rfl) rfl
theorem q1209 : (Jvm.Cond.instanceMethod ({ cls := "TaleDuel", name := "tell", desc := "()I" } : Jvm.MethodName)) ∈ lw_all := lw_g (lw_at lw_m5 211 rfl) rfl
theorem q1210 : (Jvm.Cond.selects "TaleDuel" ({ cls := "TaleDuel", name := "tell", desc := "()I" } : Jvm.MethodName) ({ cls := "TaleDuel", name := "tell", desc := "()I" } : Jvm.MethodName)) ∈ lw_all := lw_g (lw_at lw_m5 212 rfl) rfl
theorem q1211 : (Jvm.Cond.code ({ cls := "TaleDuel", name := "tell", desc := "()I" } : Jvm.MethodName) prog_1_method_27_code (1 : Nat) (Option.some Jvm.ClassFile.FieldType.int)) ∈ lw_all := lw_g (lw_at lw_m5 213 rfl) rfl
theorem q1212 : (Jvm.Cond.methodLink "TaleDuel" (234 : Nat) ({ cls := "TaleDuel$State", name := "canTell", desc := "(LTaleDuel$Sentence;)Z" } : Jvm.MethodName)) ∈ lw_all := lw_g (lw_at lw_m5 214 rfl) rfl
theorem q1225 : (Jvm.Cond.methodLink "TaleDuel" (238 : Nat) ({ cls := "TaleDuel$Sentence", name := "copy", desc := "()LTaleDuel$Sentence;" } : Jvm.MethodName)) ∈ lw_all := lw_g (lw_at lw_m5 227 rfl) rfl
theorem q1232 : (Jvm.Cond.methodLink "TaleDuel" (242 : Nat) ({ cls := "TaleDuel$Duel", name := "tell", desc := "(LTaleDuel$Sentence;)I" } : Jvm.MethodName)) ∈ lw_all := lw_g (lw_at lw_m5 234 rfl) rfl
theorem q1250 : (Jvm.Cond.instanceMethod ({ cls := "TaleDuel", name := "forbid", desc := "(I)I" } : Jvm.MethodName)) ∈ lw_all := lw_g (lw_at lw_m6 12 rfl) rfl
theorem q1251 : (Jvm.Cond.selects "TaleDuel" ({ cls := "TaleDuel", name := "forbid", desc := "(I)I" } : Jvm.MethodName) ({ cls := "TaleDuel", name := "forbid", desc := "(I)I" } : Jvm.MethodName)) ∈ lw_all := lw_g (lw_at lw_m6 13 rfl) rfl
theorem q1252 : (Jvm.Cond.code ({ cls := "TaleDuel", name := "forbid", desc := "(I)I" } : Jvm.MethodName) prog_1_method_28_code (2 : Nat) (Option.some Jvm.ClassFile.FieldType.int)) ∈ lw_all := lw_g (lw_at lw_m6 14 rfl) rfl
theorem q1253 : (Jvm.Cond.methodLink "TaleDuel" (246 : Nat) ({ cls := "TaleDuel", name := "demandWord", desc := "(I)V" } : Jvm.MethodName)) ∈ lw_all := lw_g (lw_at lw_m6 15 rfl) rfl
theorem q1254 : (Jvm.Cond.static ({ cls := "TaleDuel", name := "demandWord", desc := "(I)V" } : Jvm.MethodName)) ∈ lw_all := lw_g (lw_at lw_m6 16 rfl) rfl
theorem q1255 : (Jvm.Cond.code ({ cls := "TaleDuel", name := "demandWord", desc := "(I)V" } : Jvm.MethodName) prog_1_method_20_code (1 : Nat) (Option.none : Option Jvm.ClassFile.FieldType)) ∈ lw_all := lw_g (lw_at lw_m6 17 rfl) rfl
theorem q1256 : (Jvm.Cond.methodLink "TaleDuel" (141 : Nat) ({ cls := "TaleDuel", name := "isWord", desc := "(I)Z" } : Jvm.MethodName)) ∈ lw_all := lw_g (lw_at lw_m6 18 rfl) rfl
theorem q1257 : (Jvm.Cond.methodLink "TaleDuel" (249 : Nat) ({ cls := "TaleDuel$State", name := "canForbid", desc := "(I)Z" } : Jvm.MethodName)) ∈ lw_all := lw_g (lw_at lw_m6 19 rfl) rfl
theorem q1263 : (Jvm.Cond.methodLink "TaleDuel" (252 : Nat) ({ cls := "TaleDuel$Duel", name := "forbid", desc := "(I)I" } : Jvm.MethodName)) ∈ lw_all := lw_g (lw_at lw_m6 25 rfl) rfl
theorem q1276 : (Jvm.Cond.instanceMethod ({ cls := "TaleDuel", name := "done", desc := "()I" } : Jvm.MethodName)) ∈ lw_all := lw_g (lw_at lw_m6 38 rfl) rfl
theorem q1277 : (Jvm.Cond.selects "TaleDuel" ({ cls := "TaleDuel", name := "done", desc := "()I" } : Jvm.MethodName) ({ cls := "TaleDuel", name := "done", desc := "()I" } : Jvm.MethodName)) ∈ lw_all := lw_g (lw_at lw_m6 39 rfl) rfl
theorem q1278 : (Jvm.Cond.code ({ cls := "TaleDuel", name := "done", desc := "()I" } : Jvm.MethodName) prog_1_method_29_code (1 : Nat) (Option.some Jvm.ClassFile.FieldType.int)) ∈ lw_all := lw_g (lw_at lw_m6 40 rfl) rfl
theorem q1279 : (Jvm.Cond.methodLink "TaleDuel" (259 : Nat) ({ cls := "TaleDuel$Duel", name := "done", desc := "()I" } : Jvm.MethodName)) ∈ lw_all := lw_g (lw_at lw_m6 41 rfl) rfl
theorem q1287 : (Jvm.Cond.instanceMethod ({ cls := "TaleDuel", name := "play", desc := "()I" } : Jvm.MethodName)) ∈ lw_all := lw_g (lw_at lw_m6 49 rfl) rfl
theorem q1288 : (Jvm.Cond.selects "TaleDuel" ({ cls := "TaleDuel", name := "play", desc := "()I" } : Jvm.MethodName) ({ cls := "TaleDuel", name := "play", desc := "()I" } : Jvm.MethodName)) ∈ lw_all := lw_g (lw_at lw_m6 50 rfl) rfl
theorem q1289 : (Jvm.Cond.code ({ cls := "TaleDuel", name := "play", desc := "()I" } : Jvm.MethodName) prog_1_method_30_code (1 : Nat) (Option.some Jvm.ClassFile.FieldType.int)) ∈ lw_all := lw_g (lw_at lw_m6 51 rfl) rfl
theorem q1290 : (Jvm.Cond.methodLink "TaleDuel" (262 : Nat) ({ cls := "TaleDuel$Duel", name := "play", desc := "()I" } : Jvm.MethodName)) ∈ lw_all := lw_g (lw_at lw_m6 52 rfl) rfl
theorem q1306 : (Jvm.Cond.instanceMethod ({ cls := "TaleDuel", name := "set", desc := "(II)I" } : Jvm.MethodName)) ∈ lw_all := lw_g (lw_at lw_m6 68 rfl) rfl
theorem q1307 : (Jvm.Cond.selects "TaleDuel" ({ cls := "TaleDuel", name := "set", desc := "(II)I" } : Jvm.MethodName) ({ cls := "TaleDuel", name := "set", desc := "(II)I" } : Jvm.MethodName)) ∈ lw_all := lw_g (lw_at lw_m6 69 rfl) rfl
theorem q1308 : (Jvm.Cond.code ({ cls := "TaleDuel", name := "set", desc := "(II)I" } : Jvm.MethodName) prog_1_method_31_code (3 : Nat) (Option.some Jvm.ClassFile.FieldType.int)) ∈ lw_all := lw_g (lw_at lw_m6 70 rfl) rfl
theorem q1309 : (Jvm.Cond.methodLink "TaleDuel" (265 : Nat) ({ cls := "TaleDuel", name := "isSetting", desc := "(II)Z" } : Jvm.MethodName)) ∈ lw_all := lw_g (lw_at lw_m6 71 rfl) rfl
theorem q1310 : (Jvm.Cond.static ({ cls := "TaleDuel", name := "isSetting", desc := "(II)Z" } : Jvm.MethodName)) ∈ lw_all := lw_g (lw_at lw_m6 72 rfl) rfl
theorem q1311 : (Jvm.Cond.code ({ cls := "TaleDuel", name := "isSetting", desc := "(II)Z" } : Jvm.MethodName) prog_1_method_10_code (2 : Nat) (Option.some Jvm.ClassFile.FieldType.boolean)) ∈ lw_all := lw_g (lw_at lw_m6 73 rfl) rfl
theorem q1312 : (Jvm.Cond.constantLong "TaleDuel" (25 : Nat) (6 : Int64)) ∈ lw_all := lw_g (lw_at lw_m6 74 rfl) rfl
theorem q1313 : (Jvm.Cond.constantLong "TaleDuel" (27 : Nat) (9 : Int64)) ∈ lw_all := lw_g (lw_at lw_m6 75 rfl) rfl
theorem q1314 : (Jvm.Cond.constantLong "TaleDuel" (29 : Nat) (5 : Int64)) ∈ lw_all := lw_g (lw_at lw_m6 76 rfl) rfl
theorem q1315 : (Jvm.Cond.constantLong "TaleDuel" (31 : Nat) (99 : Int64)) ∈ lw_all := lw_g (lw_at lw_m6 77 rfl) rfl
theorem q1316 : (Jvm.Cond.methodLink "TaleDuel" (269 : Nat) ({ cls := "TaleDuel$State", name := "set", desc := "(II)I" } : Jvm.MethodName)) ∈ lw_all := lw_g (lw_at lw_m6 78 rfl) rfl
theorem q1324 : (Jvm.Cond.instanceMethod ({ cls := "TaleDuel", name := "undo", desc := "()I" } : Jvm.MethodName)) ∈ lw_all := lw_g (lw_at lw_m6 86 rfl) rfl
theorem q1325 : (Jvm.Cond.selects "TaleDuel" ({ cls := "TaleDuel", name := "undo", desc := "()I" } : Jvm.MethodName) ({ cls := "TaleDuel", name := "undo", desc := "()I" } : Jvm.MethodName)) ∈ lw_all := lw_g (lw_at lw_m6 87 rfl) rfl
theorem q1326 : (Jvm.Cond.code ({ cls := "TaleDuel", name := "undo", desc := "()I" } : Jvm.MethodName) prog_1_method_32_code (1 : Nat) (Option.some Jvm.ClassFile.FieldType.int)) ∈ lw_all := lw_g (lw_at lw_m6 88 rfl) rfl
theorem q1327 : (Jvm.Cond.interfaceEntry "TaleDuel" (273 : Nat)) ∈ lw_tbl := lw_at lw_m6 89 rfl
theorem q1335 : (Jvm.Cond.interfaceEntry "TaleDuel" (276 : Nat)) ∈ lw_tbl := lw_at lw_m6 97 rfl
theorem q1336 : (Jvm.Cond.methodLink "TaleDuel" (276 : Nat) ({ cls := "java/util/Deque", name := "removeLast", desc := "()Ljava/lang/Object;" } : Jvm.MethodName)) ∈ lw_all := lw_g (lw_at lw_m6 98 rfl) rfl
theorem q1355 : (Jvm.Cond.instanceMethod ({ cls := "TaleDuel", name := "points", desc := "(I)I" } : Jvm.MethodName)) ∈ lw_all := lw_g (lw_at lw_m6 117 rfl) rfl
theorem q1356 : (Jvm.Cond.selects "TaleDuel" ({ cls := "TaleDuel", name := "points", desc := "(I)I" } : Jvm.MethodName) ({ cls := "TaleDuel", name := "points", desc := "(I)I" } : Jvm.MethodName)) ∈ lw_all := lw_g (lw_at lw_m6 118 rfl) rfl
theorem q1357 : (Jvm.Cond.code ({ cls := "TaleDuel", name := "points", desc := "(I)I" } : Jvm.MethodName) prog_1_method_33_code (3 : Nat) (Option.some Jvm.ClassFile.FieldType.int)) ∈ lw_all := lw_g (lw_at lw_m6 119 rfl) rfl
theorem q1358 : (Jvm.Cond.methodLink "TaleDuel" (279 : Nat) ({ cls := "TaleDuel$Sentence", name := "set", desc := "()I" } : Jvm.MethodName)) ∈ lw_all := lw_g (lw_at lw_m6 120 rfl) rfl
theorem q1359 : (Jvm.Cond.methodLink "TaleDuel" (281 : Nat) ({ cls := "TaleDuel$Duel", name := "points", desc := "(I)I" } : Jvm.MethodName)) ∈ lw_all := lw_g (lw_at lw_m6 121 rfl) rfl
theorem q1364 : (Jvm.Cond.instanceMethod ({ cls := "TaleDuel", name := "best", desc := "(II)I" } : Jvm.MethodName)) ∈ lw_all := lw_g (lw_at lw_m6 126 rfl) rfl
theorem q1365 : (Jvm.Cond.selects "TaleDuel" ({ cls := "TaleDuel", name := "best", desc := "(II)I" } : Jvm.MethodName) ({ cls := "TaleDuel", name := "best", desc := "(II)I" } : Jvm.MethodName)) ∈ lw_all := lw_g (lw_at lw_m6 127 rfl) rfl
theorem q1366 : (Jvm.Cond.code ({ cls := "TaleDuel", name := "best", desc := "(II)I" } : Jvm.MethodName) prog_1_method_34_code (5 : Nat) (Option.some Jvm.ClassFile.FieldType.int)) ∈ lw_all := lw_g (lw_at lw_m6 128 rfl) rfl
theorem q1367 : (Jvm.Cond.methodLink "TaleDuel" (283 : Nat) ({ cls := "TaleDuel$Duel", name := "search", desc := "(II)LTaleDuel$Search;" } : Jvm.MethodName)) ∈ lw_all := lw_g (lw_at lw_m6 129 rfl) rfl
theorem q1372 : (Jvm.Cond.instanceMethod ({ cls := "TaleDuel", name := "ifForbidden", desc := "(II)I" } : Jvm.MethodName)) ∈ lw_all := lw_g (lw_at lw_m6 134 rfl) rfl
theorem q1373 : (Jvm.Cond.selects "TaleDuel" ({ cls := "TaleDuel", name := "ifForbidden", desc := "(II)I" } : Jvm.MethodName) ({ cls := "TaleDuel", name := "ifForbidden", desc := "(II)I" } : Jvm.MethodName)) ∈ lw_all := lw_g (lw_at lw_m6 135 rfl) rfl
theorem q1374 : (Jvm.Cond.code ({ cls := "TaleDuel", name := "ifForbidden", desc := "(II)I" } : Jvm.MethodName) prog_1_method_35_code (3 : Nat) (Option.some Jvm.ClassFile.FieldType.int)) ∈ lw_all := lw_g (lw_at lw_m6 136 rfl) rfl
theorem q1379 : (Jvm.Cond.instanceMethod ({ cls := "TaleDuel", name := "leaves", desc := "(I)Z" } : Jvm.MethodName)) ∈ lw_all := lw_g (lw_at lw_m6 141 rfl) rfl
theorem q1380 : (Jvm.Cond.selects "TaleDuel" ({ cls := "TaleDuel", name := "leaves", desc := "(I)Z" } : Jvm.MethodName) ({ cls := "TaleDuel", name := "leaves", desc := "(I)Z" } : Jvm.MethodName)) ∈ lw_all := lw_g (lw_at lw_m6 142 rfl) rfl
theorem q1381 : (Jvm.Cond.code ({ cls := "TaleDuel", name := "leaves", desc := "(I)Z" } : Jvm.MethodName) prog_1_method_37_code (3 : Nat) (Option.some Jvm.ClassFile.FieldType.boolean)) ∈ lw_all := lw_g (lw_at lw_m6 143 rfl) rfl
theorem q1386 : (Jvm.Cond.instanceMethod ({ cls := "TaleDuel", name := "runScript", desc := "(IJ)I" } : Jvm.MethodName)) ∈ lw_all := lw_g (lw_at lw_m6 148 rfl) rfl
theorem q1387 : (Jvm.Cond.selects "TaleDuel" ({ cls := "TaleDuel", name := "runScript", desc := "(IJ)I" } : Jvm.MethodName) ({ cls := "TaleDuel", name := "runScript", desc := "(IJ)I" } : Jvm.MethodName)) ∈ lw_all := lw_g (lw_at lw_m6 149 rfl) rfl
theorem q1388 : (Jvm.Cond.code ({ cls := "TaleDuel", name := "runScript", desc := "(IJ)I" } : Jvm.MethodName) prog_1_method_46_code (6 : Nat) (Option.some Jvm.ClassFile.FieldType.int)) ∈ lw_all := lw_g (lw_at lw_m6 150 rfl) rfl
theorem q1389 : (Jvm.Cond.methodLink "TaleDuel" (323 : Nat) ({ cls := "TaleDuel", name := "tenTo", desc := "(I)J" } : Jvm.MethodName)) ∈ lw_all := lw_g (lw_at lw_m6 151 rfl) rfl
theorem q1390 : (Jvm.Cond.static ({ cls := "TaleDuel", name := "tenTo", desc := "(I)J" } : Jvm.MethodName)) ∈ lw_all := lw_g (lw_at lw_m6 152 rfl) rfl
theorem q1391 : (Jvm.Cond.code ({ cls := "TaleDuel", name := "tenTo", desc := "(I)J" } : Jvm.MethodName) prog_1_method_5_code (4 : Nat) (Option.some Jvm.ClassFile.FieldType.long)) ∈ lw_all := lw_g (lw_at lw_m6 153 rfl) rfl
theorem q1392 : (Jvm.Cond.constantLong "TaleDuel" (13 : Nat) (10 : Int64)) ∈ lw_all := lw_g (lw_at lw_m6 154 rfl) rfl
theorem q1393 : (Jvm.Cond.methodLink "TaleDuel" (327 : Nat) ({ cls := "TaleDuel", name := "trial", desc := "()LTaleDuel$State;" } : Jvm.MethodName)) ∈ lw_all := lw_g (lw_at lw_m6 155 rfl) rfl
theorem q1394 : (Jvm.Cond.privateMethod ({ cls := "TaleDuel", name := "trial", desc := "()LTaleDuel$State;" } : Jvm.MethodName)) ∈ lw_tbl := lw_at lw_m6 156 rfl
theorem q1395 : (Jvm.Cond.instanceMethod ({ cls := "TaleDuel", name := "trial", desc := "()LTaleDuel$State;" } : Jvm.MethodName)) ∈ lw_all := lw_g (lw_at lw_m6 157 rfl) rfl
theorem q1396 : (Jvm.Cond.code ({ cls := "TaleDuel", name := "trial", desc := "()LTaleDuel$State;" } : Jvm.MethodName) prog_1_method_13_code (1 : Nat) (Option.some (Jvm.ClassFile.FieldType.object "TaleDuel$State"))) ∈ lw_all := lw_g (lw_at lw_m6 158 rfl) rfl
theorem q1397 : (Jvm.Cond.constantLong "TaleDuel" (330 : Nat) (1000 : Int64)) ∈ lw_all := lw_g (lw_at lw_m6 159 rfl) rfl
theorem q1398 : (Jvm.Cond.methodLink "TaleDuel" (332 : Nat) ({ cls := "TaleDuel", name := "run", desc := "(LTaleDuel$State;I)Z" } : Jvm.MethodName)) ∈ lw_all := lw_g (lw_at lw_m6 160 rfl) rfl
theorem q1399 : (Jvm.Cond.privateMethod ({ cls := "TaleDuel", name := "run", desc := "(LTaleDuel$State;I)Z" } : Jvm.MethodName)) ∈ lw_tbl := lw_at lw_m6 161 rfl
theorem q1400 : (Jvm.Cond.instanceMethod ({ cls := "TaleDuel", name := "run", desc := "(LTaleDuel$State;I)Z" } : Jvm.MethodName)) ∈ lw_all := lw_g (lw_at lw_m6 162 rfl) rfl
theorem q1401 : (Jvm.Cond.code ({ cls := "TaleDuel", name := "run", desc := "(LTaleDuel$State;I)Z" } : Jvm.MethodName) prog_1_method_45_code (6 : Nat) (Option.some Jvm.ClassFile.FieldType.boolean)) ∈ lw_all := lw_g (lw_at lw_m6 163 rfl) rfl
theorem q1402 : (Jvm.Cond.methodLink "TaleDuel" (299 : Nat) ({ cls := "TaleDuel", name := "runTell", desc := "(LTaleDuel$State;)Z" } : Jvm.MethodName)) ∈ lw_all := lw_g (lw_at lw_m6 164 rfl) rfl
theorem q1403 : (Jvm.Cond.privateMethod ({ cls := "TaleDuel", name := "runTell", desc := "(LTaleDuel$State;)Z" } : Jvm.MethodName)) ∈ lw_tbl := lw_at lw_m6 165 rfl
theorem q1404 : (Jvm.Cond.instanceMethod ({ cls := "TaleDuel", name := "runTell", desc := "(LTaleDuel$State;)Z" } : Jvm.MethodName)) ∈ lw_all := lw_g (lw_at lw_m6 166 rfl) rfl
theorem q1405 : (Jvm.Cond.code ({ cls := "TaleDuel", name := "runTell", desc := "(LTaleDuel$State;)Z" } : Jvm.MethodName) prog_1_method_38_code (2 : Nat) (Option.some Jvm.ClassFile.FieldType.boolean)) ∈ lw_all := lw_g (lw_at lw_m6 167 rfl) rfl
theorem q1406 : (Jvm.Cond.methodLink "TaleDuel" (303 : Nat) ({ cls := "TaleDuel", name := "runForbid", desc := "(LTaleDuel$State;I)Z" } : Jvm.MethodName)) ∈ lw_all := lw_g (lw_at lw_m6 168 rfl) rfl
theorem q1407 : (Jvm.Cond.static ({ cls := "TaleDuel", name := "runForbid", desc := "(LTaleDuel$State;I)Z" } : Jvm.MethodName)) ∈ lw_all := lw_g (lw_at lw_m6 169 rfl) rfl
theorem q1408 : (Jvm.Cond.code ({ cls := "TaleDuel", name := "runForbid", desc := "(LTaleDuel$State;I)Z" } : Jvm.MethodName) prog_1_method_39_code (2 : Nat) (Option.some Jvm.ClassFile.FieldType.boolean)) ∈ lw_all := lw_g (lw_at lw_m6 170 rfl) rfl
theorem q1409 : (Jvm.Cond.methodLink "TaleDuel" (307 : Nat) ({ cls := "TaleDuel", name := "runDone", desc := "(LTaleDuel$State;)Z" } : Jvm.MethodName)) ∈ lw_all := lw_g (lw_at lw_m6 171 rfl) rfl
theorem q1410 : (Jvm.Cond.static ({ cls := "TaleDuel", name := "runDone", desc := "(LTaleDuel$State;)Z" } : Jvm.MethodName)) ∈ lw_all := lw_g (lw_at lw_m6 172 rfl) rfl
theorem q1411 : (Jvm.Cond.code ({ cls := "TaleDuel", name := "runDone", desc := "(LTaleDuel$State;)Z" } : Jvm.MethodName) prog_1_method_40_code (1 : Nat) (Option.some Jvm.ClassFile.FieldType.boolean)) ∈ lw_all := lw_g (lw_at lw_m6 173 rfl) rfl
theorem q1412 : (Jvm.Cond.methodLink "TaleDuel" (310 : Nat) ({ cls := "TaleDuel", name := "runPlay", desc := "(LTaleDuel$State;)Z" } : Jvm.MethodName)) ∈ lw_all := lw_g (lw_at lw_m6 174 rfl) rfl
theorem q1413 : (Jvm.Cond.static ({ cls := "TaleDuel", name := "runPlay", desc := "(LTaleDuel$State;)Z" } : Jvm.MethodName)) ∈ lw_all := lw_g (lw_at lw_m6 175 rfl) rfl
theorem q1414 : (Jvm.Cond.code ({ cls := "TaleDuel", name := "runPlay", desc := "(LTaleDuel$State;)Z" } : Jvm.MethodName) prog_1_method_41_code (1 : Nat) (Option.some Jvm.ClassFile.FieldType.boolean)) ∈ lw_all := lw_g (lw_at lw_m6 176 rfl) rfl
theorem q1415 : (Jvm.Cond.methodLink "TaleDuel" (313 : Nat) ({ cls := "TaleDuel", name := "runSet", desc := "(LTaleDuel$State;I)Z" } : Jvm.MethodName)) ∈ lw_all := lw_g (lw_at lw_m6 177 rfl) rfl
theorem q1416 : (Jvm.Cond.static ({ cls := "TaleDuel", name := "runSet", desc := "(LTaleDuel$State;I)Z" } : Jvm.MethodName)) ∈ lw_all := lw_g (lw_at lw_m6 178 rfl) rfl
theorem q1417 : (Jvm.Cond.code ({ cls := "TaleDuel", name := "runSet", desc := "(LTaleDuel$State;I)Z" } : Jvm.MethodName) prog_1_method_42_code (2 : Nat) (Option.some Jvm.ClassFile.FieldType.boolean)) ∈ lw_all := lw_g (lw_at lw_m6 179 rfl) rfl
theorem q1418 : (Jvm.Cond.methodLink "TaleDuel" (316 : Nat) ({ cls := "TaleDuel", name := "scores", desc := "(LTaleDuel$State;II)Z" } : Jvm.MethodName)) ∈ lw_all := lw_g (lw_at lw_m6 180 rfl) rfl
theorem q1419 : (Jvm.Cond.static ({ cls := "TaleDuel", name := "scores", desc := "(LTaleDuel$State;II)Z" } : Jvm.MethodName)) ∈ lw_all := lw_g (lw_at lw_m6 181 rfl) rfl
theorem q1420 : (Jvm.Cond.code ({ cls := "TaleDuel", name := "scores", desc := "(LTaleDuel$State;II)Z" } : Jvm.MethodName) prog_1_method_43_code (3 : Nat) (Option.some Jvm.ClassFile.FieldType.boolean)) ∈ lw_all := lw_g (lw_at lw_m6 182 rfl) rfl
theorem q1421 : (Jvm.Cond.methodLink "TaleDuel" (296 : Nat) ({ cls := "TaleDuel", name := "has", desc := "(II)Z" } : Jvm.MethodName)) ∈ lw_all := lw_g (lw_at lw_m6 183 rfl) rfl
theorem q1422 : (Jvm.Cond.methodLink "TaleDuel" (320 : Nat) ({ cls := "TaleDuel", name := "isForbidden", desc := "(LTaleDuel$State;II)Z" } : Jvm.MethodName)) ∈ lw_all := lw_g (lw_at lw_m6 184 rfl) rfl
theorem q1423 : (Jvm.Cond.static ({ cls := "TaleDuel", name := "isForbidden", desc := "(LTaleDuel$State;II)Z" } : Jvm.MethodName)) ∈ lw_all := lw_g (lw_at lw_m6 185 rfl) rfl
theorem q1424 : (Jvm.Cond.code ({ cls := "TaleDuel", name := "isForbidden", desc := "(LTaleDuel$State;II)Z" } : Jvm.MethodName) prog_1_method_44_code (3 : Nat) (Option.some Jvm.ClassFile.FieldType.boolean)) ∈ lw_all := lw_g (lw_at lw_m6 186 rfl) rfl
theorem q1429 : (Jvm.Cond.instanceMethod ({ cls := "TaleDuel", name := "simulate", desc := "(JI)I" } : Jvm.MethodName)) ∈ lw_all := lw_g (lw_at lw_m6 191 rfl) rfl
theorem q1430 : (Jvm.Cond.selects "TaleDuel" ({ cls := "TaleDuel", name := "simulate", desc := "(JI)I" } : Jvm.MethodName) ({ cls := "TaleDuel", name := "simulate", desc := "(JI)I" } : Jvm.MethodName)) ∈ lw_all := lw_g (lw_at lw_m6 192 rfl) rfl
theorem q1431 : (Jvm.Cond.code ({ cls := "TaleDuel", name := "simulate", desc := "(JI)I" } : Jvm.MethodName) prog_1_method_48_code (8 : Nat) (Option.some Jvm.ClassFile.FieldType.int)) ∈ lw_all := lw_g (lw_at lw_m6 193 rfl) rfl
theorem q1432 : (Jvm.Cond.constantLong "TaleDuel" (335 : Nat) (20 : Int64)) ∈ lw_all := lw_g (lw_at lw_m6 194 rfl) rfl
theorem q1433 : (Jvm.Cond.constantLong "TaleDuel" (337 : Nat) (6364136223846793005 : Int64)) ∈ lw_all := lw_g (lw_at lw_m6 195 rfl) rfl
theorem q1434 : (Jvm.Cond.constantLong "TaleDuel" (339 : Nat) (1442695040888963407 : Int64)) ∈ lw_all := lw_g (lw_at lw_m6 196 rfl) rfl
theorem q1435 : (Jvm.Cond.methodLink "TaleDuel" (341 : Nat) ({ cls := "TaleDuel", name := "stir", desc := "(LTaleDuel$State;I)V" } : Jvm.MethodName)) ∈ lw_all := lw_g (lw_at lw_m6 197 rfl) rfl
theorem q1436 : (Jvm.Cond.static ({ cls := "TaleDuel", name := "stir", desc := "(LTaleDuel$State;I)V" } : Jvm.MethodName)) ∈ lw_all := lw_g (lw_at lw_m6 198 rfl) rfl
theorem q1437 : (Jvm.Cond.code ({ cls := "TaleDuel", name := "stir", desc := "(LTaleDuel$State;I)V" } : Jvm.MethodName) prog_1_method_47_code (5 : Nat) (Option.none : Option Jvm.ClassFile.FieldType)) ∈ lw_all := lw_g (lw_at lw_m6 199 rfl) rfl
theorem q1442 : (Jvm.Cond.instanceMethod ({ cls := "TaleDuel", name := "save", desc := "(I)I" } : Jvm.MethodName)) ∈ lw_all := lw_g (lw_at lw_m6 204 rfl) rfl
theorem q1443 : (Jvm.Cond.selects "TaleDuel" ({ cls := "TaleDuel", name := "save", desc := "(I)I" } : Jvm.MethodName) ({ cls := "TaleDuel", name := "save", desc := "(I)I" } : Jvm.MethodName)) ∈ lw_all := lw_g (lw_at lw_m6 205 rfl) rfl
theorem q1444 : (Jvm.Cond.code ({ cls := "TaleDuel", name := "save", desc := "(I)I" } : Jvm.MethodName) prog_1_method_50_code (2 : Nat) (Option.some Jvm.ClassFile.FieldType.int)) ∈ lw_all := lw_g (lw_at lw_m6 206 rfl) rfl
theorem q1445 : (Jvm.Cond.methodLink "TaleDuel" (345 : Nat) ({ cls := "TaleDuel", name := "turns", desc := "()I" } : Jvm.MethodName)) ∈ lw_all := lw_g (lw_at lw_m6 207 rfl) rfl
theorem q1446 : (Jvm.Cond.privateMethod ({ cls := "TaleDuel", name := "turns", desc := "()I" } : Jvm.MethodName)) ∈ lw_tbl := lw_at lw_m6 208 rfl
theorem q1447 : (Jvm.Cond.instanceMethod ({ cls := "TaleDuel", name := "turns", desc := "()I" } : Jvm.MethodName)) ∈ lw_all := lw_g (lw_at lw_m6 209 rfl) rfl
theorem q1448 : (Jvm.Cond.code ({ cls := "TaleDuel", name := "turns", desc := "()I" } : Jvm.MethodName) prog_1_method_49_code (1 : Nat) (Option.some Jvm.ClassFile.FieldType.int)) ∈ lw_all := lw_g (lw_at lw_m6 210 rfl) rfl
theorem q1453 : (Jvm.Cond.instanceMethod ({ cls := "TaleDuel", name := "restore", desc := "(I)I" } : Jvm.MethodName)) ∈ lw_all := lw_g (lw_at lw_m6 215 rfl) rfl
theorem q1454 : (Jvm.Cond.selects "TaleDuel" ({ cls := "TaleDuel", name := "restore", desc := "(I)I" } : Jvm.MethodName) ({ cls := "TaleDuel", name := "restore", desc := "(I)I" } : Jvm.MethodName)) ∈ lw_all := lw_g (lw_at lw_m6 216 rfl) rfl
theorem q1455 : (Jvm.Cond.code ({ cls := "TaleDuel", name := "restore", desc := "(I)I" } : Jvm.MethodName) prog_1_method_51_code (2 : Nat) (Option.some Jvm.ClassFile.FieldType.int)) ∈ lw_all := lw_g (lw_at lw_m6 217 rfl) rfl
theorem q1456 : (Jvm.Cond.interfaceEntry "TaleDuel" (347 : Nat)) ∈ lw_tbl := lw_at lw_m6 218 rfl
theorem q1786 : (Jvm.Cond.castable "TaleDuel" "java/lang/Object") ∈ lw_tbl := lw_at lw_m8 68 rfl
theorem in_X1 : ∀ w ∈ wsX10, w ∈ lw_all := lw_in wsX10 [139, 141, 143, 145] (by decide +kernel) (by decide +kernel)
