/-! TaleDuel$Duel -/
set_option maxRecDepth 100000
def RX6 : String := "TaleDuel$Duel"
def TX6 : u_T := fun k => match k with
  | 0 => ("TaleDuel$Duel", "settings", "[I", true)
  | 1 => ("TaleDuel$Duel", "tellers", "[LTaleDuel$Teller;", true)
  | 2 => ("TaleDuel$Duel", "listeners", "[LTaleDuel$Listener;", true)
  | 3 => ("TaleDuel$Duel", "told", "LTaleDuel$Store;", true)
  | 4 => ("TaleDuel$Duel", "sentences", "I", false)
  | 5 => ("TaleDuel$Duel", "turn", "I", false)
  | 6 => ("TaleDuel$Duel", "turns", "I", false)
  | 7 => ("TaleDuel$Duel", "spoken", "Z", false)
  | 8 => ("TaleDuel$Duel", "passed", "Z", false)
  | _ => ("TaleDuel$Duel", "over", "Z", false)
def tyX6 : Nat → FieldType := fun k => match k with
  | 0 => .array .int
  | 1 => .array (.object "TaleDuel$Teller")
  | 2 => .array (.object "TaleDuel$Listener")
  | 3 => .object "TaleDuel$Store"
  | 4 => .int
  | 5 => .int
  | 6 => .int
  | 7 => .boolean
  | 8 => .boolean
  | _ => .boolean
abbrev wsX60 : List Cond := u_ws RX6 TX6 10
theorem nmX6 : ∀ a, a < 10 → ∀ b, b < 10 → a ≠ b → (TX6 a).2.1 ≠ (TX6 b).2.1 := by decide +kernel
theorem tyX6_ok : ∀ k, k < 10 → parseFieldDescriptor (TX6 k).2.2.1 = some (tyX6 k) := by decide +kernel
abbrev cX6_init : ByteArray := prog_2_method_2_code
def yX6_init : MethodName := ⟨RX6, "<init>", "(LTaleDuel$Duel;[I)V"⟩
def dkwX6_init_8 : List UInt8 := [177]
abbrev dktX6_init_8 : List UInt8 := dkwX6_init_8 ++ []
def dkwX6_init_7 : List UInt8 := [42, 43, 180, 0, 72, 181, 0, 72, 42, 43, 180, 0, 76, 181, 0, 76, 42, 43, 180, 0, 79, 181, 0, 79]
abbrev dktX6_init_7 : List UInt8 := dkwX6_init_7 ++ dktX6_init_8
def dkwX6_init_6 : List UInt8 := [42, 43, 180, 0, 62, 181, 0, 62, 42, 43, 180, 0, 66, 181, 0, 66, 42, 43, 180, 0, 69, 181, 0, 69]
abbrev dktX6_init_6 : List UInt8 := dkwX6_init_6 ++ dktX6_init_7
def dkwX6_init_5 : List UInt8 := [42, 180, 0, 28, 43, 180, 0, 28, 29, 182, 0, 52, 192, 0, 56, 182, 0, 58, 132, 3, 255, 167, 255, 231]
abbrev dktX6_init_5 : List UInt8 := dkwX6_init_5 ++ dktX6_init_6
def dkwX6_init_4 : List UInt8 := [183, 0, 45, 83, 132, 3, 1, 167, 255, 229, 43, 180, 0, 28, 182, 0, 48, 4, 100, 62, 29, 155, 0, 27]
abbrev dktX6_init_4 : List UInt8 := dkwX6_init_4 ++ dktX6_init_5
def dkwX6_init_3 : List UInt8 := [3, 62, 29, 6, 162, 0, 28, 42, 180, 0, 19, 29, 187, 0, 17, 89, 43, 180, 0, 19, 29, 50]
abbrev dktX6_init_3 : List UInt8 := dkwX6_init_3 ++ dktX6_init_4
def dkwX6_init_2 : List UInt8 := [180, 0, 11, 29, 187, 0, 9, 89, 43, 180, 0, 11, 29, 50, 183, 0, 42, 83, 132, 3, 1, 167, 255, 229]
abbrev dktX6_init_2 : List UInt8 := dkwX6_init_2 ++ dktX6_init_3
def dkwX6_init_1 : List UInt8 := [89, 16, 6, 183, 0, 25, 181, 0, 28, 42, 44, 181, 0, 32, 3, 62, 29, 5, 162, 0, 28, 42]
abbrev dktX6_init_1 : List UInt8 := dkwX6_init_1 ++ dktX6_init_2
def dkwX6_init_0 : List UInt8 := [42, 183, 0, 3, 42, 5, 189, 0, 9, 181, 0, 11, 42, 6, 189, 0, 17, 181, 0, 19, 42, 187, 0, 23]
abbrev dktX6_init_0 : List UInt8 := dkwX6_init_0 ++ dktX6_init_1
theorem dksX6_init_0 : cX6_init.data.toList.drop 0 = dktX6_init_0 := by decide +kernel
theorem dksX6_init_1 : cX6_init.data.toList.drop 24 = dktX6_init_1 := dk_seg dksX6_init_0 24 rfl rfl
theorem dksX6_init_2 : cX6_init.data.toList.drop 46 = dktX6_init_2 := dk_seg dksX6_init_1 22 rfl rfl
theorem dksX6_init_3 : cX6_init.data.toList.drop 70 = dktX6_init_3 := dk_seg dksX6_init_2 24 rfl rfl
theorem dksX6_init_4 : cX6_init.data.toList.drop 92 = dktX6_init_4 := dk_seg dksX6_init_3 22 rfl rfl
theorem dksX6_init_5 : cX6_init.data.toList.drop 116 = dktX6_init_5 := dk_seg dksX6_init_4 24 rfl rfl
theorem dksX6_init_6 : cX6_init.data.toList.drop 140 = dktX6_init_6 := dk_seg dksX6_init_5 24 rfl rfl
theorem dksX6_init_7 : cX6_init.data.toList.drop 164 = dktX6_init_7 := dk_seg dksX6_init_6 24 rfl rfl
theorem dksX6_init_8 : cX6_init.data.toList.drop 188 = dktX6_init_8 := dk_seg dksX6_init_7 24 rfl rfl
theorem dX6_init_0 : decode cX6_init 0 = .ok (.aload_n 0, 1) := dk_42 (dk_at dksX6_init_0 0 rfl rfl)
theorem dX6_init_1 : decode cX6_init 1 = .ok (.invokespecial 3, 3) := dk_183 0 3 (dk_at dksX6_init_0 1 rfl rfl)
theorem dX6_init_4 : decode cX6_init 4 = .ok (.aload_n 0, 1) := dk_42 (dk_at dksX6_init_0 4 rfl rfl)
theorem dX6_init_5 : decode cX6_init 5 = .ok (.iconst 2, 1) := dk_5 (dk_at dksX6_init_0 5 rfl rfl)
theorem dX6_init_6 : decode cX6_init 6 = .ok (.anewarray 9, 3) := dk_189 0 9 (dk_at dksX6_init_0 6 rfl rfl)
theorem dX6_init_9 : decode cX6_init 9 = .ok (.putfield 11, 3) := dk_181 0 11 (dk_at dksX6_init_0 9 rfl rfl)
theorem dX6_init_12 : decode cX6_init 12 = .ok (.aload_n 0, 1) := dk_42 (dk_at dksX6_init_0 12 rfl rfl)
theorem dX6_init_13 : decode cX6_init 13 = .ok (.iconst 3, 1) := dk_6 (dk_at dksX6_init_0 13 rfl rfl)
theorem dX6_init_14 : decode cX6_init 14 = .ok (.anewarray 17, 3) := dk_189 0 17 (dk_at dksX6_init_0 14 rfl rfl)
theorem dX6_init_17 : decode cX6_init 17 = .ok (.putfield 19, 3) := dk_181 0 19 (dk_at dksX6_init_0 17 rfl rfl)
theorem dX6_init_20 : decode cX6_init 20 = .ok (.aload_n 0, 1) := dk_42 (dk_at dksX6_init_0 20 rfl rfl)
theorem dX6_init_21 : decode cX6_init 21 = .ok (.new 23, 3) := dk_187 0 23 (dk_at dksX6_init_0 21 rfl rfl)
theorem dX6_init_24 : decode cX6_init 24 = .ok (.dup, 1) := dk_89 (dk_at dksX6_init_1 0 rfl rfl)
theorem dX6_init_25 : decode cX6_init 25 = .ok (.bipush 6, 2) := dk_16 6 (dk_at dksX6_init_1 1 rfl rfl)
theorem dX6_init_27 : decode cX6_init 27 = .ok (.invokespecial 25, 3) := dk_183 0 25 (dk_at dksX6_init_1 3 rfl rfl)
theorem dX6_init_30 : decode cX6_init 30 = .ok (.putfield 28, 3) := dk_181 0 28 (dk_at dksX6_init_1 6 rfl rfl)
theorem dX6_init_33 : decode cX6_init 33 = .ok (.aload_n 0, 1) := dk_42 (dk_at dksX6_init_1 9 rfl rfl)
theorem dX6_init_34 : decode cX6_init 34 = .ok (.aload_n 2, 1) := dk_44 (dk_at dksX6_init_1 10 rfl rfl)
theorem dX6_init_35 : decode cX6_init 35 = .ok (.putfield 32, 3) := dk_181 0 32 (dk_at dksX6_init_1 11 rfl rfl)
theorem dX6_init_38 : decode cX6_init 38 = .ok (.iconst 0, 1) := dk_3 (dk_at dksX6_init_1 14 rfl rfl)
theorem dX6_init_39 : decode cX6_init 39 = .ok (.istore_n 3, 1) := dk_62 (dk_at dksX6_init_1 15 rfl rfl)
theorem dX6_init_40 : decode cX6_init 40 = .ok (.iload_n 3, 1) := dk_29 (dk_at dksX6_init_1 16 rfl rfl)
theorem dX6_init_41 : decode cX6_init 41 = .ok (.iconst 2, 1) := dk_5 (dk_at dksX6_init_1 17 rfl rfl)
theorem dX6_init_42 : decode cX6_init 42 = .ok (.if_icmp .ge 28, 3) := dk_162 0 28 (dk_at dksX6_init_1 18 rfl rfl)
theorem dX6_init_45 : decode cX6_init 45 = .ok (.aload_n 0, 1) := dk_42 (dk_at dksX6_init_1 21 rfl rfl)
theorem dX6_init_46 : decode cX6_init 46 = .ok (.getfield 11, 3) := dk_180 0 11 (dk_at dksX6_init_2 0 rfl rfl)
theorem dX6_init_49 : decode cX6_init 49 = .ok (.iload_n 3, 1) := dk_29 (dk_at dksX6_init_2 3 rfl rfl)
theorem dX6_init_50 : decode cX6_init 50 = .ok (.new 9, 3) := dk_187 0 9 (dk_at dksX6_init_2 4 rfl rfl)
theorem dX6_init_53 : decode cX6_init 53 = .ok (.dup, 1) := dk_89 (dk_at dksX6_init_2 7 rfl rfl)
theorem dX6_init_54 : decode cX6_init 54 = .ok (.aload_n 1, 1) := dk_43 (dk_at dksX6_init_2 8 rfl rfl)
theorem dX6_init_55 : decode cX6_init 55 = .ok (.getfield 11, 3) := dk_180 0 11 (dk_at dksX6_init_2 9 rfl rfl)
theorem dX6_init_58 : decode cX6_init 58 = .ok (.iload_n 3, 1) := dk_29 (dk_at dksX6_init_2 12 rfl rfl)
theorem dX6_init_59 : decode cX6_init 59 = .ok (.aaload, 1) := dk_50 (dk_at dksX6_init_2 13 rfl rfl)
theorem dX6_init_60 : decode cX6_init 60 = .ok (.invokespecial 42, 3) := dk_183 0 42 (dk_at dksX6_init_2 14 rfl rfl)
theorem dX6_init_63 : decode cX6_init 63 = .ok (.aastore, 1) := dk_83 (dk_at dksX6_init_2 17 rfl rfl)
theorem dX6_init_64 : decode cX6_init 64 = .ok (.iinc 3 1, 3) := dk_132 3 1 (dk_at dksX6_init_2 18 rfl rfl)
theorem dX6_init_67 : decode cX6_init 67 = .ok (.goto (-27), 3) := dk_167 255 229 (dk_at dksX6_init_2 21 rfl rfl)
theorem dX6_init_70 : decode cX6_init 70 = .ok (.iconst 0, 1) := dk_3 (dk_at dksX6_init_3 0 rfl rfl)
theorem dX6_init_71 : decode cX6_init 71 = .ok (.istore_n 3, 1) := dk_62 (dk_at dksX6_init_3 1 rfl rfl)
theorem dX6_init_72 : decode cX6_init 72 = .ok (.iload_n 3, 1) := dk_29 (dk_at dksX6_init_3 2 rfl rfl)
theorem dX6_init_73 : decode cX6_init 73 = .ok (.iconst 3, 1) := dk_6 (dk_at dksX6_init_3 3 rfl rfl)
theorem dX6_init_74 : decode cX6_init 74 = .ok (.if_icmp .ge 28, 3) := dk_162 0 28 (dk_at dksX6_init_3 4 rfl rfl)
theorem dX6_init_77 : decode cX6_init 77 = .ok (.aload_n 0, 1) := dk_42 (dk_at dksX6_init_3 7 rfl rfl)
theorem dX6_init_78 : decode cX6_init 78 = .ok (.getfield 19, 3) := dk_180 0 19 (dk_at dksX6_init_3 8 rfl rfl)
theorem dX6_init_81 : decode cX6_init 81 = .ok (.iload_n 3, 1) := dk_29 (dk_at dksX6_init_3 11 rfl rfl)
theorem dX6_init_82 : decode cX6_init 82 = .ok (.new 17, 3) := dk_187 0 17 (dk_at dksX6_init_3 12 rfl rfl)
theorem dX6_init_85 : decode cX6_init 85 = .ok (.dup, 1) := dk_89 (dk_at dksX6_init_3 15 rfl rfl)
theorem dX6_init_86 : decode cX6_init 86 = .ok (.aload_n 1, 1) := dk_43 (dk_at dksX6_init_3 16 rfl rfl)
theorem dX6_init_87 : decode cX6_init 87 = .ok (.getfield 19, 3) := dk_180 0 19 (dk_at dksX6_init_3 17 rfl rfl)
theorem dX6_init_90 : decode cX6_init 90 = .ok (.iload_n 3, 1) := dk_29 (dk_at dksX6_init_3 20 rfl rfl)
theorem dX6_init_91 : decode cX6_init 91 = .ok (.aaload, 1) := dk_50 (dk_at dksX6_init_3 21 rfl rfl)
theorem dX6_init_92 : decode cX6_init 92 = .ok (.invokespecial 45, 3) := dk_183 0 45 (dk_at dksX6_init_4 0 rfl rfl)
theorem dX6_init_95 : decode cX6_init 95 = .ok (.aastore, 1) := dk_83 (dk_at dksX6_init_4 3 rfl rfl)
theorem dX6_init_96 : decode cX6_init 96 = .ok (.iinc 3 1, 3) := dk_132 3 1 (dk_at dksX6_init_4 4 rfl rfl)
theorem dX6_init_99 : decode cX6_init 99 = .ok (.goto (-27), 3) := dk_167 255 229 (dk_at dksX6_init_4 7 rfl rfl)
theorem dX6_init_102 : decode cX6_init 102 = .ok (.aload_n 1, 1) := dk_43 (dk_at dksX6_init_4 10 rfl rfl)
theorem dX6_init_103 : decode cX6_init 103 = .ok (.getfield 28, 3) := dk_180 0 28 (dk_at dksX6_init_4 11 rfl rfl)
theorem dX6_init_106 : decode cX6_init 106 = .ok (.invokevirtual 48, 3) := dk_182 0 48 (dk_at dksX6_init_4 14 rfl rfl)
theorem dX6_init_109 : decode cX6_init 109 = .ok (.iconst 1, 1) := dk_4 (dk_at dksX6_init_4 17 rfl rfl)
theorem dX6_init_110 : decode cX6_init 110 = .ok (.isub, 1) := dk_100 (dk_at dksX6_init_4 18 rfl rfl)
theorem dX6_init_111 : decode cX6_init 111 = .ok (.istore_n 3, 1) := dk_62 (dk_at dksX6_init_4 19 rfl rfl)
theorem dX6_init_112 : decode cX6_init 112 = .ok (.iload_n 3, 1) := dk_29 (dk_at dksX6_init_4 20 rfl rfl)
theorem dX6_init_113 : decode cX6_init 113 = .ok (.ifCond .lt 27, 3) := dk_155 0 27 (dk_at dksX6_init_4 21 rfl rfl)
theorem dX6_init_116 : decode cX6_init 116 = .ok (.aload_n 0, 1) := dk_42 (dk_at dksX6_init_5 0 rfl rfl)
theorem dX6_init_117 : decode cX6_init 117 = .ok (.getfield 28, 3) := dk_180 0 28 (dk_at dksX6_init_5 1 rfl rfl)
theorem dX6_init_120 : decode cX6_init 120 = .ok (.aload_n 1, 1) := dk_43 (dk_at dksX6_init_5 4 rfl rfl)
theorem dX6_init_121 : decode cX6_init 121 = .ok (.getfield 28, 3) := dk_180 0 28 (dk_at dksX6_init_5 5 rfl rfl)
theorem dX6_init_124 : decode cX6_init 124 = .ok (.iload_n 3, 1) := dk_29 (dk_at dksX6_init_5 8 rfl rfl)
theorem dX6_init_125 : decode cX6_init 125 = .ok (.invokevirtual 52, 3) := dk_182 0 52 (dk_at dksX6_init_5 9 rfl rfl)
theorem dX6_init_128 : decode cX6_init 128 = .ok (.checkcast 56, 3) := dk_192 0 56 (dk_at dksX6_init_5 12 rfl rfl)
theorem dX6_init_131 : decode cX6_init 131 = .ok (.invokevirtual 58, 3) := dk_182 0 58 (dk_at dksX6_init_5 15 rfl rfl)
theorem dX6_init_134 : decode cX6_init 134 = .ok (.iinc 3 (-1), 3) := dk_132 3 255 (dk_at dksX6_init_5 18 rfl rfl)
theorem dX6_init_137 : decode cX6_init 137 = .ok (.goto (-25), 3) := dk_167 255 231 (dk_at dksX6_init_5 21 rfl rfl)
theorem dX6_init_140 : decode cX6_init 140 = .ok (.aload_n 0, 1) := dk_42 (dk_at dksX6_init_6 0 rfl rfl)
theorem dX6_init_141 : decode cX6_init 141 = .ok (.aload_n 1, 1) := dk_43 (dk_at dksX6_init_6 1 rfl rfl)
theorem dX6_init_142 : decode cX6_init 142 = .ok (.getfield 62, 3) := dk_180 0 62 (dk_at dksX6_init_6 2 rfl rfl)
theorem dX6_init_145 : decode cX6_init 145 = .ok (.putfield 62, 3) := dk_181 0 62 (dk_at dksX6_init_6 5 rfl rfl)
theorem dX6_init_148 : decode cX6_init 148 = .ok (.aload_n 0, 1) := dk_42 (dk_at dksX6_init_6 8 rfl rfl)
theorem dX6_init_149 : decode cX6_init 149 = .ok (.aload_n 1, 1) := dk_43 (dk_at dksX6_init_6 9 rfl rfl)
theorem dX6_init_150 : decode cX6_init 150 = .ok (.getfield 66, 3) := dk_180 0 66 (dk_at dksX6_init_6 10 rfl rfl)
theorem dX6_init_153 : decode cX6_init 153 = .ok (.putfield 66, 3) := dk_181 0 66 (dk_at dksX6_init_6 13 rfl rfl)
theorem dX6_init_156 : decode cX6_init 156 = .ok (.aload_n 0, 1) := dk_42 (dk_at dksX6_init_6 16 rfl rfl)
theorem dX6_init_157 : decode cX6_init 157 = .ok (.aload_n 1, 1) := dk_43 (dk_at dksX6_init_6 17 rfl rfl)
theorem dX6_init_158 : decode cX6_init 158 = .ok (.getfield 69, 3) := dk_180 0 69 (dk_at dksX6_init_6 18 rfl rfl)
theorem dX6_init_161 : decode cX6_init 161 = .ok (.putfield 69, 3) := dk_181 0 69 (dk_at dksX6_init_6 21 rfl rfl)
theorem dX6_init_164 : decode cX6_init 164 = .ok (.aload_n 0, 1) := dk_42 (dk_at dksX6_init_7 0 rfl rfl)
theorem dX6_init_165 : decode cX6_init 165 = .ok (.aload_n 1, 1) := dk_43 (dk_at dksX6_init_7 1 rfl rfl)
theorem dX6_init_166 : decode cX6_init 166 = .ok (.getfield 72, 3) := dk_180 0 72 (dk_at dksX6_init_7 2 rfl rfl)
theorem dX6_init_169 : decode cX6_init 169 = .ok (.putfield 72, 3) := dk_181 0 72 (dk_at dksX6_init_7 5 rfl rfl)
theorem dX6_init_172 : decode cX6_init 172 = .ok (.aload_n 0, 1) := dk_42 (dk_at dksX6_init_7 8 rfl rfl)
theorem dX6_init_173 : decode cX6_init 173 = .ok (.aload_n 1, 1) := dk_43 (dk_at dksX6_init_7 9 rfl rfl)
theorem dX6_init_174 : decode cX6_init 174 = .ok (.getfield 76, 3) := dk_180 0 76 (dk_at dksX6_init_7 10 rfl rfl)
theorem dX6_init_177 : decode cX6_init 177 = .ok (.putfield 76, 3) := dk_181 0 76 (dk_at dksX6_init_7 13 rfl rfl)
theorem dX6_init_180 : decode cX6_init 180 = .ok (.aload_n 0, 1) := dk_42 (dk_at dksX6_init_7 16 rfl rfl)
theorem dX6_init_181 : decode cX6_init 181 = .ok (.aload_n 1, 1) := dk_43 (dk_at dksX6_init_7 17 rfl rfl)
theorem dX6_init_182 : decode cX6_init 182 = .ok (.getfield 79, 3) := dk_180 0 79 (dk_at dksX6_init_7 18 rfl rfl)
theorem dX6_init_185 : decode cX6_init 185 = .ok (.putfield 79, 3) := dk_181 0 79 (dk_at dksX6_init_7 21 rfl rfl)
theorem dX6_init_188 : decode cX6_init 188 = .ok (.return_, 1) := dk_177 (dk_at dksX6_init_8 0 rfl rfl)
abbrev cX6_init_2 : ByteArray := prog_2_method_1_code
def yX6_init_2 : MethodName := ⟨RX6, "<init>", "(J[I)V"⟩
def dkwX6_init_2_6 : List UInt8 := [21, 7, 183, 0, 41, 83, 132, 6, 1, 167, 255, 176, 177]
abbrev dktX6_init_2_6 : List UInt8 := dkwX6_init_2_6 ++ []
def dkwX6_init_2_5 : List UInt8 := [167, 0, 4, 3, 128, 54, 7, 132, 8, 1, 167, 255, 210, 42, 180, 0, 19, 21, 6, 187, 0, 17, 89]
abbrev dktX6_init_2_5 : List UInt8 := dkwX6_init_2_5 ++ dktX6_init_2_6
def dkwX6_init_2_4 : List UInt8 := [105, 20, 0, 39, 97, 55, 4, 21, 7, 22, 4, 16, 33, 125, 136, 6, 112, 154, 0, 10, 4, 21, 8, 120]
abbrev dktX6_init_2_4 : List UInt8 := dkwX6_init_2_4 ++ dktX6_init_2_5
def dkwX6_init_2_3 : List UInt8 := [21, 6, 6, 162, 0, 80, 3, 54, 7, 3, 54, 8, 21, 8, 16, 18, 162, 0, 45, 22, 4, 20, 0, 37]
abbrev dktX6_init_2_3 : List UInt8 := dkwX6_init_2_3 ++ dktX6_init_2_4
def dkwX6_init_2_2 : List UInt8 := [183, 0, 36, 83, 42, 180, 0, 11, 4, 187, 0, 9, 89, 183, 0, 36, 83, 31, 55, 4, 3, 54, 6]
abbrev dktX6_init_2_2 : List UInt8 := dkwX6_init_2_2 ++ dktX6_init_2_3
def dkwX6_init_2_1 : List UInt8 := [89, 16, 6, 183, 0, 25, 181, 0, 28, 42, 45, 181, 0, 32, 42, 180, 0, 11, 3, 187, 0, 9, 89]
abbrev dktX6_init_2_1 : List UInt8 := dkwX6_init_2_1 ++ dktX6_init_2_2
def dkwX6_init_2_0 : List UInt8 := [42, 183, 0, 3, 42, 5, 189, 0, 9, 181, 0, 11, 42, 6, 189, 0, 17, 181, 0, 19, 42, 187, 0, 23]
abbrev dktX6_init_2_0 : List UInt8 := dkwX6_init_2_0 ++ dktX6_init_2_1
theorem dksX6_init_2_0 : cX6_init_2.data.toList.drop 0 = dktX6_init_2_0 := by decide +kernel
theorem dksX6_init_2_1 : cX6_init_2.data.toList.drop 24 = dktX6_init_2_1 := dk_seg dksX6_init_2_0 24 rfl rfl
theorem dksX6_init_2_2 : cX6_init_2.data.toList.drop 47 = dktX6_init_2_2 := dk_seg dksX6_init_2_1 23 rfl rfl
theorem dksX6_init_2_3 : cX6_init_2.data.toList.drop 70 = dktX6_init_2_3 := dk_seg dksX6_init_2_2 23 rfl rfl
theorem dksX6_init_2_4 : cX6_init_2.data.toList.drop 94 = dktX6_init_2_4 := dk_seg dksX6_init_2_3 24 rfl rfl
theorem dksX6_init_2_5 : cX6_init_2.data.toList.drop 118 = dktX6_init_2_5 := dk_seg dksX6_init_2_4 24 rfl rfl
theorem dksX6_init_2_6 : cX6_init_2.data.toList.drop 141 = dktX6_init_2_6 := dk_seg dksX6_init_2_5 23 rfl rfl
theorem dX6_init_2_0 : decode cX6_init_2 0 = .ok (.aload_n 0, 1) := dk_42 (dk_at dksX6_init_2_0 0 rfl rfl)
theorem dX6_init_2_1 : decode cX6_init_2 1 = .ok (.invokespecial 3, 3) := dk_183 0 3 (dk_at dksX6_init_2_0 1 rfl rfl)
theorem dX6_init_2_4 : decode cX6_init_2 4 = .ok (.aload_n 0, 1) := dk_42 (dk_at dksX6_init_2_0 4 rfl rfl)
theorem dX6_init_2_5 : decode cX6_init_2 5 = .ok (.iconst 2, 1) := dk_5 (dk_at dksX6_init_2_0 5 rfl rfl)
theorem dX6_init_2_6 : decode cX6_init_2 6 = .ok (.anewarray 9, 3) := dk_189 0 9 (dk_at dksX6_init_2_0 6 rfl rfl)
theorem dX6_init_2_9 : decode cX6_init_2 9 = .ok (.putfield 11, 3) := dk_181 0 11 (dk_at dksX6_init_2_0 9 rfl rfl)
theorem dX6_init_2_12 : decode cX6_init_2 12 = .ok (.aload_n 0, 1) := dk_42 (dk_at dksX6_init_2_0 12 rfl rfl)
theorem dX6_init_2_13 : decode cX6_init_2 13 = .ok (.iconst 3, 1) := dk_6 (dk_at dksX6_init_2_0 13 rfl rfl)
theorem dX6_init_2_14 : decode cX6_init_2 14 = .ok (.anewarray 17, 3) := dk_189 0 17 (dk_at dksX6_init_2_0 14 rfl rfl)
theorem dX6_init_2_17 : decode cX6_init_2 17 = .ok (.putfield 19, 3) := dk_181 0 19 (dk_at dksX6_init_2_0 17 rfl rfl)
theorem dX6_init_2_20 : decode cX6_init_2 20 = .ok (.aload_n 0, 1) := dk_42 (dk_at dksX6_init_2_0 20 rfl rfl)
theorem dX6_init_2_21 : decode cX6_init_2 21 = .ok (.new 23, 3) := dk_187 0 23 (dk_at dksX6_init_2_0 21 rfl rfl)
theorem dX6_init_2_24 : decode cX6_init_2 24 = .ok (.dup, 1) := dk_89 (dk_at dksX6_init_2_1 0 rfl rfl)
theorem dX6_init_2_25 : decode cX6_init_2 25 = .ok (.bipush 6, 2) := dk_16 6 (dk_at dksX6_init_2_1 1 rfl rfl)
theorem dX6_init_2_27 : decode cX6_init_2 27 = .ok (.invokespecial 25, 3) := dk_183 0 25 (dk_at dksX6_init_2_1 3 rfl rfl)
theorem dX6_init_2_30 : decode cX6_init_2 30 = .ok (.putfield 28, 3) := dk_181 0 28 (dk_at dksX6_init_2_1 6 rfl rfl)
theorem dX6_init_2_33 : decode cX6_init_2 33 = .ok (.aload_n 0, 1) := dk_42 (dk_at dksX6_init_2_1 9 rfl rfl)
theorem dX6_init_2_34 : decode cX6_init_2 34 = .ok (.aload_n 3, 1) := dk_45 (dk_at dksX6_init_2_1 10 rfl rfl)
theorem dX6_init_2_35 : decode cX6_init_2 35 = .ok (.putfield 32, 3) := dk_181 0 32 (dk_at dksX6_init_2_1 11 rfl rfl)
theorem dX6_init_2_38 : decode cX6_init_2 38 = .ok (.aload_n 0, 1) := dk_42 (dk_at dksX6_init_2_1 14 rfl rfl)
theorem dX6_init_2_39 : decode cX6_init_2 39 = .ok (.getfield 11, 3) := dk_180 0 11 (dk_at dksX6_init_2_1 15 rfl rfl)
theorem dX6_init_2_42 : decode cX6_init_2 42 = .ok (.iconst 0, 1) := dk_3 (dk_at dksX6_init_2_1 18 rfl rfl)
theorem dX6_init_2_43 : decode cX6_init_2 43 = .ok (.new 9, 3) := dk_187 0 9 (dk_at dksX6_init_2_1 19 rfl rfl)
theorem dX6_init_2_46 : decode cX6_init_2 46 = .ok (.dup, 1) := dk_89 (dk_at dksX6_init_2_1 22 rfl rfl)
theorem dX6_init_2_47 : decode cX6_init_2 47 = .ok (.invokespecial 36, 3) := dk_183 0 36 (dk_at dksX6_init_2_2 0 rfl rfl)
theorem dX6_init_2_50 : decode cX6_init_2 50 = .ok (.aastore, 1) := dk_83 (dk_at dksX6_init_2_2 3 rfl rfl)
theorem dX6_init_2_51 : decode cX6_init_2 51 = .ok (.aload_n 0, 1) := dk_42 (dk_at dksX6_init_2_2 4 rfl rfl)
theorem dX6_init_2_52 : decode cX6_init_2 52 = .ok (.getfield 11, 3) := dk_180 0 11 (dk_at dksX6_init_2_2 5 rfl rfl)
theorem dX6_init_2_55 : decode cX6_init_2 55 = .ok (.iconst 1, 1) := dk_4 (dk_at dksX6_init_2_2 8 rfl rfl)
theorem dX6_init_2_56 : decode cX6_init_2 56 = .ok (.new 9, 3) := dk_187 0 9 (dk_at dksX6_init_2_2 9 rfl rfl)
theorem dX6_init_2_59 : decode cX6_init_2 59 = .ok (.dup, 1) := dk_89 (dk_at dksX6_init_2_2 12 rfl rfl)
theorem dX6_init_2_60 : decode cX6_init_2 60 = .ok (.invokespecial 36, 3) := dk_183 0 36 (dk_at dksX6_init_2_2 13 rfl rfl)
theorem dX6_init_2_63 : decode cX6_init_2 63 = .ok (.aastore, 1) := dk_83 (dk_at dksX6_init_2_2 16 rfl rfl)
theorem dX6_init_2_64 : decode cX6_init_2 64 = .ok (.lload_n 1, 1) := dk_31 (dk_at dksX6_init_2_2 17 rfl rfl)
theorem dX6_init_2_65 : decode cX6_init_2 65 = .ok (.lstore 4, 2) := dk_55 4 (dk_at dksX6_init_2_2 18 rfl rfl)
theorem dX6_init_2_67 : decode cX6_init_2 67 = .ok (.iconst 0, 1) := dk_3 (dk_at dksX6_init_2_2 20 rfl rfl)
theorem dX6_init_2_68 : decode cX6_init_2 68 = .ok (.istore 6, 2) := dk_54 6 (dk_at dksX6_init_2_2 21 rfl rfl)
theorem dX6_init_2_70 : decode cX6_init_2 70 = .ok (.iload 6, 2) := dk_21 6 (dk_at dksX6_init_2_3 0 rfl rfl)
theorem dX6_init_2_72 : decode cX6_init_2 72 = .ok (.iconst 3, 1) := dk_6 (dk_at dksX6_init_2_3 2 rfl rfl)
theorem dX6_init_2_73 : decode cX6_init_2 73 = .ok (.if_icmp .ge 80, 3) := dk_162 0 80 (dk_at dksX6_init_2_3 3 rfl rfl)
theorem dX6_init_2_76 : decode cX6_init_2 76 = .ok (.iconst 0, 1) := dk_3 (dk_at dksX6_init_2_3 6 rfl rfl)
theorem dX6_init_2_77 : decode cX6_init_2 77 = .ok (.istore 7, 2) := dk_54 7 (dk_at dksX6_init_2_3 7 rfl rfl)
theorem dX6_init_2_79 : decode cX6_init_2 79 = .ok (.iconst 0, 1) := dk_3 (dk_at dksX6_init_2_3 9 rfl rfl)
theorem dX6_init_2_80 : decode cX6_init_2 80 = .ok (.istore 8, 2) := dk_54 8 (dk_at dksX6_init_2_3 10 rfl rfl)
theorem dX6_init_2_82 : decode cX6_init_2 82 = .ok (.iload 8, 2) := dk_21 8 (dk_at dksX6_init_2_3 12 rfl rfl)
theorem dX6_init_2_84 : decode cX6_init_2 84 = .ok (.bipush 18, 2) := dk_16 18 (dk_at dksX6_init_2_3 14 rfl rfl)
theorem dX6_init_2_86 : decode cX6_init_2 86 = .ok (.if_icmp .ge 45, 3) := dk_162 0 45 (dk_at dksX6_init_2_3 16 rfl rfl)
theorem dX6_init_2_89 : decode cX6_init_2 89 = .ok (.lload 4, 2) := dk_22 4 (dk_at dksX6_init_2_3 19 rfl rfl)
theorem dX6_init_2_91 : decode cX6_init_2 91 = .ok (.ldc2_w 37, 3) := dk_20 0 37 (dk_at dksX6_init_2_3 21 rfl rfl)
theorem dX6_init_2_94 : decode cX6_init_2 94 = .ok (.lmul, 1) := dk_105 (dk_at dksX6_init_2_4 0 rfl rfl)
theorem dX6_init_2_95 : decode cX6_init_2 95 = .ok (.ldc2_w 39, 3) := dk_20 0 39 (dk_at dksX6_init_2_4 1 rfl rfl)
theorem dX6_init_2_98 : decode cX6_init_2 98 = .ok (.ladd, 1) := dk_97 (dk_at dksX6_init_2_4 4 rfl rfl)
theorem dX6_init_2_99 : decode cX6_init_2 99 = .ok (.lstore 4, 2) := dk_55 4 (dk_at dksX6_init_2_4 5 rfl rfl)
theorem dX6_init_2_101 : decode cX6_init_2 101 = .ok (.iload 7, 2) := dk_21 7 (dk_at dksX6_init_2_4 7 rfl rfl)
theorem dX6_init_2_103 : decode cX6_init_2 103 = .ok (.lload 4, 2) := dk_22 4 (dk_at dksX6_init_2_4 9 rfl rfl)
theorem dX6_init_2_105 : decode cX6_init_2 105 = .ok (.bipush 33, 2) := dk_16 33 (dk_at dksX6_init_2_4 11 rfl rfl)
theorem dX6_init_2_107 : decode cX6_init_2 107 = .ok (.lushr, 1) := dk_125 (dk_at dksX6_init_2_4 13 rfl rfl)
theorem dX6_init_2_108 : decode cX6_init_2 108 = .ok (.l2i, 1) := dk_136 (dk_at dksX6_init_2_4 14 rfl rfl)
theorem dX6_init_2_109 : decode cX6_init_2 109 = .ok (.iconst 3, 1) := dk_6 (dk_at dksX6_init_2_4 15 rfl rfl)
theorem dX6_init_2_110 : decode cX6_init_2 110 = .ok (.irem, 1) := dk_112 (dk_at dksX6_init_2_4 16 rfl rfl)
theorem dX6_init_2_111 : decode cX6_init_2 111 = .ok (.ifCond .ne 10, 3) := dk_154 0 10 (dk_at dksX6_init_2_4 17 rfl rfl)
theorem dX6_init_2_114 : decode cX6_init_2 114 = .ok (.iconst 1, 1) := dk_4 (dk_at dksX6_init_2_4 20 rfl rfl)
theorem dX6_init_2_115 : decode cX6_init_2 115 = .ok (.iload 8, 2) := dk_21 8 (dk_at dksX6_init_2_4 21 rfl rfl)
theorem dX6_init_2_117 : decode cX6_init_2 117 = .ok (.ishl, 1) := dk_120 (dk_at dksX6_init_2_4 23 rfl rfl)
theorem dX6_init_2_118 : decode cX6_init_2 118 = .ok (.goto 4, 3) := dk_167 0 4 (dk_at dksX6_init_2_5 0 rfl rfl)
theorem dX6_init_2_121 : decode cX6_init_2 121 = .ok (.iconst 0, 1) := dk_3 (dk_at dksX6_init_2_5 3 rfl rfl)
theorem dX6_init_2_122 : decode cX6_init_2 122 = .ok (.ior, 1) := dk_128 (dk_at dksX6_init_2_5 4 rfl rfl)
theorem dX6_init_2_123 : decode cX6_init_2 123 = .ok (.istore 7, 2) := dk_54 7 (dk_at dksX6_init_2_5 5 rfl rfl)
theorem dX6_init_2_125 : decode cX6_init_2 125 = .ok (.iinc 8 1, 3) := dk_132 8 1 (dk_at dksX6_init_2_5 7 rfl rfl)
theorem dX6_init_2_128 : decode cX6_init_2 128 = .ok (.goto (-46), 3) := dk_167 255 210 (dk_at dksX6_init_2_5 10 rfl rfl)
theorem dX6_init_2_131 : decode cX6_init_2 131 = .ok (.aload_n 0, 1) := dk_42 (dk_at dksX6_init_2_5 13 rfl rfl)
theorem dX6_init_2_132 : decode cX6_init_2 132 = .ok (.getfield 19, 3) := dk_180 0 19 (dk_at dksX6_init_2_5 14 rfl rfl)
theorem dX6_init_2_135 : decode cX6_init_2 135 = .ok (.iload 6, 2) := dk_21 6 (dk_at dksX6_init_2_5 17 rfl rfl)
theorem dX6_init_2_137 : decode cX6_init_2 137 = .ok (.new 17, 3) := dk_187 0 17 (dk_at dksX6_init_2_5 19 rfl rfl)
theorem dX6_init_2_140 : decode cX6_init_2 140 = .ok (.dup, 1) := dk_89 (dk_at dksX6_init_2_5 22 rfl rfl)
theorem dX6_init_2_141 : decode cX6_init_2 141 = .ok (.iload 7, 2) := dk_21 7 (dk_at dksX6_init_2_6 0 rfl rfl)
theorem dX6_init_2_143 : decode cX6_init_2 143 = .ok (.invokespecial 41, 3) := dk_183 0 41 (dk_at dksX6_init_2_6 2 rfl rfl)
theorem dX6_init_2_146 : decode cX6_init_2 146 = .ok (.aastore, 1) := dk_83 (dk_at dksX6_init_2_6 5 rfl rfl)
theorem dX6_init_2_147 : decode cX6_init_2 147 = .ok (.iinc 6 1, 3) := dk_132 6 1 (dk_at dksX6_init_2_6 6 rfl rfl)
theorem dX6_init_2_150 : decode cX6_init_2 150 = .ok (.goto (-80), 3) := dk_167 255 176 (dk_at dksX6_init_2_6 9 rfl rfl)
theorem dX6_init_2_153 : decode cX6_init_2 153 = .ok (.return_, 1) := dk_177 (dk_at dksX6_init_2_6 12 rfl rfl)
abbrev cX6_bestBan : ByteArray := prog_2_method_16_code
def yX6_bestBan : MethodName := ⟨RX6, "bestBan", "()I"⟩
def dkwX6_bestBan_3 : List UInt8 := [132, 4, 1, 167, 255, 198, 28, 172]
abbrev dktX6_bestBan_3 : List UInt8 := dkwX6_bestBan_3 ++ []
def dkwX6_bestBan_2 : List UInt8 := [162, 0, 8, 21, 4, 167, 0, 4, 28, 61, 28, 21, 4, 160, 0, 8, 21, 5, 167, 0, 4, 29, 62]
abbrev dktX6_bestBan_2 : List UInt8 := dkwX6_bestBan_2 ++ dktX6_bestBan_3
def dkwX6_bestBan_1 : List UInt8 := [184, 0, 92, 153, 0, 42, 42, 21, 4, 182, 0, 148, 54, 5, 28, 2, 159, 0, 9, 21, 5, 29]
abbrev dktX6_bestBan_1 : List UInt8 := dkwX6_bestBan_1 ++ dktX6_bestBan_2
def dkwX6_bestBan_0 : List UInt8 := [42, 182, 0, 145, 60, 2, 61, 3, 62, 3, 54, 4, 21, 4, 16, 18, 162, 0, 57, 27, 21, 4]
abbrev dktX6_bestBan_0 : List UInt8 := dkwX6_bestBan_0 ++ dktX6_bestBan_1
theorem dksX6_bestBan_0 : cX6_bestBan.data.toList.drop 0 = dktX6_bestBan_0 := by decide +kernel
theorem dksX6_bestBan_1 : cX6_bestBan.data.toList.drop 22 = dktX6_bestBan_1 := dk_seg dksX6_bestBan_0 22 rfl rfl
theorem dksX6_bestBan_2 : cX6_bestBan.data.toList.drop 44 = dktX6_bestBan_2 := dk_seg dksX6_bestBan_1 22 rfl rfl
theorem dksX6_bestBan_3 : cX6_bestBan.data.toList.drop 67 = dktX6_bestBan_3 := dk_seg dksX6_bestBan_2 23 rfl rfl
theorem dX6_bestBan_0 : decode cX6_bestBan 0 = .ok (.aload_n 0, 1) := dk_42 (dk_at dksX6_bestBan_0 0 rfl rfl)
theorem dX6_bestBan_1 : decode cX6_bestBan 1 = .ok (.invokevirtual 145, 3) := dk_182 0 145 (dk_at dksX6_bestBan_0 1 rfl rfl)
theorem dX6_bestBan_4 : decode cX6_bestBan 4 = .ok (.istore_n 1, 1) := dk_60 (dk_at dksX6_bestBan_0 4 rfl rfl)
theorem dX6_bestBan_5 : decode cX6_bestBan 5 = .ok (.iconst (-1), 1) := dk_2 (dk_at dksX6_bestBan_0 5 rfl rfl)
theorem dX6_bestBan_6 : decode cX6_bestBan 6 = .ok (.istore_n 2, 1) := dk_61 (dk_at dksX6_bestBan_0 6 rfl rfl)
theorem dX6_bestBan_7 : decode cX6_bestBan 7 = .ok (.iconst 0, 1) := dk_3 (dk_at dksX6_bestBan_0 7 rfl rfl)
theorem dX6_bestBan_8 : decode cX6_bestBan 8 = .ok (.istore_n 3, 1) := dk_62 (dk_at dksX6_bestBan_0 8 rfl rfl)
theorem dX6_bestBan_9 : decode cX6_bestBan 9 = .ok (.iconst 0, 1) := dk_3 (dk_at dksX6_bestBan_0 9 rfl rfl)
theorem dX6_bestBan_10 : decode cX6_bestBan 10 = .ok (.istore 4, 2) := dk_54 4 (dk_at dksX6_bestBan_0 10 rfl rfl)
theorem dX6_bestBan_12 : decode cX6_bestBan 12 = .ok (.iload 4, 2) := dk_21 4 (dk_at dksX6_bestBan_0 12 rfl rfl)
theorem dX6_bestBan_14 : decode cX6_bestBan 14 = .ok (.bipush 18, 2) := dk_16 18 (dk_at dksX6_bestBan_0 14 rfl rfl)
theorem dX6_bestBan_16 : decode cX6_bestBan 16 = .ok (.if_icmp .ge 57, 3) := dk_162 0 57 (dk_at dksX6_bestBan_0 16 rfl rfl)
theorem dX6_bestBan_19 : decode cX6_bestBan 19 = .ok (.iload_n 1, 1) := dk_27 (dk_at dksX6_bestBan_0 19 rfl rfl)
theorem dX6_bestBan_20 : decode cX6_bestBan 20 = .ok (.iload 4, 2) := dk_21 4 (dk_at dksX6_bestBan_0 20 rfl rfl)
theorem dX6_bestBan_22 : decode cX6_bestBan 22 = .ok (.invokestatic 92, 3) := dk_184 0 92 (dk_at dksX6_bestBan_1 0 rfl rfl)
theorem dX6_bestBan_25 : decode cX6_bestBan 25 = .ok (.ifCond .eq 42, 3) := dk_153 0 42 (dk_at dksX6_bestBan_1 3 rfl rfl)
theorem dX6_bestBan_28 : decode cX6_bestBan 28 = .ok (.aload_n 0, 1) := dk_42 (dk_at dksX6_bestBan_1 6 rfl rfl)
theorem dX6_bestBan_29 : decode cX6_bestBan 29 = .ok (.iload 4, 2) := dk_21 4 (dk_at dksX6_bestBan_1 7 rfl rfl)
theorem dX6_bestBan_31 : decode cX6_bestBan 31 = .ok (.invokevirtual 148, 3) := dk_182 0 148 (dk_at dksX6_bestBan_1 9 rfl rfl)
theorem dX6_bestBan_34 : decode cX6_bestBan 34 = .ok (.istore 5, 2) := dk_54 5 (dk_at dksX6_bestBan_1 12 rfl rfl)
theorem dX6_bestBan_36 : decode cX6_bestBan 36 = .ok (.iload_n 2, 1) := dk_28 (dk_at dksX6_bestBan_1 14 rfl rfl)
theorem dX6_bestBan_37 : decode cX6_bestBan 37 = .ok (.iconst (-1), 1) := dk_2 (dk_at dksX6_bestBan_1 15 rfl rfl)
theorem dX6_bestBan_38 : decode cX6_bestBan 38 = .ok (.if_icmp .eq 9, 3) := dk_159 0 9 (dk_at dksX6_bestBan_1 16 rfl rfl)
theorem dX6_bestBan_41 : decode cX6_bestBan 41 = .ok (.iload 5, 2) := dk_21 5 (dk_at dksX6_bestBan_1 19 rfl rfl)
theorem dX6_bestBan_43 : decode cX6_bestBan 43 = .ok (.iload_n 3, 1) := dk_29 (dk_at dksX6_bestBan_1 21 rfl rfl)
theorem dX6_bestBan_44 : decode cX6_bestBan 44 = .ok (.if_icmp .ge 8, 3) := dk_162 0 8 (dk_at dksX6_bestBan_2 0 rfl rfl)
theorem dX6_bestBan_47 : decode cX6_bestBan 47 = .ok (.iload 4, 2) := dk_21 4 (dk_at dksX6_bestBan_2 3 rfl rfl)
theorem dX6_bestBan_49 : decode cX6_bestBan 49 = .ok (.goto 4, 3) := dk_167 0 4 (dk_at dksX6_bestBan_2 5 rfl rfl)
theorem dX6_bestBan_52 : decode cX6_bestBan 52 = .ok (.iload_n 2, 1) := dk_28 (dk_at dksX6_bestBan_2 8 rfl rfl)
theorem dX6_bestBan_53 : decode cX6_bestBan 53 = .ok (.istore_n 2, 1) := dk_61 (dk_at dksX6_bestBan_2 9 rfl rfl)
theorem dX6_bestBan_54 : decode cX6_bestBan 54 = .ok (.iload_n 2, 1) := dk_28 (dk_at dksX6_bestBan_2 10 rfl rfl)
theorem dX6_bestBan_55 : decode cX6_bestBan 55 = .ok (.iload 4, 2) := dk_21 4 (dk_at dksX6_bestBan_2 11 rfl rfl)
theorem dX6_bestBan_57 : decode cX6_bestBan 57 = .ok (.if_icmp .ne 8, 3) := dk_160 0 8 (dk_at dksX6_bestBan_2 13 rfl rfl)
theorem dX6_bestBan_60 : decode cX6_bestBan 60 = .ok (.iload 5, 2) := dk_21 5 (dk_at dksX6_bestBan_2 16 rfl rfl)
theorem dX6_bestBan_62 : decode cX6_bestBan 62 = .ok (.goto 4, 3) := dk_167 0 4 (dk_at dksX6_bestBan_2 18 rfl rfl)
theorem dX6_bestBan_65 : decode cX6_bestBan 65 = .ok (.iload_n 3, 1) := dk_29 (dk_at dksX6_bestBan_2 21 rfl rfl)
theorem dX6_bestBan_66 : decode cX6_bestBan 66 = .ok (.istore_n 3, 1) := dk_62 (dk_at dksX6_bestBan_2 22 rfl rfl)
theorem dX6_bestBan_67 : decode cX6_bestBan 67 = .ok (.iinc 4 1, 3) := dk_132 4 1 (dk_at dksX6_bestBan_3 0 rfl rfl)
theorem dX6_bestBan_70 : decode cX6_bestBan 70 = .ok (.goto (-58), 3) := dk_167 255 198 (dk_at dksX6_bestBan_3 3 rfl rfl)
theorem dX6_bestBan_73 : decode cX6_bestBan 73 = .ok (.iload_n 2, 1) := dk_28 (dk_at dksX6_bestBan_3 6 rfl rfl)
theorem dX6_bestBan_74 : decode cX6_bestBan 74 = .ok (.ireturn, 1) := dk_172 (dk_at dksX6_bestBan_3 7 rfl rfl)
abbrev cX6_bannable : ByteArray := prog_2_method_10_code
def yX6_bannable : MethodName := ⟨RX6, "bannable", "()I"⟩
def dkwX6_bannable_1 : List UInt8 := [182, 0, 124, 42, 182, 0, 121, 182, 0, 103, 2, 130, 126, 172]
abbrev dktX6_bannable_1 : List UInt8 := dkwX6_bannable_1 ++ []
def dkwX6_bannable_0 : List UInt8 := [42, 180, 0, 79, 154, 0, 10, 42, 180, 0, 72, 154, 0, 7, 3, 167, 0, 20, 42, 182, 0, 121]
abbrev dktX6_bannable_0 : List UInt8 := dkwX6_bannable_0 ++ dktX6_bannable_1
theorem dksX6_bannable_0 : cX6_bannable.data.toList.drop 0 = dktX6_bannable_0 := by decide +kernel
theorem dksX6_bannable_1 : cX6_bannable.data.toList.drop 22 = dktX6_bannable_1 := dk_seg dksX6_bannable_0 22 rfl rfl
theorem dX6_bannable_0 : decode cX6_bannable 0 = .ok (.aload_n 0, 1) := dk_42 (dk_at dksX6_bannable_0 0 rfl rfl)
theorem dX6_bannable_1 : decode cX6_bannable 1 = .ok (.getfield 79, 3) := dk_180 0 79 (dk_at dksX6_bannable_0 1 rfl rfl)
theorem dX6_bannable_4 : decode cX6_bannable 4 = .ok (.ifCond .ne 10, 3) := dk_154 0 10 (dk_at dksX6_bannable_0 4 rfl rfl)
theorem dX6_bannable_7 : decode cX6_bannable 7 = .ok (.aload_n 0, 1) := dk_42 (dk_at dksX6_bannable_0 7 rfl rfl)
theorem dX6_bannable_8 : decode cX6_bannable 8 = .ok (.getfield 72, 3) := dk_180 0 72 (dk_at dksX6_bannable_0 8 rfl rfl)
theorem dX6_bannable_11 : decode cX6_bannable 11 = .ok (.ifCond .ne 7, 3) := dk_154 0 7 (dk_at dksX6_bannable_0 11 rfl rfl)
theorem dX6_bannable_14 : decode cX6_bannable 14 = .ok (.iconst 0, 1) := dk_3 (dk_at dksX6_bannable_0 14 rfl rfl)
theorem dX6_bannable_15 : decode cX6_bannable 15 = .ok (.goto 20, 3) := dk_167 0 20 (dk_at dksX6_bannable_0 15 rfl rfl)
theorem dX6_bannable_18 : decode cX6_bannable 18 = .ok (.aload_n 0, 1) := dk_42 (dk_at dksX6_bannable_0 18 rfl rfl)
theorem dX6_bannable_19 : decode cX6_bannable 19 = .ok (.invokevirtual 121, 3) := dk_182 0 121 (dk_at dksX6_bannable_0 19 rfl rfl)
theorem dX6_bannable_22 : decode cX6_bannable 22 = .ok (.invokevirtual 124, 3) := dk_182 0 124 (dk_at dksX6_bannable_1 0 rfl rfl)
theorem dX6_bannable_25 : decode cX6_bannable 25 = .ok (.aload_n 0, 1) := dk_42 (dk_at dksX6_bannable_1 3 rfl rfl)
theorem dX6_bannable_26 : decode cX6_bannable 26 = .ok (.invokevirtual 121, 3) := dk_182 0 121 (dk_at dksX6_bannable_1 4 rfl rfl)
theorem dX6_bannable_29 : decode cX6_bannable 29 = .ok (.invokevirtual 103, 3) := dk_182 0 103 (dk_at dksX6_bannable_1 7 rfl rfl)
theorem dX6_bannable_32 : decode cX6_bannable 32 = .ok (.iconst (-1), 1) := dk_2 (dk_at dksX6_bannable_1 10 rfl rfl)
theorem dX6_bannable_33 : decode cX6_bannable 33 = .ok (.ixor, 1) := dk_130 (dk_at dksX6_bannable_1 11 rfl rfl)
theorem dX6_bannable_34 : decode cX6_bannable 34 = .ok (.iand, 1) := dk_126 (dk_at dksX6_bannable_1 12 rfl rfl)
theorem dX6_bannable_35 : decode cX6_bannable 35 = .ok (.ireturn, 1) := dk_172 (dk_at dksX6_bannable_1 13 rfl rfl)
abbrev cX6_other : ByteArray := prog_2_method_4_code
def yX6_other : MethodName := ⟨RX6, "other", "()LTaleDuel$Teller;"⟩
def dkwX6_other_0 : List UInt8 := [42, 180, 0, 11, 4, 42, 180, 0, 66, 100, 50, 176]
abbrev dktX6_other_0 : List UInt8 := dkwX6_other_0 ++ []
theorem dksX6_other_0 : cX6_other.data.toList.drop 0 = dktX6_other_0 := by decide +kernel
theorem dX6_other_0 : decode cX6_other 0 = .ok (.aload_n 0, 1) := dk_42 (dk_at dksX6_other_0 0 rfl rfl)
theorem dX6_other_1 : decode cX6_other 1 = .ok (.getfield 11, 3) := dk_180 0 11 (dk_at dksX6_other_0 1 rfl rfl)
theorem dX6_other_4 : decode cX6_other 4 = .ok (.iconst 1, 1) := dk_4 (dk_at dksX6_other_0 4 rfl rfl)
theorem dX6_other_5 : decode cX6_other 5 = .ok (.aload_n 0, 1) := dk_42 (dk_at dksX6_other_0 5 rfl rfl)
theorem dX6_other_6 : decode cX6_other 6 = .ok (.getfield 66, 3) := dk_180 0 66 (dk_at dksX6_other_0 6 rfl rfl)
theorem dX6_other_9 : decode cX6_other 9 = .ok (.isub, 1) := dk_100 (dk_at dksX6_other_0 9 rfl rfl)
theorem dX6_other_10 : decode cX6_other 10 = .ok (.aaload, 1) := dk_50 (dk_at dksX6_other_0 10 rfl rfl)
theorem dX6_other_11 : decode cX6_other 11 = .ok (.areturn, 1) := dk_176 (dk_at dksX6_other_0 11 rfl rfl)
abbrev cX6_behindBan : ByteArray := prog_2_method_17_code
def yX6_behindBan : MethodName := ⟨RX6, "behindBan", "(I)I"⟩
def dkwX6_behindBan_1 : List UInt8 := [187, 0, 140, 89, 42, 44, 182, 0, 103, 183, 0, 142, 180, 0, 151, 172]
abbrev dktX6_behindBan_1 : List UInt8 := dkwX6_behindBan_1 ++ []
def dkwX6_behindBan_0 : List UInt8 := [187, 0, 9, 89, 42, 182, 0, 121, 183, 0, 42, 77, 44, 27, 42, 180, 0, 32, 5, 46, 182, 0, 127, 62]
abbrev dktX6_behindBan_0 : List UInt8 := dkwX6_behindBan_0 ++ dktX6_behindBan_1
theorem dksX6_behindBan_0 : cX6_behindBan.data.toList.drop 0 = dktX6_behindBan_0 := by decide +kernel
theorem dksX6_behindBan_1 : cX6_behindBan.data.toList.drop 24 = dktX6_behindBan_1 := dk_seg dksX6_behindBan_0 24 rfl rfl
theorem dX6_behindBan_0 : decode cX6_behindBan 0 = .ok (.new 9, 3) := dk_187 0 9 (dk_at dksX6_behindBan_0 0 rfl rfl)
theorem dX6_behindBan_3 : decode cX6_behindBan 3 = .ok (.dup, 1) := dk_89 (dk_at dksX6_behindBan_0 3 rfl rfl)
theorem dX6_behindBan_4 : decode cX6_behindBan 4 = .ok (.aload_n 0, 1) := dk_42 (dk_at dksX6_behindBan_0 4 rfl rfl)
theorem dX6_behindBan_5 : decode cX6_behindBan 5 = .ok (.invokevirtual 121, 3) := dk_182 0 121 (dk_at dksX6_behindBan_0 5 rfl rfl)
theorem dX6_behindBan_8 : decode cX6_behindBan 8 = .ok (.invokespecial 42, 3) := dk_183 0 42 (dk_at dksX6_behindBan_0 8 rfl rfl)
theorem dX6_behindBan_11 : decode cX6_behindBan 11 = .ok (.astore_n 2, 1) := dk_77 (dk_at dksX6_behindBan_0 11 rfl rfl)
theorem dX6_behindBan_12 : decode cX6_behindBan 12 = .ok (.aload_n 2, 1) := dk_44 (dk_at dksX6_behindBan_0 12 rfl rfl)
theorem dX6_behindBan_13 : decode cX6_behindBan 13 = .ok (.iload_n 1, 1) := dk_27 (dk_at dksX6_behindBan_0 13 rfl rfl)
theorem dX6_behindBan_14 : decode cX6_behindBan 14 = .ok (.aload_n 0, 1) := dk_42 (dk_at dksX6_behindBan_0 14 rfl rfl)
theorem dX6_behindBan_15 : decode cX6_behindBan 15 = .ok (.getfield 32, 3) := dk_180 0 32 (dk_at dksX6_behindBan_0 15 rfl rfl)
theorem dX6_behindBan_18 : decode cX6_behindBan 18 = .ok (.iconst 2, 1) := dk_5 (dk_at dksX6_behindBan_0 18 rfl rfl)
theorem dX6_behindBan_19 : decode cX6_behindBan 19 = .ok (.iaload, 1) := dk_46 (dk_at dksX6_behindBan_0 19 rfl rfl)
theorem dX6_behindBan_20 : decode cX6_behindBan 20 = .ok (.invokevirtual 127, 3) := dk_182 0 127 (dk_at dksX6_behindBan_0 20 rfl rfl)
theorem dX6_behindBan_23 : decode cX6_behindBan 23 = .ok (.istore_n 3, 1) := dk_62 (dk_at dksX6_behindBan_0 23 rfl rfl)
theorem dX6_behindBan_24 : decode cX6_behindBan 24 = .ok (.new 140, 3) := dk_187 0 140 (dk_at dksX6_behindBan_1 0 rfl rfl)
theorem dX6_behindBan_27 : decode cX6_behindBan 27 = .ok (.dup, 1) := dk_89 (dk_at dksX6_behindBan_1 3 rfl rfl)
theorem dX6_behindBan_28 : decode cX6_behindBan 28 = .ok (.aload_n 0, 1) := dk_42 (dk_at dksX6_behindBan_1 4 rfl rfl)
theorem dX6_behindBan_29 : decode cX6_behindBan 29 = .ok (.aload_n 2, 1) := dk_44 (dk_at dksX6_behindBan_1 5 rfl rfl)
theorem dX6_behindBan_30 : decode cX6_behindBan 30 = .ok (.invokevirtual 103, 3) := dk_182 0 103 (dk_at dksX6_behindBan_1 6 rfl rfl)
theorem dX6_behindBan_33 : decode cX6_behindBan 33 = .ok (.invokespecial 142, 3) := dk_183 0 142 (dk_at dksX6_behindBan_1 9 rfl rfl)
theorem dX6_behindBan_36 : decode cX6_behindBan 36 = .ok (.getfield 151, 3) := dk_180 0 151 (dk_at dksX6_behindBan_1 12 rfl rfl)
theorem dX6_behindBan_39 : decode cX6_behindBan 39 = .ok (.ireturn, 1) := dk_172 (dk_at dksX6_behindBan_1 15 rfl rfl)
abbrev cX6_memory : ByteArray := prog_2_method_5_code
def yX6_memory : MethodName := ⟨RX6, "memory", "()I"⟩
def dkwX6_memory_2 : List UInt8 := [167, 255, 215, 27, 172]
abbrev dktX6_memory_2 : List UInt8 := dkwX6_memory_2 ++ []
def dkwX6_memory_1 : List UInt8 := [162, 0, 26, 27, 42, 180, 0, 28, 28, 182, 0, 52, 192, 0, 56, 182, 0, 82, 128, 60, 132, 2, 1]
abbrev dktX6_memory_1 : List UInt8 := dkwX6_memory_1 ++ dktX6_memory_2
def dkwX6_memory_0 : List UInt8 := [3, 60, 3, 61, 28, 42, 180, 0, 28, 182, 0, 48, 162, 0, 36, 28, 42, 180, 0, 32, 3, 46]
abbrev dktX6_memory_0 : List UInt8 := dkwX6_memory_0 ++ dktX6_memory_1
theorem dksX6_memory_0 : cX6_memory.data.toList.drop 0 = dktX6_memory_0 := by decide +kernel
theorem dksX6_memory_1 : cX6_memory.data.toList.drop 22 = dktX6_memory_1 := dk_seg dksX6_memory_0 22 rfl rfl
theorem dksX6_memory_2 : cX6_memory.data.toList.drop 45 = dktX6_memory_2 := dk_seg dksX6_memory_1 23 rfl rfl
theorem dX6_memory_0 : decode cX6_memory 0 = .ok (.iconst 0, 1) := dk_3 (dk_at dksX6_memory_0 0 rfl rfl)
theorem dX6_memory_1 : decode cX6_memory 1 = .ok (.istore_n 1, 1) := dk_60 (dk_at dksX6_memory_0 1 rfl rfl)
theorem dX6_memory_2 : decode cX6_memory 2 = .ok (.iconst 0, 1) := dk_3 (dk_at dksX6_memory_0 2 rfl rfl)
theorem dX6_memory_3 : decode cX6_memory 3 = .ok (.istore_n 2, 1) := dk_61 (dk_at dksX6_memory_0 3 rfl rfl)
theorem dX6_memory_4 : decode cX6_memory 4 = .ok (.iload_n 2, 1) := dk_28 (dk_at dksX6_memory_0 4 rfl rfl)
theorem dX6_memory_5 : decode cX6_memory 5 = .ok (.aload_n 0, 1) := dk_42 (dk_at dksX6_memory_0 5 rfl rfl)
theorem dX6_memory_6 : decode cX6_memory 6 = .ok (.getfield 28, 3) := dk_180 0 28 (dk_at dksX6_memory_0 6 rfl rfl)
theorem dX6_memory_9 : decode cX6_memory 9 = .ok (.invokevirtual 48, 3) := dk_182 0 48 (dk_at dksX6_memory_0 9 rfl rfl)
theorem dX6_memory_12 : decode cX6_memory 12 = .ok (.if_icmp .ge 36, 3) := dk_162 0 36 (dk_at dksX6_memory_0 12 rfl rfl)
theorem dX6_memory_15 : decode cX6_memory 15 = .ok (.iload_n 2, 1) := dk_28 (dk_at dksX6_memory_0 15 rfl rfl)
theorem dX6_memory_16 : decode cX6_memory 16 = .ok (.aload_n 0, 1) := dk_42 (dk_at dksX6_memory_0 16 rfl rfl)
theorem dX6_memory_17 : decode cX6_memory 17 = .ok (.getfield 32, 3) := dk_180 0 32 (dk_at dksX6_memory_0 17 rfl rfl)
theorem dX6_memory_20 : decode cX6_memory 20 = .ok (.iconst 0, 1) := dk_3 (dk_at dksX6_memory_0 20 rfl rfl)
theorem dX6_memory_21 : decode cX6_memory 21 = .ok (.iaload, 1) := dk_46 (dk_at dksX6_memory_0 21 rfl rfl)
theorem dX6_memory_22 : decode cX6_memory 22 = .ok (.if_icmp .ge 26, 3) := dk_162 0 26 (dk_at dksX6_memory_1 0 rfl rfl)
theorem dX6_memory_25 : decode cX6_memory 25 = .ok (.iload_n 1, 1) := dk_27 (dk_at dksX6_memory_1 3 rfl rfl)
theorem dX6_memory_26 : decode cX6_memory 26 = .ok (.aload_n 0, 1) := dk_42 (dk_at dksX6_memory_1 4 rfl rfl)
theorem dX6_memory_27 : decode cX6_memory 27 = .ok (.getfield 28, 3) := dk_180 0 28 (dk_at dksX6_memory_1 5 rfl rfl)
theorem dX6_memory_30 : decode cX6_memory 30 = .ok (.iload_n 2, 1) := dk_28 (dk_at dksX6_memory_1 8 rfl rfl)
theorem dX6_memory_31 : decode cX6_memory 31 = .ok (.invokevirtual 52, 3) := dk_182 0 52 (dk_at dksX6_memory_1 9 rfl rfl)
theorem dX6_memory_34 : decode cX6_memory 34 = .ok (.checkcast 56, 3) := dk_192 0 56 (dk_at dksX6_memory_1 12 rfl rfl)
theorem dX6_memory_37 : decode cX6_memory 37 = .ok (.invokevirtual 82, 3) := dk_182 0 82 (dk_at dksX6_memory_1 15 rfl rfl)
theorem dX6_memory_40 : decode cX6_memory 40 = .ok (.ior, 1) := dk_128 (dk_at dksX6_memory_1 18 rfl rfl)
theorem dX6_memory_41 : decode cX6_memory 41 = .ok (.istore_n 1, 1) := dk_60 (dk_at dksX6_memory_1 19 rfl rfl)
theorem dX6_memory_42 : decode cX6_memory 42 = .ok (.iinc 2 1, 3) := dk_132 2 1 (dk_at dksX6_memory_1 20 rfl rfl)
theorem dX6_memory_45 : decode cX6_memory 45 = .ok (.goto (-41), 3) := dk_167 255 215 (dk_at dksX6_memory_2 0 rfl rfl)
theorem dX6_memory_48 : decode cX6_memory 48 = .ok (.iload_n 1, 1) := dk_27 (dk_at dksX6_memory_2 3 rfl rfl)
theorem dX6_memory_49 : decode cX6_memory 49 = .ok (.ireturn, 1) := dk_172 (dk_at dksX6_memory_2 4 rfl rfl)
abbrev cX6_worth : ByteArray := prog_2_method_7_code
def yX6_worth : MethodName := ⟨RX6, "worth", "(II)I"⟩
def dkwX6_worth_2 : List UInt8 := [120, 182, 0, 88, 96, 62, 132, 6, 1, 167, 255, 216, 29, 172]
abbrev dktX6_worth_2 : List UInt8 := dkwX6_worth_2 ++ []
def dkwX6_worth_1 : List UInt8 := [25, 4, 21, 6, 50, 58, 7, 29, 28, 27, 184, 0, 92, 153, 0, 7, 3, 167, 0, 11, 25, 7, 4, 27]
abbrev dktX6_worth_1 : List UInt8 := dkwX6_worth_1 ++ dktX6_worth_2
def dkwX6_worth_0 : List UInt8 := [3, 62, 42, 180, 0, 19, 58, 4, 25, 4, 190, 54, 5, 3, 54, 6, 21, 6, 21, 5, 162, 0, 39]
abbrev dktX6_worth_0 : List UInt8 := dkwX6_worth_0 ++ dktX6_worth_1
theorem dksX6_worth_0 : cX6_worth.data.toList.drop 0 = dktX6_worth_0 := by decide +kernel
theorem dksX6_worth_1 : cX6_worth.data.toList.drop 23 = dktX6_worth_1 := dk_seg dksX6_worth_0 23 rfl rfl
theorem dksX6_worth_2 : cX6_worth.data.toList.drop 47 = dktX6_worth_2 := dk_seg dksX6_worth_1 24 rfl rfl
theorem dX6_worth_0 : decode cX6_worth 0 = .ok (.iconst 0, 1) := dk_3 (dk_at dksX6_worth_0 0 rfl rfl)
theorem dX6_worth_1 : decode cX6_worth 1 = .ok (.istore_n 3, 1) := dk_62 (dk_at dksX6_worth_0 1 rfl rfl)
theorem dX6_worth_2 : decode cX6_worth 2 = .ok (.aload_n 0, 1) := dk_42 (dk_at dksX6_worth_0 2 rfl rfl)
theorem dX6_worth_3 : decode cX6_worth 3 = .ok (.getfield 19, 3) := dk_180 0 19 (dk_at dksX6_worth_0 3 rfl rfl)
theorem dX6_worth_6 : decode cX6_worth 6 = .ok (.astore 4, 2) := dk_58 4 (dk_at dksX6_worth_0 6 rfl rfl)
theorem dX6_worth_8 : decode cX6_worth 8 = .ok (.aload 4, 2) := dk_25 4 (dk_at dksX6_worth_0 8 rfl rfl)
theorem dX6_worth_10 : decode cX6_worth 10 = .ok (.arraylength, 1) := dk_190 (dk_at dksX6_worth_0 10 rfl rfl)
theorem dX6_worth_11 : decode cX6_worth 11 = .ok (.istore 5, 2) := dk_54 5 (dk_at dksX6_worth_0 11 rfl rfl)
theorem dX6_worth_13 : decode cX6_worth 13 = .ok (.iconst 0, 1) := dk_3 (dk_at dksX6_worth_0 13 rfl rfl)
theorem dX6_worth_14 : decode cX6_worth 14 = .ok (.istore 6, 2) := dk_54 6 (dk_at dksX6_worth_0 14 rfl rfl)
theorem dX6_worth_16 : decode cX6_worth 16 = .ok (.iload 6, 2) := dk_21 6 (dk_at dksX6_worth_0 16 rfl rfl)
theorem dX6_worth_18 : decode cX6_worth 18 = .ok (.iload 5, 2) := dk_21 5 (dk_at dksX6_worth_0 18 rfl rfl)
theorem dX6_worth_20 : decode cX6_worth 20 = .ok (.if_icmp .ge 39, 3) := dk_162 0 39 (dk_at dksX6_worth_0 20 rfl rfl)
theorem dX6_worth_23 : decode cX6_worth 23 = .ok (.aload 4, 2) := dk_25 4 (dk_at dksX6_worth_1 0 rfl rfl)
theorem dX6_worth_25 : decode cX6_worth 25 = .ok (.iload 6, 2) := dk_21 6 (dk_at dksX6_worth_1 2 rfl rfl)
theorem dX6_worth_27 : decode cX6_worth 27 = .ok (.aaload, 1) := dk_50 (dk_at dksX6_worth_1 4 rfl rfl)
theorem dX6_worth_28 : decode cX6_worth 28 = .ok (.astore 7, 2) := dk_58 7 (dk_at dksX6_worth_1 5 rfl rfl)
theorem dX6_worth_30 : decode cX6_worth 30 = .ok (.iload_n 3, 1) := dk_29 (dk_at dksX6_worth_1 7 rfl rfl)
theorem dX6_worth_31 : decode cX6_worth 31 = .ok (.iload_n 2, 1) := dk_28 (dk_at dksX6_worth_1 8 rfl rfl)
theorem dX6_worth_32 : decode cX6_worth 32 = .ok (.iload_n 1, 1) := dk_27 (dk_at dksX6_worth_1 9 rfl rfl)
theorem dX6_worth_33 : decode cX6_worth 33 = .ok (.invokestatic 92, 3) := dk_184 0 92 (dk_at dksX6_worth_1 10 rfl rfl)
theorem dX6_worth_36 : decode cX6_worth 36 = .ok (.ifCond .eq 7, 3) := dk_153 0 7 (dk_at dksX6_worth_1 13 rfl rfl)
theorem dX6_worth_39 : decode cX6_worth 39 = .ok (.iconst 0, 1) := dk_3 (dk_at dksX6_worth_1 16 rfl rfl)
theorem dX6_worth_40 : decode cX6_worth 40 = .ok (.goto 11, 3) := dk_167 0 11 (dk_at dksX6_worth_1 17 rfl rfl)
theorem dX6_worth_43 : decode cX6_worth 43 = .ok (.aload 7, 2) := dk_25 7 (dk_at dksX6_worth_1 20 rfl rfl)
theorem dX6_worth_45 : decode cX6_worth 45 = .ok (.iconst 1, 1) := dk_4 (dk_at dksX6_worth_1 22 rfl rfl)
theorem dX6_worth_46 : decode cX6_worth 46 = .ok (.iload_n 1, 1) := dk_27 (dk_at dksX6_worth_1 23 rfl rfl)
theorem dX6_worth_47 : decode cX6_worth 47 = .ok (.ishl, 1) := dk_120 (dk_at dksX6_worth_2 0 rfl rfl)
theorem dX6_worth_48 : decode cX6_worth 48 = .ok (.invokevirtual 88, 3) := dk_182 0 88 (dk_at dksX6_worth_2 1 rfl rfl)
theorem dX6_worth_51 : decode cX6_worth 51 = .ok (.iadd, 1) := dk_96 (dk_at dksX6_worth_2 4 rfl rfl)
theorem dX6_worth_52 : decode cX6_worth 52 = .ok (.istore_n 3, 1) := dk_62 (dk_at dksX6_worth_2 5 rfl rfl)
theorem dX6_worth_53 : decode cX6_worth 53 = .ok (.iinc 6 1, 3) := dk_132 6 1 (dk_at dksX6_worth_2 6 rfl rfl)
theorem dX6_worth_56 : decode cX6_worth 56 = .ok (.goto (-40), 3) := dk_167 255 216 (dk_at dksX6_worth_2 9 rfl rfl)
theorem dX6_worth_59 : decode cX6_worth 59 = .ok (.iload_n 3, 1) := dk_29 (dk_at dksX6_worth_2 12 rfl rfl)
theorem dX6_worth_60 : decode cX6_worth 60 = .ok (.ireturn, 1) := dk_172 (dk_at dksX6_worth_2 13 rfl rfl)
abbrev cX6_there : ByteArray := prog_2_method_12_code
def yX6_there : MethodName := ⟨RX6, "there", "()I"⟩
def dkwX6_there_1 : List UInt8 := [167, 0, 6, 4, 28, 120, 128, 60, 132, 2, 1, 167, 255, 226, 27, 172]
abbrev dktX6_there_1 : List UInt8 := dkwX6_there_1 ++ []
def dkwX6_there_0 : List UInt8 := [3, 60, 3, 61, 28, 6, 162, 0, 31, 27, 42, 180, 0, 19, 28, 50, 180, 0, 134, 153, 0, 7, 3]
abbrev dktX6_there_0 : List UInt8 := dkwX6_there_0 ++ dktX6_there_1
theorem dksX6_there_0 : cX6_there.data.toList.drop 0 = dktX6_there_0 := by decide +kernel
theorem dksX6_there_1 : cX6_there.data.toList.drop 23 = dktX6_there_1 := dk_seg dksX6_there_0 23 rfl rfl
theorem dX6_there_0 : decode cX6_there 0 = .ok (.iconst 0, 1) := dk_3 (dk_at dksX6_there_0 0 rfl rfl)
theorem dX6_there_1 : decode cX6_there 1 = .ok (.istore_n 1, 1) := dk_60 (dk_at dksX6_there_0 1 rfl rfl)
theorem dX6_there_2 : decode cX6_there 2 = .ok (.iconst 0, 1) := dk_3 (dk_at dksX6_there_0 2 rfl rfl)
theorem dX6_there_3 : decode cX6_there 3 = .ok (.istore_n 2, 1) := dk_61 (dk_at dksX6_there_0 3 rfl rfl)
theorem dX6_there_4 : decode cX6_there 4 = .ok (.iload_n 2, 1) := dk_28 (dk_at dksX6_there_0 4 rfl rfl)
theorem dX6_there_5 : decode cX6_there 5 = .ok (.iconst 3, 1) := dk_6 (dk_at dksX6_there_0 5 rfl rfl)
theorem dX6_there_6 : decode cX6_there 6 = .ok (.if_icmp .ge 31, 3) := dk_162 0 31 (dk_at dksX6_there_0 6 rfl rfl)
theorem dX6_there_9 : decode cX6_there 9 = .ok (.iload_n 1, 1) := dk_27 (dk_at dksX6_there_0 9 rfl rfl)
theorem dX6_there_10 : decode cX6_there 10 = .ok (.aload_n 0, 1) := dk_42 (dk_at dksX6_there_0 10 rfl rfl)
theorem dX6_there_11 : decode cX6_there 11 = .ok (.getfield 19, 3) := dk_180 0 19 (dk_at dksX6_there_0 11 rfl rfl)
theorem dX6_there_14 : decode cX6_there 14 = .ok (.iload_n 2, 1) := dk_28 (dk_at dksX6_there_0 14 rfl rfl)
theorem dX6_there_15 : decode cX6_there 15 = .ok (.aaload, 1) := dk_50 (dk_at dksX6_there_0 15 rfl rfl)
theorem dX6_there_16 : decode cX6_there 16 = .ok (.getfield 134, 3) := dk_180 0 134 (dk_at dksX6_there_0 16 rfl rfl)
theorem dX6_there_19 : decode cX6_there 19 = .ok (.ifCond .eq 7, 3) := dk_153 0 7 (dk_at dksX6_there_0 19 rfl rfl)
theorem dX6_there_22 : decode cX6_there 22 = .ok (.iconst 0, 1) := dk_3 (dk_at dksX6_there_0 22 rfl rfl)
theorem dX6_there_23 : decode cX6_there 23 = .ok (.goto 6, 3) := dk_167 0 6 (dk_at dksX6_there_1 0 rfl rfl)
theorem dX6_there_26 : decode cX6_there 26 = .ok (.iconst 1, 1) := dk_4 (dk_at dksX6_there_1 3 rfl rfl)
theorem dX6_there_27 : decode cX6_there 27 = .ok (.iload_n 2, 1) := dk_28 (dk_at dksX6_there_1 4 rfl rfl)
theorem dX6_there_28 : decode cX6_there 28 = .ok (.ishl, 1) := dk_120 (dk_at dksX6_there_1 5 rfl rfl)
theorem dX6_there_29 : decode cX6_there 29 = .ok (.ior, 1) := dk_128 (dk_at dksX6_there_1 6 rfl rfl)
theorem dX6_there_30 : decode cX6_there 30 = .ok (.istore_n 1, 1) := dk_60 (dk_at dksX6_there_1 7 rfl rfl)
theorem dX6_there_31 : decode cX6_there 31 = .ok (.iinc 2 1, 3) := dk_132 2 1 (dk_at dksX6_there_1 8 rfl rfl)
theorem dX6_there_34 : decode cX6_there 34 = .ok (.goto (-30), 3) := dk_167 255 226 (dk_at dksX6_there_1 11 rfl rfl)
theorem dX6_there_37 : decode cX6_there 37 = .ok (.iload_n 1, 1) := dk_27 (dk_at dksX6_there_1 14 rfl rfl)
theorem dX6_there_38 : decode cX6_there 38 = .ok (.ireturn, 1) := dk_172 (dk_at dksX6_there_1 15 rfl rfl)
abbrev cX6_canTell : ByteArray := prog_2_method_8_code
def yX6_canTell : MethodName := ⟨RX6, "canTell", "(LTaleDuel$Sentence;)Z"⟩
def dkwX6_canTell_1 : List UInt8 := [182, 0, 82, 42, 182, 0, 99, 182, 0, 103, 126, 154, 0, 7, 4, 167, 0, 4, 3, 172]
abbrev dktX6_canTell_1 : List UInt8 := dkwX6_canTell_1 ++ []
def dkwX6_canTell_0 : List UInt8 := [42, 180, 0, 79, 154, 0, 37, 42, 180, 0, 72, 154, 0, 30, 43, 182, 0, 96, 2, 160, 0, 22, 43]
abbrev dktX6_canTell_0 : List UInt8 := dkwX6_canTell_0 ++ dktX6_canTell_1
theorem dksX6_canTell_0 : cX6_canTell.data.toList.drop 0 = dktX6_canTell_0 := by decide +kernel
theorem dksX6_canTell_1 : cX6_canTell.data.toList.drop 23 = dktX6_canTell_1 := dk_seg dksX6_canTell_0 23 rfl rfl
theorem dX6_canTell_0 : decode cX6_canTell 0 = .ok (.aload_n 0, 1) := dk_42 (dk_at dksX6_canTell_0 0 rfl rfl)
theorem dX6_canTell_1 : decode cX6_canTell 1 = .ok (.getfield 79, 3) := dk_180 0 79 (dk_at dksX6_canTell_0 1 rfl rfl)
theorem dX6_canTell_4 : decode cX6_canTell 4 = .ok (.ifCond .ne 37, 3) := dk_154 0 37 (dk_at dksX6_canTell_0 4 rfl rfl)
theorem dX6_canTell_7 : decode cX6_canTell 7 = .ok (.aload_n 0, 1) := dk_42 (dk_at dksX6_canTell_0 7 rfl rfl)
theorem dX6_canTell_8 : decode cX6_canTell 8 = .ok (.getfield 72, 3) := dk_180 0 72 (dk_at dksX6_canTell_0 8 rfl rfl)
theorem dX6_canTell_11 : decode cX6_canTell 11 = .ok (.ifCond .ne 30, 3) := dk_154 0 30 (dk_at dksX6_canTell_0 11 rfl rfl)
theorem dX6_canTell_14 : decode cX6_canTell 14 = .ok (.aload_n 1, 1) := dk_43 (dk_at dksX6_canTell_0 14 rfl rfl)
theorem dX6_canTell_15 : decode cX6_canTell 15 = .ok (.invokevirtual 96, 3) := dk_182 0 96 (dk_at dksX6_canTell_0 15 rfl rfl)
theorem dX6_canTell_18 : decode cX6_canTell 18 = .ok (.iconst (-1), 1) := dk_2 (dk_at dksX6_canTell_0 18 rfl rfl)
theorem dX6_canTell_19 : decode cX6_canTell 19 = .ok (.if_icmp .ne 22, 3) := dk_160 0 22 (dk_at dksX6_canTell_0 19 rfl rfl)
theorem dX6_canTell_22 : decode cX6_canTell 22 = .ok (.aload_n 1, 1) := dk_43 (dk_at dksX6_canTell_0 22 rfl rfl)
theorem dX6_canTell_23 : decode cX6_canTell 23 = .ok (.invokevirtual 82, 3) := dk_182 0 82 (dk_at dksX6_canTell_1 0 rfl rfl)
theorem dX6_canTell_26 : decode cX6_canTell 26 = .ok (.aload_n 0, 1) := dk_42 (dk_at dksX6_canTell_1 3 rfl rfl)
theorem dX6_canTell_27 : decode cX6_canTell 27 = .ok (.invokevirtual 99, 3) := dk_182 0 99 (dk_at dksX6_canTell_1 4 rfl rfl)
theorem dX6_canTell_30 : decode cX6_canTell 30 = .ok (.invokevirtual 103, 3) := dk_182 0 103 (dk_at dksX6_canTell_1 7 rfl rfl)
theorem dX6_canTell_33 : decode cX6_canTell 33 = .ok (.iand, 1) := dk_126 (dk_at dksX6_canTell_1 10 rfl rfl)
theorem dX6_canTell_34 : decode cX6_canTell 34 = .ok (.ifCond .ne 7, 3) := dk_154 0 7 (dk_at dksX6_canTell_1 11 rfl rfl)
theorem dX6_canTell_37 : decode cX6_canTell 37 = .ok (.iconst 1, 1) := dk_4 (dk_at dksX6_canTell_1 14 rfl rfl)
theorem dX6_canTell_38 : decode cX6_canTell 38 = .ok (.goto 4, 3) := dk_167 0 4 (dk_at dksX6_canTell_1 15 rfl rfl)
theorem dX6_canTell_41 : decode cX6_canTell 41 = .ok (.iconst 0, 1) := dk_3 (dk_at dksX6_canTell_1 18 rfl rfl)
theorem dX6_canTell_42 : decode cX6_canTell 42 = .ok (.ireturn, 1) := dk_172 (dk_at dksX6_canTell_1 19 rfl rfl)
abbrev cX6_mover : ByteArray := prog_2_method_3_code
def yX6_mover : MethodName := ⟨RX6, "mover", "()LTaleDuel$Teller;"⟩
def dkwX6_mover_0 : List UInt8 := [42, 180, 0, 11, 42, 180, 0, 66, 50, 176]
abbrev dktX6_mover_0 : List UInt8 := dkwX6_mover_0 ++ []
theorem dksX6_mover_0 : cX6_mover.data.toList.drop 0 = dktX6_mover_0 := by decide +kernel
theorem dX6_mover_0 : decode cX6_mover 0 = .ok (.aload_n 0, 1) := dk_42 (dk_at dksX6_mover_0 0 rfl rfl)
theorem dX6_mover_1 : decode cX6_mover 1 = .ok (.getfield 11, 3) := dk_180 0 11 (dk_at dksX6_mover_0 1 rfl rfl)
theorem dX6_mover_4 : decode cX6_mover 4 = .ok (.aload_n 0, 1) := dk_42 (dk_at dksX6_mover_0 4 rfl rfl)
theorem dX6_mover_5 : decode cX6_mover 5 = .ok (.getfield 66, 3) := dk_180 0 66 (dk_at dksX6_mover_0 5 rfl rfl)
theorem dX6_mover_8 : decode cX6_mover 8 = .ok (.aaload, 1) := dk_50 (dk_at dksX6_mover_0 8 rfl rfl)
theorem dX6_mover_9 : decode cX6_mover 9 = .ok (.areturn, 1) := dk_176 (dk_at dksX6_mover_0 9 rfl rfl)
abbrev cX6_tell : ByteArray := prog_2_method_9_code
def yX6_tell : MethodName := ⟨RX6, "tell", "(LTaleDuel$Sentence;)I"⟩
def dkwX6_tell_5 : List UInt8 := [4, 96, 181, 0, 62, 42, 4, 181, 0, 72, 29, 172]
abbrev dktX6_tell_5 : List UInt8 := dkwX6_tell_5 ++ []
def dkwX6_tell_4 : List UInt8 := [181, 0, 116, 42, 182, 0, 99, 43, 181, 0, 117, 42, 180, 0, 28, 43, 182, 0, 58, 42, 89, 180, 0, 62]
abbrev dktX6_tell_4 : List UInt8 := dkwX6_tell_4 ++ dktX6_tell_5
def dkwX6_tell_3 : List UInt8 := [182, 0, 99, 89, 180, 0, 113, 29, 96, 181, 0, 113, 42, 182, 0, 99, 89, 180, 0, 116, 4, 96]
abbrev dktX6_tell_3 : List UInt8 := dkwX6_tell_3 ++ dktX6_tell_4
def dkwX6_tell_2 : List UInt8 := [50, 58, 8, 25, 8, 21, 4, 42, 180, 0, 32, 4, 46, 182, 0, 109, 132, 7, 1, 167, 255, 226, 42]
abbrev dktX6_tell_2 : List UInt8 := dkwX6_tell_2 ++ dktX6_tell_3
def dkwX6_tell_1 : List UInt8 := [180, 0, 19, 58, 5, 25, 5, 190, 54, 6, 3, 54, 7, 21, 7, 21, 6, 162, 0, 29, 25, 5, 21, 7]
abbrev dktX6_tell_1 : List UInt8 := dkwX6_tell_1 ++ dktX6_tell_2
def dkwX6_tell_0 : List UInt8 := [43, 182, 0, 82, 61, 42, 28, 182, 0, 106, 62, 28, 42, 182, 0, 85, 2, 130, 126, 54, 4, 42]
abbrev dktX6_tell_0 : List UInt8 := dkwX6_tell_0 ++ dktX6_tell_1
theorem dksX6_tell_0 : cX6_tell.data.toList.drop 0 = dktX6_tell_0 := by decide +kernel
theorem dksX6_tell_1 : cX6_tell.data.toList.drop 22 = dktX6_tell_1 := dk_seg dksX6_tell_0 22 rfl rfl
theorem dksX6_tell_2 : cX6_tell.data.toList.drop 46 = dktX6_tell_2 := dk_seg dksX6_tell_1 24 rfl rfl
theorem dksX6_tell_3 : cX6_tell.data.toList.drop 69 = dktX6_tell_3 := dk_seg dksX6_tell_2 23 rfl rfl
theorem dksX6_tell_4 : cX6_tell.data.toList.drop 91 = dktX6_tell_4 := dk_seg dksX6_tell_3 22 rfl rfl
theorem dksX6_tell_5 : cX6_tell.data.toList.drop 115 = dktX6_tell_5 := dk_seg dksX6_tell_4 24 rfl rfl
theorem dX6_tell_0 : decode cX6_tell 0 = .ok (.aload_n 1, 1) := dk_43 (dk_at dksX6_tell_0 0 rfl rfl)
theorem dX6_tell_1 : decode cX6_tell 1 = .ok (.invokevirtual 82, 3) := dk_182 0 82 (dk_at dksX6_tell_0 1 rfl rfl)
theorem dX6_tell_4 : decode cX6_tell 4 = .ok (.istore_n 2, 1) := dk_61 (dk_at dksX6_tell_0 4 rfl rfl)
theorem dX6_tell_5 : decode cX6_tell 5 = .ok (.aload_n 0, 1) := dk_42 (dk_at dksX6_tell_0 5 rfl rfl)
theorem dX6_tell_6 : decode cX6_tell 6 = .ok (.iload_n 2, 1) := dk_28 (dk_at dksX6_tell_0 6 rfl rfl)
theorem dX6_tell_7 : decode cX6_tell 7 = .ok (.invokevirtual 106, 3) := dk_182 0 106 (dk_at dksX6_tell_0 7 rfl rfl)
theorem dX6_tell_10 : decode cX6_tell 10 = .ok (.istore_n 3, 1) := dk_62 (dk_at dksX6_tell_0 10 rfl rfl)
theorem dX6_tell_11 : decode cX6_tell 11 = .ok (.iload_n 2, 1) := dk_28 (dk_at dksX6_tell_0 11 rfl rfl)
theorem dX6_tell_12 : decode cX6_tell 12 = .ok (.aload_n 0, 1) := dk_42 (dk_at dksX6_tell_0 12 rfl rfl)
theorem dX6_tell_13 : decode cX6_tell 13 = .ok (.invokevirtual 85, 3) := dk_182 0 85 (dk_at dksX6_tell_0 13 rfl rfl)
theorem dX6_tell_16 : decode cX6_tell 16 = .ok (.iconst (-1), 1) := dk_2 (dk_at dksX6_tell_0 16 rfl rfl)
theorem dX6_tell_17 : decode cX6_tell 17 = .ok (.ixor, 1) := dk_130 (dk_at dksX6_tell_0 17 rfl rfl)
theorem dX6_tell_18 : decode cX6_tell 18 = .ok (.iand, 1) := dk_126 (dk_at dksX6_tell_0 18 rfl rfl)
theorem dX6_tell_19 : decode cX6_tell 19 = .ok (.istore 4, 2) := dk_54 4 (dk_at dksX6_tell_0 19 rfl rfl)
theorem dX6_tell_21 : decode cX6_tell 21 = .ok (.aload_n 0, 1) := dk_42 (dk_at dksX6_tell_0 21 rfl rfl)
theorem dX6_tell_22 : decode cX6_tell 22 = .ok (.getfield 19, 3) := dk_180 0 19 (dk_at dksX6_tell_1 0 rfl rfl)
theorem dX6_tell_25 : decode cX6_tell 25 = .ok (.astore 5, 2) := dk_58 5 (dk_at dksX6_tell_1 3 rfl rfl)
theorem dX6_tell_27 : decode cX6_tell 27 = .ok (.aload 5, 2) := dk_25 5 (dk_at dksX6_tell_1 5 rfl rfl)
theorem dX6_tell_29 : decode cX6_tell 29 = .ok (.arraylength, 1) := dk_190 (dk_at dksX6_tell_1 7 rfl rfl)
theorem dX6_tell_30 : decode cX6_tell 30 = .ok (.istore 6, 2) := dk_54 6 (dk_at dksX6_tell_1 8 rfl rfl)
theorem dX6_tell_32 : decode cX6_tell 32 = .ok (.iconst 0, 1) := dk_3 (dk_at dksX6_tell_1 10 rfl rfl)
theorem dX6_tell_33 : decode cX6_tell 33 = .ok (.istore 7, 2) := dk_54 7 (dk_at dksX6_tell_1 11 rfl rfl)
theorem dX6_tell_35 : decode cX6_tell 35 = .ok (.iload 7, 2) := dk_21 7 (dk_at dksX6_tell_1 13 rfl rfl)
theorem dX6_tell_37 : decode cX6_tell 37 = .ok (.iload 6, 2) := dk_21 6 (dk_at dksX6_tell_1 15 rfl rfl)
theorem dX6_tell_39 : decode cX6_tell 39 = .ok (.if_icmp .ge 29, 3) := dk_162 0 29 (dk_at dksX6_tell_1 17 rfl rfl)
theorem dX6_tell_42 : decode cX6_tell 42 = .ok (.aload 5, 2) := dk_25 5 (dk_at dksX6_tell_1 20 rfl rfl)
theorem dX6_tell_44 : decode cX6_tell 44 = .ok (.iload 7, 2) := dk_21 7 (dk_at dksX6_tell_1 22 rfl rfl)
theorem dX6_tell_46 : decode cX6_tell 46 = .ok (.aaload, 1) := dk_50 (dk_at dksX6_tell_2 0 rfl rfl)
theorem dX6_tell_47 : decode cX6_tell 47 = .ok (.astore 8, 2) := dk_58 8 (dk_at dksX6_tell_2 1 rfl rfl)
theorem dX6_tell_49 : decode cX6_tell 49 = .ok (.aload 8, 2) := dk_25 8 (dk_at dksX6_tell_2 3 rfl rfl)
theorem dX6_tell_51 : decode cX6_tell 51 = .ok (.iload 4, 2) := dk_21 4 (dk_at dksX6_tell_2 5 rfl rfl)
theorem dX6_tell_53 : decode cX6_tell 53 = .ok (.aload_n 0, 1) := dk_42 (dk_at dksX6_tell_2 7 rfl rfl)
theorem dX6_tell_54 : decode cX6_tell 54 = .ok (.getfield 32, 3) := dk_180 0 32 (dk_at dksX6_tell_2 8 rfl rfl)
theorem dX6_tell_57 : decode cX6_tell 57 = .ok (.iconst 1, 1) := dk_4 (dk_at dksX6_tell_2 11 rfl rfl)
theorem dX6_tell_58 : decode cX6_tell 58 = .ok (.iaload, 1) := dk_46 (dk_at dksX6_tell_2 12 rfl rfl)
theorem dX6_tell_59 : decode cX6_tell 59 = .ok (.invokevirtual 109, 3) := dk_182 0 109 (dk_at dksX6_tell_2 13 rfl rfl)
theorem dX6_tell_62 : decode cX6_tell 62 = .ok (.iinc 7 1, 3) := dk_132 7 1 (dk_at dksX6_tell_2 16 rfl rfl)
theorem dX6_tell_65 : decode cX6_tell 65 = .ok (.goto (-30), 3) := dk_167 255 226 (dk_at dksX6_tell_2 19 rfl rfl)
theorem dX6_tell_68 : decode cX6_tell 68 = .ok (.aload_n 0, 1) := dk_42 (dk_at dksX6_tell_2 22 rfl rfl)
theorem dX6_tell_69 : decode cX6_tell 69 = .ok (.invokevirtual 99, 3) := dk_182 0 99 (dk_at dksX6_tell_3 0 rfl rfl)
theorem dX6_tell_72 : decode cX6_tell 72 = .ok (.dup, 1) := dk_89 (dk_at dksX6_tell_3 3 rfl rfl)
theorem dX6_tell_73 : decode cX6_tell 73 = .ok (.getfield 113, 3) := dk_180 0 113 (dk_at dksX6_tell_3 4 rfl rfl)
theorem dX6_tell_76 : decode cX6_tell 76 = .ok (.iload_n 3, 1) := dk_29 (dk_at dksX6_tell_3 7 rfl rfl)
theorem dX6_tell_77 : decode cX6_tell 77 = .ok (.iadd, 1) := dk_96 (dk_at dksX6_tell_3 8 rfl rfl)
theorem dX6_tell_78 : decode cX6_tell 78 = .ok (.putfield 113, 3) := dk_181 0 113 (dk_at dksX6_tell_3 9 rfl rfl)
theorem dX6_tell_81 : decode cX6_tell 81 = .ok (.aload_n 0, 1) := dk_42 (dk_at dksX6_tell_3 12 rfl rfl)
theorem dX6_tell_82 : decode cX6_tell 82 = .ok (.invokevirtual 99, 3) := dk_182 0 99 (dk_at dksX6_tell_3 13 rfl rfl)
theorem dX6_tell_85 : decode cX6_tell 85 = .ok (.dup, 1) := dk_89 (dk_at dksX6_tell_3 16 rfl rfl)
theorem dX6_tell_86 : decode cX6_tell 86 = .ok (.getfield 116, 3) := dk_180 0 116 (dk_at dksX6_tell_3 17 rfl rfl)
theorem dX6_tell_89 : decode cX6_tell 89 = .ok (.iconst 1, 1) := dk_4 (dk_at dksX6_tell_3 20 rfl rfl)
theorem dX6_tell_90 : decode cX6_tell 90 = .ok (.iadd, 1) := dk_96 (dk_at dksX6_tell_3 21 rfl rfl)
theorem dX6_tell_91 : decode cX6_tell 91 = .ok (.putfield 116, 3) := dk_181 0 116 (dk_at dksX6_tell_4 0 rfl rfl)
theorem dX6_tell_94 : decode cX6_tell 94 = .ok (.aload_n 0, 1) := dk_42 (dk_at dksX6_tell_4 3 rfl rfl)
theorem dX6_tell_95 : decode cX6_tell 95 = .ok (.invokevirtual 99, 3) := dk_182 0 99 (dk_at dksX6_tell_4 4 rfl rfl)
theorem dX6_tell_98 : decode cX6_tell 98 = .ok (.aload_n 1, 1) := dk_43 (dk_at dksX6_tell_4 7 rfl rfl)
theorem dX6_tell_99 : decode cX6_tell 99 = .ok (.putfield 117, 3) := dk_181 0 117 (dk_at dksX6_tell_4 8 rfl rfl)
theorem dX6_tell_102 : decode cX6_tell 102 = .ok (.aload_n 0, 1) := dk_42 (dk_at dksX6_tell_4 11 rfl rfl)
theorem dX6_tell_103 : decode cX6_tell 103 = .ok (.getfield 28, 3) := dk_180 0 28 (dk_at dksX6_tell_4 12 rfl rfl)
theorem dX6_tell_106 : decode cX6_tell 106 = .ok (.aload_n 1, 1) := dk_43 (dk_at dksX6_tell_4 15 rfl rfl)
theorem dX6_tell_107 : decode cX6_tell 107 = .ok (.invokevirtual 58, 3) := dk_182 0 58 (dk_at dksX6_tell_4 16 rfl rfl)
theorem dX6_tell_110 : decode cX6_tell 110 = .ok (.aload_n 0, 1) := dk_42 (dk_at dksX6_tell_4 19 rfl rfl)
theorem dX6_tell_111 : decode cX6_tell 111 = .ok (.dup, 1) := dk_89 (dk_at dksX6_tell_4 20 rfl rfl)
theorem dX6_tell_112 : decode cX6_tell 112 = .ok (.getfield 62, 3) := dk_180 0 62 (dk_at dksX6_tell_4 21 rfl rfl)
theorem dX6_tell_115 : decode cX6_tell 115 = .ok (.iconst 1, 1) := dk_4 (dk_at dksX6_tell_5 0 rfl rfl)
theorem dX6_tell_116 : decode cX6_tell 116 = .ok (.iadd, 1) := dk_96 (dk_at dksX6_tell_5 1 rfl rfl)
theorem dX6_tell_117 : decode cX6_tell 117 = .ok (.putfield 62, 3) := dk_181 0 62 (dk_at dksX6_tell_5 2 rfl rfl)
theorem dX6_tell_120 : decode cX6_tell 120 = .ok (.aload_n 0, 1) := dk_42 (dk_at dksX6_tell_5 5 rfl rfl)
theorem dX6_tell_121 : decode cX6_tell 121 = .ok (.iconst 1, 1) := dk_4 (dk_at dksX6_tell_5 6 rfl rfl)
theorem dX6_tell_122 : decode cX6_tell 122 = .ok (.putfield 72, 3) := dk_181 0 72 (dk_at dksX6_tell_5 7 rfl rfl)
theorem dX6_tell_125 : decode cX6_tell 125 = .ok (.iload_n 3, 1) := dk_29 (dk_at dksX6_tell_5 10 rfl rfl)
theorem dX6_tell_126 : decode cX6_tell 126 = .ok (.ireturn, 1) := dk_172 (dk_at dksX6_tell_5 11 rfl rfl)
abbrev cX6_points : ByteArray := prog_2_method_6_code
def yX6_points : MethodName := ⟨RX6, "points", "(I)I"⟩
def dkwX6_points_2 : List UInt8 := [62, 132, 6, 1, 167, 255, 230, 29, 172]
abbrev dktX6_points_2 : List UInt8 := dkwX6_points_2 ++ []
def dkwX6_points_1 : List UInt8 := [54, 6, 21, 6, 21, 5, 162, 0, 25, 25, 4, 21, 6, 50, 58, 7, 29, 25, 7, 28, 182, 0, 88, 96]
abbrev dktX6_points_1 : List UInt8 := dkwX6_points_1 ++ dktX6_points_2
def dkwX6_points_0 : List UInt8 := [27, 42, 182, 0, 85, 2, 130, 126, 61, 3, 62, 42, 180, 0, 19, 58, 4, 25, 4, 190, 54, 5, 3]
abbrev dktX6_points_0 : List UInt8 := dkwX6_points_0 ++ dktX6_points_1
theorem dksX6_points_0 : cX6_points.data.toList.drop 0 = dktX6_points_0 := by decide +kernel
theorem dksX6_points_1 : cX6_points.data.toList.drop 23 = dktX6_points_1 := dk_seg dksX6_points_0 23 rfl rfl
theorem dksX6_points_2 : cX6_points.data.toList.drop 47 = dktX6_points_2 := dk_seg dksX6_points_1 24 rfl rfl
theorem dX6_points_0 : decode cX6_points 0 = .ok (.iload_n 1, 1) := dk_27 (dk_at dksX6_points_0 0 rfl rfl)
theorem dX6_points_1 : decode cX6_points 1 = .ok (.aload_n 0, 1) := dk_42 (dk_at dksX6_points_0 1 rfl rfl)
theorem dX6_points_2 : decode cX6_points 2 = .ok (.invokevirtual 85, 3) := dk_182 0 85 (dk_at dksX6_points_0 2 rfl rfl)
theorem dX6_points_5 : decode cX6_points 5 = .ok (.iconst (-1), 1) := dk_2 (dk_at dksX6_points_0 5 rfl rfl)
theorem dX6_points_6 : decode cX6_points 6 = .ok (.ixor, 1) := dk_130 (dk_at dksX6_points_0 6 rfl rfl)
theorem dX6_points_7 : decode cX6_points 7 = .ok (.iand, 1) := dk_126 (dk_at dksX6_points_0 7 rfl rfl)
theorem dX6_points_8 : decode cX6_points 8 = .ok (.istore_n 2, 1) := dk_61 (dk_at dksX6_points_0 8 rfl rfl)
theorem dX6_points_9 : decode cX6_points 9 = .ok (.iconst 0, 1) := dk_3 (dk_at dksX6_points_0 9 rfl rfl)
theorem dX6_points_10 : decode cX6_points 10 = .ok (.istore_n 3, 1) := dk_62 (dk_at dksX6_points_0 10 rfl rfl)
theorem dX6_points_11 : decode cX6_points 11 = .ok (.aload_n 0, 1) := dk_42 (dk_at dksX6_points_0 11 rfl rfl)
theorem dX6_points_12 : decode cX6_points 12 = .ok (.getfield 19, 3) := dk_180 0 19 (dk_at dksX6_points_0 12 rfl rfl)
theorem dX6_points_15 : decode cX6_points 15 = .ok (.astore 4, 2) := dk_58 4 (dk_at dksX6_points_0 15 rfl rfl)
theorem dX6_points_17 : decode cX6_points 17 = .ok (.aload 4, 2) := dk_25 4 (dk_at dksX6_points_0 17 rfl rfl)
theorem dX6_points_19 : decode cX6_points 19 = .ok (.arraylength, 1) := dk_190 (dk_at dksX6_points_0 19 rfl rfl)
theorem dX6_points_20 : decode cX6_points 20 = .ok (.istore 5, 2) := dk_54 5 (dk_at dksX6_points_0 20 rfl rfl)
theorem dX6_points_22 : decode cX6_points 22 = .ok (.iconst 0, 1) := dk_3 (dk_at dksX6_points_0 22 rfl rfl)
theorem dX6_points_23 : decode cX6_points 23 = .ok (.istore 6, 2) := dk_54 6 (dk_at dksX6_points_1 0 rfl rfl)
theorem dX6_points_25 : decode cX6_points 25 = .ok (.iload 6, 2) := dk_21 6 (dk_at dksX6_points_1 2 rfl rfl)
theorem dX6_points_27 : decode cX6_points 27 = .ok (.iload 5, 2) := dk_21 5 (dk_at dksX6_points_1 4 rfl rfl)
theorem dX6_points_29 : decode cX6_points 29 = .ok (.if_icmp .ge 25, 3) := dk_162 0 25 (dk_at dksX6_points_1 6 rfl rfl)
theorem dX6_points_32 : decode cX6_points 32 = .ok (.aload 4, 2) := dk_25 4 (dk_at dksX6_points_1 9 rfl rfl)
theorem dX6_points_34 : decode cX6_points 34 = .ok (.iload 6, 2) := dk_21 6 (dk_at dksX6_points_1 11 rfl rfl)
theorem dX6_points_36 : decode cX6_points 36 = .ok (.aaload, 1) := dk_50 (dk_at dksX6_points_1 13 rfl rfl)
theorem dX6_points_37 : decode cX6_points 37 = .ok (.astore 7, 2) := dk_58 7 (dk_at dksX6_points_1 14 rfl rfl)
theorem dX6_points_39 : decode cX6_points 39 = .ok (.iload_n 3, 1) := dk_29 (dk_at dksX6_points_1 16 rfl rfl)
theorem dX6_points_40 : decode cX6_points 40 = .ok (.aload 7, 2) := dk_25 7 (dk_at dksX6_points_1 17 rfl rfl)
theorem dX6_points_42 : decode cX6_points 42 = .ok (.iload_n 2, 1) := dk_28 (dk_at dksX6_points_1 19 rfl rfl)
theorem dX6_points_43 : decode cX6_points 43 = .ok (.invokevirtual 88, 3) := dk_182 0 88 (dk_at dksX6_points_1 20 rfl rfl)
theorem dX6_points_46 : decode cX6_points 46 = .ok (.iadd, 1) := dk_96 (dk_at dksX6_points_1 23 rfl rfl)
theorem dX6_points_47 : decode cX6_points 47 = .ok (.istore_n 3, 1) := dk_62 (dk_at dksX6_points_2 0 rfl rfl)
theorem dX6_points_48 : decode cX6_points 48 = .ok (.iinc 6 1, 3) := dk_132 6 1 (dk_at dksX6_points_2 1 rfl rfl)
theorem dX6_points_51 : decode cX6_points 51 = .ok (.goto (-26), 3) := dk_167 255 230 (dk_at dksX6_points_2 4 rfl rfl)
theorem dX6_points_54 : decode cX6_points 54 = .ok (.iload_n 3, 1) := dk_29 (dk_at dksX6_points_2 7 rfl rfl)
theorem dX6_points_55 : decode cX6_points 55 = .ok (.ireturn, 1) := dk_172 (dk_at dksX6_points_2 8 rfl rfl)
abbrev cX6_forbid : ByteArray := prog_2_method_11_code
def yX6_forbid : MethodName := ⟨RX6, "forbid", "(I)I"⟩
def dkwX6_forbid_0 : List UInt8 := [42, 182, 0, 121, 27, 42, 180, 0, 32, 5, 46, 182, 0, 127, 61, 42, 182, 0, 131, 28, 172]
abbrev dktX6_forbid_0 : List UInt8 := dkwX6_forbid_0 ++ []
theorem dksX6_forbid_0 : cX6_forbid.data.toList.drop 0 = dktX6_forbid_0 := by decide +kernel
theorem dX6_forbid_0 : decode cX6_forbid 0 = .ok (.aload_n 0, 1) := dk_42 (dk_at dksX6_forbid_0 0 rfl rfl)
theorem dX6_forbid_1 : decode cX6_forbid 1 = .ok (.invokevirtual 121, 3) := dk_182 0 121 (dk_at dksX6_forbid_0 1 rfl rfl)
theorem dX6_forbid_4 : decode cX6_forbid 4 = .ok (.iload_n 1, 1) := dk_27 (dk_at dksX6_forbid_0 4 rfl rfl)
theorem dX6_forbid_5 : decode cX6_forbid 5 = .ok (.aload_n 0, 1) := dk_42 (dk_at dksX6_forbid_0 5 rfl rfl)
theorem dX6_forbid_6 : decode cX6_forbid 6 = .ok (.getfield 32, 3) := dk_180 0 32 (dk_at dksX6_forbid_0 6 rfl rfl)
theorem dX6_forbid_9 : decode cX6_forbid 9 = .ok (.iconst 2, 1) := dk_5 (dk_at dksX6_forbid_0 9 rfl rfl)
theorem dX6_forbid_10 : decode cX6_forbid 10 = .ok (.iaload, 1) := dk_46 (dk_at dksX6_forbid_0 10 rfl rfl)
theorem dX6_forbid_11 : decode cX6_forbid 11 = .ok (.invokevirtual 127, 3) := dk_182 0 127 (dk_at dksX6_forbid_0 11 rfl rfl)
theorem dX6_forbid_14 : decode cX6_forbid 14 = .ok (.istore_n 2, 1) := dk_61 (dk_at dksX6_forbid_0 14 rfl rfl)
theorem dX6_forbid_15 : decode cX6_forbid 15 = .ok (.aload_n 0, 1) := dk_42 (dk_at dksX6_forbid_0 15 rfl rfl)
theorem dX6_forbid_16 : decode cX6_forbid 16 = .ok (.invokevirtual 131, 3) := dk_182 0 131 (dk_at dksX6_forbid_0 16 rfl rfl)
theorem dX6_forbid_19 : decode cX6_forbid 19 = .ok (.iload_n 2, 1) := dk_28 (dk_at dksX6_forbid_0 19 rfl rfl)
theorem dX6_forbid_20 : decode cX6_forbid 20 = .ok (.ireturn, 1) := dk_172 (dk_at dksX6_forbid_0 20 rfl rfl)
abbrev cX6_end : ByteArray := prog_2_method_13_code
def yX6_end : MethodName := ⟨RX6, "end", "()V"⟩
def dkwX6_end_4 : List UInt8 := [181, 0, 66, 177]
abbrev dktX6_end_4 : List UInt8 := dkwX6_end_4 ++ []
def dkwX6_end_3 : List UInt8 := [154, 0, 7, 4, 167, 0, 4, 3, 181, 0, 76, 42, 3, 181, 0, 72, 42, 4, 42, 180, 0, 66, 100]
abbrev dktX6_end_3 : List UInt8 := dkwX6_end_3 ++ dktX6_end_4
def dkwX6_end_2 : List UInt8 := [42, 180, 0, 69, 16, 60, 161, 0, 7, 4, 167, 0, 4, 3, 181, 0, 79, 42, 42, 180, 0, 72]
abbrev dktX6_end_2 : List UInt8 := dkwX6_end_2 ++ dktX6_end_3
def dkwX6_end_1 : List UInt8 := [162, 0, 33, 42, 182, 0, 137, 153, 0, 26, 42, 180, 0, 72, 154, 0, 10, 42, 180, 0, 76, 154, 0, 12]
abbrev dktX6_end_1 : List UInt8 := dkwX6_end_1 ++ dktX6_end_2
def dkwX6_end_0 : List UInt8 := [42, 89, 180, 0, 69, 4, 96, 181, 0, 69, 42, 42, 182, 0, 99, 180, 0, 113, 42, 180, 0, 32, 6, 46]
abbrev dktX6_end_0 : List UInt8 := dkwX6_end_0 ++ dktX6_end_1
theorem dksX6_end_0 : cX6_end.data.toList.drop 0 = dktX6_end_0 := by decide +kernel
theorem dksX6_end_1 : cX6_end.data.toList.drop 24 = dktX6_end_1 := dk_seg dksX6_end_0 24 rfl rfl
theorem dksX6_end_2 : cX6_end.data.toList.drop 48 = dktX6_end_2 := dk_seg dksX6_end_1 24 rfl rfl
theorem dksX6_end_3 : cX6_end.data.toList.drop 70 = dktX6_end_3 := dk_seg dksX6_end_2 22 rfl rfl
theorem dksX6_end_4 : cX6_end.data.toList.drop 93 = dktX6_end_4 := dk_seg dksX6_end_3 23 rfl rfl
theorem dX6_end_0 : decode cX6_end 0 = .ok (.aload_n 0, 1) := dk_42 (dk_at dksX6_end_0 0 rfl rfl)
theorem dX6_end_1 : decode cX6_end 1 = .ok (.dup, 1) := dk_89 (dk_at dksX6_end_0 1 rfl rfl)
theorem dX6_end_2 : decode cX6_end 2 = .ok (.getfield 69, 3) := dk_180 0 69 (dk_at dksX6_end_0 2 rfl rfl)
theorem dX6_end_5 : decode cX6_end 5 = .ok (.iconst 1, 1) := dk_4 (dk_at dksX6_end_0 5 rfl rfl)
theorem dX6_end_6 : decode cX6_end 6 = .ok (.iadd, 1) := dk_96 (dk_at dksX6_end_0 6 rfl rfl)
theorem dX6_end_7 : decode cX6_end 7 = .ok (.putfield 69, 3) := dk_181 0 69 (dk_at dksX6_end_0 7 rfl rfl)
theorem dX6_end_10 : decode cX6_end 10 = .ok (.aload_n 0, 1) := dk_42 (dk_at dksX6_end_0 10 rfl rfl)
theorem dX6_end_11 : decode cX6_end 11 = .ok (.aload_n 0, 1) := dk_42 (dk_at dksX6_end_0 11 rfl rfl)
theorem dX6_end_12 : decode cX6_end 12 = .ok (.invokevirtual 99, 3) := dk_182 0 99 (dk_at dksX6_end_0 12 rfl rfl)
theorem dX6_end_15 : decode cX6_end 15 = .ok (.getfield 113, 3) := dk_180 0 113 (dk_at dksX6_end_0 15 rfl rfl)
theorem dX6_end_18 : decode cX6_end 18 = .ok (.aload_n 0, 1) := dk_42 (dk_at dksX6_end_0 18 rfl rfl)
theorem dX6_end_19 : decode cX6_end 19 = .ok (.getfield 32, 3) := dk_180 0 32 (dk_at dksX6_end_0 19 rfl rfl)
theorem dX6_end_22 : decode cX6_end 22 = .ok (.iconst 3, 1) := dk_6 (dk_at dksX6_end_0 22 rfl rfl)
theorem dX6_end_23 : decode cX6_end 23 = .ok (.iaload, 1) := dk_46 (dk_at dksX6_end_0 23 rfl rfl)
theorem dX6_end_24 : decode cX6_end 24 = .ok (.if_icmp .ge 33, 3) := dk_162 0 33 (dk_at dksX6_end_1 0 rfl rfl)
theorem dX6_end_27 : decode cX6_end 27 = .ok (.aload_n 0, 1) := dk_42 (dk_at dksX6_end_1 3 rfl rfl)
theorem dX6_end_28 : decode cX6_end 28 = .ok (.invokevirtual 137, 3) := dk_182 0 137 (dk_at dksX6_end_1 4 rfl rfl)
theorem dX6_end_31 : decode cX6_end 31 = .ok (.ifCond .eq 26, 3) := dk_153 0 26 (dk_at dksX6_end_1 7 rfl rfl)
theorem dX6_end_34 : decode cX6_end 34 = .ok (.aload_n 0, 1) := dk_42 (dk_at dksX6_end_1 10 rfl rfl)
theorem dX6_end_35 : decode cX6_end 35 = .ok (.getfield 72, 3) := dk_180 0 72 (dk_at dksX6_end_1 11 rfl rfl)
theorem dX6_end_38 : decode cX6_end 38 = .ok (.ifCond .ne 10, 3) := dk_154 0 10 (dk_at dksX6_end_1 14 rfl rfl)
theorem dX6_end_41 : decode cX6_end 41 = .ok (.aload_n 0, 1) := dk_42 (dk_at dksX6_end_1 17 rfl rfl)
theorem dX6_end_42 : decode cX6_end 42 = .ok (.getfield 76, 3) := dk_180 0 76 (dk_at dksX6_end_1 18 rfl rfl)
theorem dX6_end_45 : decode cX6_end 45 = .ok (.ifCond .ne 12, 3) := dk_154 0 12 (dk_at dksX6_end_1 21 rfl rfl)
theorem dX6_end_48 : decode cX6_end 48 = .ok (.aload_n 0, 1) := dk_42 (dk_at dksX6_end_2 0 rfl rfl)
theorem dX6_end_49 : decode cX6_end 49 = .ok (.getfield 69, 3) := dk_180 0 69 (dk_at dksX6_end_2 1 rfl rfl)
theorem dX6_end_52 : decode cX6_end 52 = .ok (.bipush 60, 2) := dk_16 60 (dk_at dksX6_end_2 4 rfl rfl)
theorem dX6_end_54 : decode cX6_end 54 = .ok (.if_icmp .lt 7, 3) := dk_161 0 7 (dk_at dksX6_end_2 6 rfl rfl)
theorem dX6_end_57 : decode cX6_end 57 = .ok (.iconst 1, 1) := dk_4 (dk_at dksX6_end_2 9 rfl rfl)
theorem dX6_end_58 : decode cX6_end 58 = .ok (.goto 4, 3) := dk_167 0 4 (dk_at dksX6_end_2 10 rfl rfl)
theorem dX6_end_61 : decode cX6_end 61 = .ok (.iconst 0, 1) := dk_3 (dk_at dksX6_end_2 13 rfl rfl)
theorem dX6_end_62 : decode cX6_end 62 = .ok (.putfield 79, 3) := dk_181 0 79 (dk_at dksX6_end_2 14 rfl rfl)
theorem dX6_end_65 : decode cX6_end 65 = .ok (.aload_n 0, 1) := dk_42 (dk_at dksX6_end_2 17 rfl rfl)
theorem dX6_end_66 : decode cX6_end 66 = .ok (.aload_n 0, 1) := dk_42 (dk_at dksX6_end_2 18 rfl rfl)
theorem dX6_end_67 : decode cX6_end 67 = .ok (.getfield 72, 3) := dk_180 0 72 (dk_at dksX6_end_2 19 rfl rfl)
theorem dX6_end_70 : decode cX6_end 70 = .ok (.ifCond .ne 7, 3) := dk_154 0 7 (dk_at dksX6_end_3 0 rfl rfl)
theorem dX6_end_73 : decode cX6_end 73 = .ok (.iconst 1, 1) := dk_4 (dk_at dksX6_end_3 3 rfl rfl)
theorem dX6_end_74 : decode cX6_end 74 = .ok (.goto 4, 3) := dk_167 0 4 (dk_at dksX6_end_3 4 rfl rfl)
theorem dX6_end_77 : decode cX6_end 77 = .ok (.iconst 0, 1) := dk_3 (dk_at dksX6_end_3 7 rfl rfl)
theorem dX6_end_78 : decode cX6_end 78 = .ok (.putfield 76, 3) := dk_181 0 76 (dk_at dksX6_end_3 8 rfl rfl)
theorem dX6_end_81 : decode cX6_end 81 = .ok (.aload_n 0, 1) := dk_42 (dk_at dksX6_end_3 11 rfl rfl)
theorem dX6_end_82 : decode cX6_end 82 = .ok (.iconst 0, 1) := dk_3 (dk_at dksX6_end_3 12 rfl rfl)
theorem dX6_end_83 : decode cX6_end 83 = .ok (.putfield 72, 3) := dk_181 0 72 (dk_at dksX6_end_3 13 rfl rfl)
theorem dX6_end_86 : decode cX6_end 86 = .ok (.aload_n 0, 1) := dk_42 (dk_at dksX6_end_3 16 rfl rfl)
theorem dX6_end_87 : decode cX6_end 87 = .ok (.iconst 1, 1) := dk_4 (dk_at dksX6_end_3 17 rfl rfl)
theorem dX6_end_88 : decode cX6_end 88 = .ok (.aload_n 0, 1) := dk_42 (dk_at dksX6_end_3 18 rfl rfl)
theorem dX6_end_89 : decode cX6_end 89 = .ok (.getfield 66, 3) := dk_180 0 66 (dk_at dksX6_end_3 19 rfl rfl)
theorem dX6_end_92 : decode cX6_end 92 = .ok (.isub, 1) := dk_100 (dk_at dksX6_end_3 22 rfl rfl)
theorem dX6_end_93 : decode cX6_end 93 = .ok (.putfield 66, 3) := dk_181 0 66 (dk_at dksX6_end_4 0 rfl rfl)
theorem dX6_end_96 : decode cX6_end 96 = .ok (.return_, 1) := dk_177 (dk_at dksX6_end_4 3 rfl rfl)
abbrev cX6_done : ByteArray := prog_2_method_14_code
def yX6_done : MethodName := ⟨RX6, "done", "()I"⟩
def dkwX6_done_0 : List UInt8 := [42, 182, 0, 131, 42, 180, 0, 79, 153, 0, 7, 2, 167, 0, 7, 42, 180, 0, 66, 172]
abbrev dktX6_done_0 : List UInt8 := dkwX6_done_0 ++ []
theorem dksX6_done_0 : cX6_done.data.toList.drop 0 = dktX6_done_0 := by decide +kernel
theorem dX6_done_0 : decode cX6_done 0 = .ok (.aload_n 0, 1) := dk_42 (dk_at dksX6_done_0 0 rfl rfl)
theorem dX6_done_1 : decode cX6_done 1 = .ok (.invokevirtual 131, 3) := dk_182 0 131 (dk_at dksX6_done_0 1 rfl rfl)
theorem dX6_done_4 : decode cX6_done 4 = .ok (.aload_n 0, 1) := dk_42 (dk_at dksX6_done_0 4 rfl rfl)
theorem dX6_done_5 : decode cX6_done 5 = .ok (.getfield 79, 3) := dk_180 0 79 (dk_at dksX6_done_0 5 rfl rfl)
theorem dX6_done_8 : decode cX6_done 8 = .ok (.ifCond .eq 7, 3) := dk_153 0 7 (dk_at dksX6_done_0 8 rfl rfl)
theorem dX6_done_11 : decode cX6_done 11 = .ok (.iconst (-1), 1) := dk_2 (dk_at dksX6_done_0 11 rfl rfl)
theorem dX6_done_12 : decode cX6_done 12 = .ok (.goto 7, 3) := dk_167 0 7 (dk_at dksX6_done_0 12 rfl rfl)
theorem dX6_done_15 : decode cX6_done 15 = .ok (.aload_n 0, 1) := dk_42 (dk_at dksX6_done_0 15 rfl rfl)
theorem dX6_done_16 : decode cX6_done 16 = .ok (.getfield 66, 3) := dk_180 0 66 (dk_at dksX6_done_0 16 rfl rfl)
theorem dX6_done_19 : decode cX6_done 19 = .ok (.ireturn, 1) := dk_172 (dk_at dksX6_done_0 19 rfl rfl)
abbrev cX6_play : ByteArray := prog_2_method_18_code
def yX6_play : MethodName := ⟨RX6, "play", "()I"⟩
def dkwX6_play_2 : List UInt8 := [2, 160, 0, 10, 42, 182, 0, 167, 167, 0, 8, 42, 28, 182, 0, 170, 62, 27, 172]
abbrev dktX6_play_2 : List UInt8 := dkwX6_play_2 ++ []
def dkwX6_play_1 : List UInt8 := [160, 0, 9, 42, 182, 0, 131, 2, 172, 42, 44, 180, 0, 157, 182, 0, 160, 60, 42, 182, 0, 164, 61, 28]
abbrev dktX6_play_1 : List UInt8 := dkwX6_play_1 ++ dktX6_play_2
def dkwX6_play_0 : List UInt8 := [3, 60, 42, 180, 0, 72, 154, 0, 36, 42, 42, 180, 0, 66, 3, 182, 0, 153, 77, 44, 180, 0, 151, 2]
abbrev dktX6_play_0 : List UInt8 := dkwX6_play_0 ++ dktX6_play_1
theorem dksX6_play_0 : cX6_play.data.toList.drop 0 = dktX6_play_0 := by decide +kernel
theorem dksX6_play_1 : cX6_play.data.toList.drop 24 = dktX6_play_1 := dk_seg dksX6_play_0 24 rfl rfl
theorem dksX6_play_2 : cX6_play.data.toList.drop 48 = dktX6_play_2 := dk_seg dksX6_play_1 24 rfl rfl
theorem dX6_play_0 : decode cX6_play 0 = .ok (.iconst 0, 1) := dk_3 (dk_at dksX6_play_0 0 rfl rfl)
theorem dX6_play_1 : decode cX6_play 1 = .ok (.istore_n 1, 1) := dk_60 (dk_at dksX6_play_0 1 rfl rfl)
theorem dX6_play_2 : decode cX6_play 2 = .ok (.aload_n 0, 1) := dk_42 (dk_at dksX6_play_0 2 rfl rfl)
theorem dX6_play_3 : decode cX6_play 3 = .ok (.getfield 72, 3) := dk_180 0 72 (dk_at dksX6_play_0 3 rfl rfl)
theorem dX6_play_6 : decode cX6_play 6 = .ok (.ifCond .ne 36, 3) := dk_154 0 36 (dk_at dksX6_play_0 6 rfl rfl)
theorem dX6_play_9 : decode cX6_play 9 = .ok (.aload_n 0, 1) := dk_42 (dk_at dksX6_play_0 9 rfl rfl)
theorem dX6_play_10 : decode cX6_play 10 = .ok (.aload_n 0, 1) := dk_42 (dk_at dksX6_play_0 10 rfl rfl)
theorem dX6_play_11 : decode cX6_play 11 = .ok (.getfield 66, 3) := dk_180 0 66 (dk_at dksX6_play_0 11 rfl rfl)
theorem dX6_play_14 : decode cX6_play 14 = .ok (.iconst 0, 1) := dk_3 (dk_at dksX6_play_0 14 rfl rfl)
theorem dX6_play_15 : decode cX6_play 15 = .ok (.invokevirtual 153, 3) := dk_182 0 153 (dk_at dksX6_play_0 15 rfl rfl)
theorem dX6_play_18 : decode cX6_play 18 = .ok (.astore_n 2, 1) := dk_77 (dk_at dksX6_play_0 18 rfl rfl)
theorem dX6_play_19 : decode cX6_play 19 = .ok (.aload_n 2, 1) := dk_44 (dk_at dksX6_play_0 19 rfl rfl)
theorem dX6_play_20 : decode cX6_play 20 = .ok (.getfield 151, 3) := dk_180 0 151 (dk_at dksX6_play_0 20 rfl rfl)
theorem dX6_play_23 : decode cX6_play 23 = .ok (.iconst (-1), 1) := dk_2 (dk_at dksX6_play_0 23 rfl rfl)
theorem dX6_play_24 : decode cX6_play 24 = .ok (.if_icmp .ne 9, 3) := dk_160 0 9 (dk_at dksX6_play_1 0 rfl rfl)
theorem dX6_play_27 : decode cX6_play 27 = .ok (.aload_n 0, 1) := dk_42 (dk_at dksX6_play_1 3 rfl rfl)
theorem dX6_play_28 : decode cX6_play 28 = .ok (.invokevirtual 131, 3) := dk_182 0 131 (dk_at dksX6_play_1 4 rfl rfl)
theorem dX6_play_31 : decode cX6_play 31 = .ok (.iconst (-1), 1) := dk_2 (dk_at dksX6_play_1 7 rfl rfl)
theorem dX6_play_32 : decode cX6_play 32 = .ok (.ireturn, 1) := dk_172 (dk_at dksX6_play_1 8 rfl rfl)
theorem dX6_play_33 : decode cX6_play 33 = .ok (.aload_n 0, 1) := dk_42 (dk_at dksX6_play_1 9 rfl rfl)
theorem dX6_play_34 : decode cX6_play 34 = .ok (.aload_n 2, 1) := dk_44 (dk_at dksX6_play_1 10 rfl rfl)
theorem dX6_play_35 : decode cX6_play 35 = .ok (.getfield 157, 3) := dk_180 0 157 (dk_at dksX6_play_1 11 rfl rfl)
theorem dX6_play_38 : decode cX6_play 38 = .ok (.invokevirtual 160, 3) := dk_182 0 160 (dk_at dksX6_play_1 14 rfl rfl)
theorem dX6_play_41 : decode cX6_play 41 = .ok (.istore_n 1, 1) := dk_60 (dk_at dksX6_play_1 17 rfl rfl)
theorem dX6_play_42 : decode cX6_play 42 = .ok (.aload_n 0, 1) := dk_42 (dk_at dksX6_play_1 18 rfl rfl)
theorem dX6_play_43 : decode cX6_play 43 = .ok (.invokevirtual 164, 3) := dk_182 0 164 (dk_at dksX6_play_1 19 rfl rfl)
theorem dX6_play_46 : decode cX6_play 46 = .ok (.istore_n 2, 1) := dk_61 (dk_at dksX6_play_1 22 rfl rfl)
theorem dX6_play_47 : decode cX6_play 47 = .ok (.iload_n 2, 1) := dk_28 (dk_at dksX6_play_1 23 rfl rfl)
theorem dX6_play_48 : decode cX6_play 48 = .ok (.iconst (-1), 1) := dk_2 (dk_at dksX6_play_2 0 rfl rfl)
theorem dX6_play_49 : decode cX6_play 49 = .ok (.if_icmp .ne 10, 3) := dk_160 0 10 (dk_at dksX6_play_2 1 rfl rfl)
theorem dX6_play_52 : decode cX6_play 52 = .ok (.aload_n 0, 1) := dk_42 (dk_at dksX6_play_2 4 rfl rfl)
theorem dX6_play_53 : decode cX6_play 53 = .ok (.invokevirtual 167, 3) := dk_182 0 167 (dk_at dksX6_play_2 5 rfl rfl)
theorem dX6_play_56 : decode cX6_play 56 = .ok (.goto 8, 3) := dk_167 0 8 (dk_at dksX6_play_2 8 rfl rfl)
theorem dX6_play_59 : decode cX6_play 59 = .ok (.aload_n 0, 1) := dk_42 (dk_at dksX6_play_2 11 rfl rfl)
theorem dX6_play_60 : decode cX6_play 60 = .ok (.iload_n 2, 1) := dk_28 (dk_at dksX6_play_2 12 rfl rfl)
theorem dX6_play_61 : decode cX6_play 61 = .ok (.invokevirtual 170, 3) := dk_182 0 170 (dk_at dksX6_play_2 13 rfl rfl)
theorem dX6_play_64 : decode cX6_play 64 = .ok (.istore_n 3, 1) := dk_62 (dk_at dksX6_play_2 16 rfl rfl)
theorem dX6_play_65 : decode cX6_play 65 = .ok (.iload_n 1, 1) := dk_27 (dk_at dksX6_play_2 17 rfl rfl)
theorem dX6_play_66 : decode cX6_play 66 = .ok (.ireturn, 1) := dk_172 (dk_at dksX6_play_2 18 rfl rfl)
abbrev cX6_search : ByteArray := prog_2_method_15_code
def yX6_search : MethodName := ⟨RX6, "search", "(II)LTaleDuel$Search;"⟩
def dkwX6_search_0 : List UInt8 := [187, 0, 140, 89, 42, 28, 42, 180, 0, 11, 27, 50, 182, 0, 103, 128, 183, 0, 142, 176]
abbrev dktX6_search_0 : List UInt8 := dkwX6_search_0 ++ []
theorem dksX6_search_0 : cX6_search.data.toList.drop 0 = dktX6_search_0 := by decide +kernel
theorem dX6_search_0 : decode cX6_search 0 = .ok (.new 140, 3) := dk_187 0 140 (dk_at dksX6_search_0 0 rfl rfl)
theorem dX6_search_3 : decode cX6_search 3 = .ok (.dup, 1) := dk_89 (dk_at dksX6_search_0 3 rfl rfl)
theorem dX6_search_4 : decode cX6_search 4 = .ok (.aload_n 0, 1) := dk_42 (dk_at dksX6_search_0 4 rfl rfl)
theorem dX6_search_5 : decode cX6_search 5 = .ok (.iload_n 2, 1) := dk_28 (dk_at dksX6_search_0 5 rfl rfl)
theorem dX6_search_6 : decode cX6_search 6 = .ok (.aload_n 0, 1) := dk_42 (dk_at dksX6_search_0 6 rfl rfl)
theorem dX6_search_7 : decode cX6_search 7 = .ok (.getfield 11, 3) := dk_180 0 11 (dk_at dksX6_search_0 7 rfl rfl)
theorem dX6_search_10 : decode cX6_search 10 = .ok (.iload_n 1, 1) := dk_27 (dk_at dksX6_search_0 10 rfl rfl)
theorem dX6_search_11 : decode cX6_search 11 = .ok (.aaload, 1) := dk_50 (dk_at dksX6_search_0 11 rfl rfl)
theorem dX6_search_12 : decode cX6_search 12 = .ok (.invokevirtual 103, 3) := dk_182 0 103 (dk_at dksX6_search_0 12 rfl rfl)
theorem dX6_search_15 : decode cX6_search 15 = .ok (.ior, 1) := dk_128 (dk_at dksX6_search_0 15 rfl rfl)
theorem dX6_search_16 : decode cX6_search 16 = .ok (.invokespecial 142, 3) := dk_183 0 142 (dk_at dksX6_search_0 16 rfl rfl)
theorem dX6_search_19 : decode cX6_search 19 = .ok (.areturn, 1) := dk_176 (dk_at dksX6_search_0 19 rfl rfl)
theorem q60 : (Jvm.Cond.initialized "TaleDuel$Duel") ∈ lw_all := lw_g (lw_at lw_m1 22 rfl) rfl
theorem q315 : (Jvm.Cond.selects "TaleDuel$Duel" ({ cls := "java/lang/Object", name := "getClass", desc := "()Ljava/lang/Class;" } : Jvm.MethodName) ({ cls := "java/lang/Object", name := "getClass", desc := "()Ljava/lang/Class;" } : Jvm.MethodName)) ∈ lw_all := lw_g (lw_at lw_m2 37 rfl) rfl
theorem q357 : (Jvm.Cond.instantiable "TaleDuel$Duel" (10 : Nat)) ∈ lw_all := lw_g (lw_at lw_m2 79 rfl) rfl
theorem q359 : (Jvm.Cond.instanceMethod ({ cls := "TaleDuel$Duel", name := "<init>", desc := "(LTaleDuel$Duel;[I)V" } : Jvm.MethodName)) ∈ lw_all := lw_g (lw_at lw_m2 81 rfl) rfl
theorem q360 : (Jvm.Cond.code ({ cls := "TaleDuel$Duel", name := "<init>", desc := "(LTaleDuel$Duel;[I)V" } : Jvm.MethodName) prog_2_method_2_code (4 : Nat) (Option.none : Option Jvm.ClassFile.FieldType)) ∈ lw_all := lw_g (lw_at lw_m2 82 rfl) rfl
theorem q361 : (Jvm.Cond.methodLink "TaleDuel$Duel" (3 : Nat) ({ cls := "java/lang/Object", name := "<init>", desc := "()V" } : Jvm.MethodName)) ∈ lw_all := lw_g (lw_at lw_m2 83 rfl) rfl
theorem q362 : (Jvm.Cond.classLink "TaleDuel$Duel" (9 : Nat) "TaleDuel$Teller") ∈ lw_all := lw_g (lw_at lw_m2 84 rfl) rfl
theorem q364 : (Jvm.Cond.classLink "TaleDuel$Duel" (17 : Nat) "TaleDuel$Listener") ∈ lw_all := lw_g (lw_at lw_m2 86 rfl) rfl
theorem q366 : (Jvm.Cond.classLink "TaleDuel$Duel" (23 : Nat) "TaleDuel$Store") ∈ lw_all := lw_g (lw_at lw_m2 88 rfl) rfl
theorem q368 : (Jvm.Cond.methodLink "TaleDuel$Duel" (25 : Nat) ({ cls := "TaleDuel$Store", name := "<init>", desc := "(I)V" } : Jvm.MethodName)) ∈ lw_all := lw_g (lw_at lw_m2 90 rfl) rfl
theorem q406 : (Jvm.Cond.methodLink "TaleDuel$Duel" (42 : Nat) ({ cls := "TaleDuel$Teller", name := "<init>", desc := "(LTaleDuel$Teller;)V" } : Jvm.MethodName)) ∈ lw_all := lw_g (lw_at lw_m2 128 rfl) rfl
theorem q500 : (Jvm.Cond.fieldLinkNest "TaleDuel$Duel" (113 : Nat) "TaleDuel$Teller" "score" "I" "TaleDuel") ∈ lw_tbl := lw_at lw_m2 222 rfl
theorem q503 : (Jvm.Cond.fieldLinkNest "TaleDuel$Duel" (116 : Nat) "TaleDuel$Teller" "sentences" "I" "TaleDuel") ∈ lw_tbl := lw_at lw_m2 225 rfl
theorem q506 : (Jvm.Cond.fieldLinkNest "TaleDuel$Duel" (117 : Nat) "TaleDuel$Teller" "latest" "LTaleDuel$Sentence;" "TaleDuel") ∈ lw_tbl := lw_at lw_m2 228 rfl
theorem q520 : (Jvm.Cond.methodLink "TaleDuel$Duel" (45 : Nat) ({ cls := "TaleDuel$Listener", name := "<init>", desc := "(LTaleDuel$Listener;)V" } : Jvm.MethodName)) ∈ lw_all := lw_g (lw_at lw_m3 2 rfl) rfl
theorem q533 : (Jvm.Cond.fieldLinkNest "TaleDuel$Duel" (134 : Nat) "TaleDuel$Listener" "gone" "Z" "TaleDuel") ∈ lw_tbl := lw_at lw_m3 15 rfl
theorem q546 : (Jvm.Cond.methodLink "TaleDuel$Duel" (48 : Nat) ({ cls := "TaleDuel$Store", name := "size", desc := "()I" } : Jvm.MethodName)) ∈ lw_all := lw_g (lw_at lw_m3 28 rfl) rfl
theorem q559 : (Jvm.Cond.methodLink "TaleDuel$Duel" (52 : Nat) ({ cls := "TaleDuel$Store", name := "get", desc := "(I)Ljava/lang/CharSequence;" } : Jvm.MethodName)) ∈ lw_all := lw_g (lw_at lw_m3 41 rfl) rfl
theorem q583 : (Jvm.Cond.classLink "TaleDuel$Duel" (56 : Nat) "TaleDuel$Sentence") ∈ lw_all := lw_g (lw_at lw_m3 65 rfl) rfl
theorem q584 : (Jvm.Cond.methodLink "TaleDuel$Duel" (58 : Nat) ({ cls := "TaleDuel$Store", name := "add", desc := "(Ljava/lang/CharSequence;)V" } : Jvm.MethodName)) ∈ lw_all := lw_g (lw_at lw_m3 66 rfl) rfl
theorem q876 : (Jvm.Cond.fieldLink "TaleDuel$Duel" (32 : Nat) "TaleDuel$Duel" "settings" "[I") ∈ lw_all := lw_g (lw_at lw_m4 118 rfl) rfl
theorem q877 : (Jvm.Cond.fieldLink "TaleDuel$Duel" (11 : Nat) "TaleDuel$Duel" "tellers" "[LTaleDuel$Teller;") ∈ lw_all := lw_g (lw_at lw_m4 119 rfl) rfl
theorem q879 : (Jvm.Cond.fieldLink "TaleDuel$Duel" (19 : Nat) "TaleDuel$Duel" "listeners" "[LTaleDuel$Listener;") ∈ lw_all := lw_g (lw_at lw_m4 121 rfl) rfl
theorem q882 : (Jvm.Cond.fieldLink "TaleDuel$Duel" (28 : Nat) "TaleDuel$Duel" "told" "LTaleDuel$Store;") ∈ lw_all := lw_g (lw_at lw_m4 124 rfl) rfl
theorem q884 : (Jvm.Cond.fieldLink "TaleDuel$Duel" (62 : Nat) "TaleDuel$Duel" "sentences" "I") ∈ lw_all := lw_g (lw_at lw_m4 126 rfl) rfl
theorem q886 : (Jvm.Cond.fieldLink "TaleDuel$Duel" (66 : Nat) "TaleDuel$Duel" "turn" "I") ∈ lw_all := lw_g (lw_at lw_m4 128 rfl) rfl
theorem q888 : (Jvm.Cond.fieldLink "TaleDuel$Duel" (69 : Nat) "TaleDuel$Duel" "turns" "I") ∈ lw_all := lw_g (lw_at lw_m4 130 rfl) rfl
theorem q890 : (Jvm.Cond.fieldLink "TaleDuel$Duel" (72 : Nat) "TaleDuel$Duel" "spoken" "Z") ∈ lw_all := lw_g (lw_at lw_m4 132 rfl) rfl
theorem q892 : (Jvm.Cond.fieldLink "TaleDuel$Duel" (76 : Nat) "TaleDuel$Duel" "passed" "Z") ∈ lw_all := lw_g (lw_at lw_m4 134 rfl) rfl
theorem q893 : (Jvm.Cond.fieldLink "TaleDuel$Duel" (79 : Nat) "TaleDuel$Duel" "over" "Z") ∈ lw_all := lw_g (lw_at lw_m4 135 rfl) rfl
theorem q896 : (Jvm.Cond.laysFinal "TaleDuel$Duel" "TaleDuel$Duel" "settings" "[I") ∈ lw_all := lw_g (lw_at lw_m4 138 rfl) rfl
theorem q897 : (Jvm.Cond.soleField "TaleDuel$Duel" "settings") ∈ lw_all := lw_g (lw_at lw_m4 139 rfl) rfl
theorem q898 : (Jvm.Cond.laysFinal "TaleDuel$Duel" "TaleDuel$Duel" "tellers" "[LTaleDuel$Teller;") ∈ lw_all := lw_g (lw_at lw_m4 140 rfl) rfl
theorem q899 : (Jvm.Cond.soleField "TaleDuel$Duel" "tellers") ∈ lw_all := lw_g (lw_at lw_m4 141 rfl) rfl
theorem q900 : (Jvm.Cond.laysFinal "TaleDuel$Duel" "TaleDuel$Duel" "listeners" "[LTaleDuel$Listener;") ∈ lw_all := lw_g (lw_at lw_m4 142 rfl) rfl
theorem q901 : (Jvm.Cond.soleField "TaleDuel$Duel" "listeners") ∈ lw_all := lw_g (lw_at lw_m4 143 rfl) rfl
theorem q902 : (Jvm.Cond.laysFinal "TaleDuel$Duel" "TaleDuel$Duel" "told" "LTaleDuel$Store;") ∈ lw_all := lw_g (lw_at lw_m4 144 rfl) rfl
theorem q903 : (Jvm.Cond.soleField "TaleDuel$Duel" "told") ∈ lw_all := lw_g (lw_at lw_m4 145 rfl) rfl
theorem q904 : (Jvm.Cond.lays "TaleDuel$Duel" "TaleDuel$Duel" "sentences" "I") ∈ lw_all := lw_g (lw_at lw_m4 146 rfl) rfl
theorem q905 : (Jvm.Cond.soleField "TaleDuel$Duel" "sentences") ∈ lw_all := lw_g (lw_at lw_m4 147 rfl) rfl
theorem q906 : (Jvm.Cond.lays "TaleDuel$Duel" "TaleDuel$Duel" "turn" "I") ∈ lw_all := lw_g (lw_at lw_m4 148 rfl) rfl
theorem q907 : (Jvm.Cond.soleField "TaleDuel$Duel" "turn") ∈ lw_all := lw_g (lw_at lw_m4 149 rfl) rfl
theorem q908 : (Jvm.Cond.lays "TaleDuel$Duel" "TaleDuel$Duel" "turns" "I") ∈ lw_all := lw_g (lw_at lw_m4 150 rfl) rfl
theorem q909 : (Jvm.Cond.soleField "TaleDuel$Duel" "turns") ∈ lw_all := lw_g (lw_at lw_m4 151 rfl) rfl
theorem q910 : (Jvm.Cond.lays "TaleDuel$Duel" "TaleDuel$Duel" "spoken" "Z") ∈ lw_all := lw_g (lw_at lw_m4 152 rfl) rfl
theorem q911 : (Jvm.Cond.soleField "TaleDuel$Duel" "spoken") ∈ lw_all := lw_g (lw_at lw_m4 153 rfl) rfl
theorem q912 : (Jvm.Cond.lays "TaleDuel$Duel" "TaleDuel$Duel" "passed" "Z") ∈ lw_all := lw_g (lw_at lw_m4 154 rfl) rfl
theorem q913 : (Jvm.Cond.soleField "TaleDuel$Duel" "passed") ∈ lw_all := lw_g (lw_at lw_m4 155 rfl) rfl
theorem q914 : (Jvm.Cond.lays "TaleDuel$Duel" "TaleDuel$Duel" "over" "Z") ∈ lw_all := lw_g (lw_at lw_m4 156 rfl) rfl
theorem q915 : (Jvm.Cond.soleField "TaleDuel$Duel" "over") ∈ lw_all := lw_g (lw_at lw_m4 157 rfl) rfl
theorem q916 : (Jvm.Cond.superclass "TaleDuel$Duel" "java/lang/Object") ∈ lw_all := lw_g (lw_at lw_m4 158 rfl) rfl
theorem q922 : (Jvm.Cond.instanceMethod ({ cls := "TaleDuel$Duel", name := "<init>", desc := "(J[I)V" } : Jvm.MethodName)) ∈ lw_all := lw_g (lw_at lw_m4 164 rfl) rfl
theorem q923 : (Jvm.Cond.code ({ cls := "TaleDuel$Duel", name := "<init>", desc := "(J[I)V" } : Jvm.MethodName) prog_2_method_1_code (9 : Nat) (Option.none : Option Jvm.ClassFile.FieldType)) ∈ lw_all := lw_g (lw_at lw_m4 165 rfl) rfl
theorem q924 : (Jvm.Cond.methodLink "TaleDuel$Duel" (36 : Nat) ({ cls := "TaleDuel$Teller", name := "<init>", desc := "()V" } : Jvm.MethodName)) ∈ lw_all := lw_g (lw_at lw_m4 166 rfl) rfl
theorem q927 : (Jvm.Cond.constantLong "TaleDuel$Duel" (37 : Nat) (6364136223846793005 : Int64)) ∈ lw_all := lw_g (lw_at lw_m4 169 rfl) rfl
theorem q928 : (Jvm.Cond.constantLong "TaleDuel$Duel" (39 : Nat) (1442695040888963407 : Int64)) ∈ lw_all := lw_g (lw_at lw_m4 170 rfl) rfl
theorem q929 : (Jvm.Cond.methodLink "TaleDuel$Duel" (41 : Nat) ({ cls := "TaleDuel$Listener", name := "<init>", desc := "(I)V" } : Jvm.MethodName)) ∈ lw_all := lw_g (lw_at lw_m4 171 rfl) rfl
theorem q945 : (Jvm.Cond.instanceMethod ({ cls := "TaleDuel$Duel", name := "bestBan", desc := "()I" } : Jvm.MethodName)) ∈ lw_all := lw_g (lw_at lw_m4 187 rfl) rfl
theorem q946 : (Jvm.Cond.selects "TaleDuel$Duel" ({ cls := "TaleDuel$Duel", name := "bestBan", desc := "()I" } : Jvm.MethodName) ({ cls := "TaleDuel$Duel", name := "bestBan", desc := "()I" } : Jvm.MethodName)) ∈ lw_all := lw_g (lw_at lw_m4 188 rfl) rfl
theorem q947 : (Jvm.Cond.code ({ cls := "TaleDuel$Duel", name := "bestBan", desc := "()I" } : Jvm.MethodName) prog_2_method_16_code (6 : Nat) (Option.some Jvm.ClassFile.FieldType.int)) ∈ lw_all := lw_g (lw_at lw_m4 189 rfl) rfl
theorem q948 : (Jvm.Cond.methodLink "TaleDuel$Duel" (145 : Nat) ({ cls := "TaleDuel$Duel", name := "bannable", desc := "()I" } : Jvm.MethodName)) ∈ lw_all := lw_g (lw_at lw_m4 190 rfl) rfl
theorem q949 : (Jvm.Cond.instanceMethod ({ cls := "TaleDuel$Duel", name := "bannable", desc := "()I" } : Jvm.MethodName)) ∈ lw_all := lw_g (lw_at lw_m4 191 rfl) rfl
theorem q950 : (Jvm.Cond.selects "TaleDuel$Duel" ({ cls := "TaleDuel$Duel", name := "bannable", desc := "()I" } : Jvm.MethodName) ({ cls := "TaleDuel$Duel", name := "bannable", desc := "()I" } : Jvm.MethodName)) ∈ lw_all := lw_g (lw_at lw_m4 192 rfl) rfl
theorem q951 : (Jvm.Cond.code ({ cls := "TaleDuel$Duel", name := "bannable", desc := "()I" } : Jvm.MethodName) prog_2_method_10_code (1 : Nat) (Option.some Jvm.ClassFile.FieldType.int)) ∈ lw_all := lw_g (lw_at lw_m4 193 rfl) rfl
theorem q952 : (Jvm.Cond.methodLink "TaleDuel$Duel" (121 : Nat) ({ cls := "TaleDuel$Duel", name := "other", desc := "()LTaleDuel$Teller;" } : Jvm.MethodName)) ∈ lw_all := lw_g (lw_at lw_m4 194 rfl) rfl
theorem q953 : (Jvm.Cond.instanceMethod ({ cls := "TaleDuel$Duel", name := "other", desc := "()LTaleDuel$Teller;" } : Jvm.MethodName)) ∈ lw_all := lw_g (lw_at lw_m4 195 rfl) rfl
theorem q954 : (Jvm.Cond.selects "TaleDuel$Duel" ({ cls := "TaleDuel$Duel", name := "other", desc := "()LTaleDuel$Teller;" } : Jvm.MethodName) ({ cls := "TaleDuel$Duel", name := "other", desc := "()LTaleDuel$Teller;" } : Jvm.MethodName)) ∈ lw_all := lw_g (lw_at lw_m4 196 rfl) rfl
theorem q955 : (Jvm.Cond.code ({ cls := "TaleDuel$Duel", name := "other", desc := "()LTaleDuel$Teller;" } : Jvm.MethodName) prog_2_method_4_code (1 : Nat) (Option.some (Jvm.ClassFile.FieldType.object "TaleDuel$Teller"))) ∈ lw_all := lw_g (lw_at lw_m4 197 rfl) rfl
theorem q956 : (Jvm.Cond.methodLink "TaleDuel$Duel" (124 : Nat) ({ cls := "TaleDuel$Teller", name := "latestWords", desc := "()I" } : Jvm.MethodName)) ∈ lw_all := lw_g (lw_at lw_m4 198 rfl) rfl
theorem q968 : (Jvm.Cond.methodLink "TaleDuel$Duel" (103 : Nat) ({ cls := "TaleDuel$Teller", name := "bans", desc := "()I" } : Jvm.MethodName)) ∈ lw_all := lw_g (lw_at lw_m4 210 rfl) rfl
theorem q976 : (Jvm.Cond.methodLinkNest "TaleDuel$Duel" (92 : Nat) ({ cls := "TaleDuel", name := "has", desc := "(II)Z" } : Jvm.MethodName) "TaleDuel") ∈ lw_tbl := lw_at lw_m4 218 rfl
theorem q977 : (Jvm.Cond.methodLink "TaleDuel$Duel" (148 : Nat) ({ cls := "TaleDuel$Duel", name := "behindBan", desc := "(I)I" } : Jvm.MethodName)) ∈ lw_all := lw_g (lw_at lw_m4 219 rfl) rfl
theorem q978 : (Jvm.Cond.privateMethod ({ cls := "TaleDuel$Duel", name := "behindBan", desc := "(I)I" } : Jvm.MethodName)) ∈ lw_tbl := lw_at lw_m4 220 rfl
theorem q979 : (Jvm.Cond.instanceMethod ({ cls := "TaleDuel$Duel", name := "behindBan", desc := "(I)I" } : Jvm.MethodName)) ∈ lw_all := lw_g (lw_at lw_m4 221 rfl) rfl
theorem q980 : (Jvm.Cond.code ({ cls := "TaleDuel$Duel", name := "behindBan", desc := "(I)I" } : Jvm.MethodName) prog_2_method_17_code (4 : Nat) (Option.some Jvm.ClassFile.FieldType.int)) ∈ lw_all := lw_g (lw_at lw_m4 222 rfl) rfl
theorem q981 : (Jvm.Cond.methodLink "TaleDuel$Duel" (127 : Nat) ({ cls := "TaleDuel$Teller", name := "forbid", desc := "(II)I" } : Jvm.MethodName)) ∈ lw_all := lw_g (lw_at lw_m4 223 rfl) rfl
theorem q1009 : (Jvm.Cond.classLink "TaleDuel$Duel" (140 : Nat) "TaleDuel$Search") ∈ lw_all := lw_g (lw_at lw_m5 11 rfl) rfl
theorem q1011 : (Jvm.Cond.methodLink "TaleDuel$Duel" (142 : Nat) ({ cls := "TaleDuel$Search", name := "<init>", desc := "(LTaleDuel$Duel;I)V" } : Jvm.MethodName)) ∈ lw_all := lw_g (lw_at lw_m5 13 rfl) rfl
theorem q1016 : (Jvm.Cond.instanceMethod ({ cls := "TaleDuel$Duel", name := "memory", desc := "()I" } : Jvm.MethodName)) ∈ lw_all := lw_g (lw_at lw_m5 18 rfl) rfl
theorem q1017 : (Jvm.Cond.selects "TaleDuel$Duel" ({ cls := "TaleDuel$Duel", name := "memory", desc := "()I" } : Jvm.MethodName) ({ cls := "TaleDuel$Duel", name := "memory", desc := "()I" } : Jvm.MethodName)) ∈ lw_all := lw_g (lw_at lw_m5 19 rfl) rfl
theorem q1018 : (Jvm.Cond.code ({ cls := "TaleDuel$Duel", name := "memory", desc := "()I" } : Jvm.MethodName) prog_2_method_5_code (3 : Nat) (Option.some Jvm.ClassFile.FieldType.int)) ∈ lw_all := lw_g (lw_at lw_m5 20 rfl) rfl
theorem q1019 : (Jvm.Cond.methodLink "TaleDuel$Duel" (82 : Nat) ({ cls := "TaleDuel$Sentence", name := "set", desc := "()I" } : Jvm.MethodName)) ∈ lw_all := lw_g (lw_at lw_m5 21 rfl) rfl
theorem q1021 : (Jvm.Cond.privateMethod ({ cls := "TaleDuel$Duel", name := "worth", desc := "(II)I" } : Jvm.MethodName)) ∈ lw_tbl := lw_at lw_m5 23 rfl
theorem q1022 : (Jvm.Cond.instanceMethod ({ cls := "TaleDuel$Duel", name := "worth", desc := "(II)I" } : Jvm.MethodName)) ∈ lw_all := lw_g (lw_at lw_m5 24 rfl) rfl
theorem q1023 : (Jvm.Cond.code ({ cls := "TaleDuel$Duel", name := "worth", desc := "(II)I" } : Jvm.MethodName) prog_2_method_7_code (8 : Nat) (Option.some Jvm.ClassFile.FieldType.int)) ∈ lw_all := lw_g (lw_at lw_m5 25 rfl) rfl
theorem q1024 : (Jvm.Cond.methodLink "TaleDuel$Duel" (88 : Nat) ({ cls := "TaleDuel$Listener", name := "gives", desc := "(I)I" } : Jvm.MethodName)) ∈ lw_all := lw_g (lw_at lw_m5 26 rfl) rfl
theorem q1054 : (Jvm.Cond.fieldLinkNest "TaleDuel$Duel" (151 : Nat) "TaleDuel$Search" "points" "I" "TaleDuel") ∈ lw_tbl := lw_at lw_m5 56 rfl
theorem q1057 : (Jvm.Cond.fieldLinkNest "TaleDuel$Duel" (157 : Nat) "TaleDuel$Search" "best" "LTaleDuel$Sentence;" "TaleDuel") ∈ lw_tbl := lw_at lw_m5 59 rfl
theorem q1116 : (Jvm.Cond.privateMethod ({ cls := "TaleDuel$Duel", name := "there", desc := "()I" } : Jvm.MethodName)) ∈ lw_tbl := lw_at lw_m5 118 rfl
theorem q1117 : (Jvm.Cond.instanceMethod ({ cls := "TaleDuel$Duel", name := "there", desc := "()I" } : Jvm.MethodName)) ∈ lw_all := lw_g (lw_at lw_m5 119 rfl) rfl
theorem q1118 : (Jvm.Cond.code ({ cls := "TaleDuel$Duel", name := "there", desc := "()I" } : Jvm.MethodName) prog_2_method_12_code (3 : Nat) (Option.some Jvm.ClassFile.FieldType.int)) ∈ lw_all := lw_g (lw_at lw_m5 120 rfl) rfl
theorem q1217 : (Jvm.Cond.instanceMethod ({ cls := "TaleDuel$Duel", name := "canTell", desc := "(LTaleDuel$Sentence;)Z" } : Jvm.MethodName)) ∈ lw_all := lw_g (lw_at lw_m5 219 rfl) rfl
theorem q1218 : (Jvm.Cond.selects "TaleDuel$Duel" ({ cls := "TaleDuel$Duel", name := "canTell", desc := "(LTaleDuel$Sentence;)Z" } : Jvm.MethodName) ({ cls := "TaleDuel$Duel", name := "canTell", desc := "(LTaleDuel$Sentence;)Z" } : Jvm.MethodName)) ∈ lw_all := lw_g (lw_at lw_m5 220 rfl) rfl
theorem q1219 : (Jvm.Cond.code ({ cls := "TaleDuel$Duel", name := "canTell", desc := "(LTaleDuel$Sentence;)Z" } : Jvm.MethodName) prog_2_method_8_code (2 : Nat) (Option.some Jvm.ClassFile.FieldType.boolean)) ∈ lw_all := lw_g (lw_at lw_m5 221 rfl) rfl
theorem q1220 : (Jvm.Cond.methodLink "TaleDuel$Duel" (96 : Nat) ({ cls := "TaleDuel$Sentence", name := "error", desc := "()I" } : Jvm.MethodName)) ∈ lw_all := lw_g (lw_at lw_m5 222 rfl) rfl
theorem q1221 : (Jvm.Cond.methodLink "TaleDuel$Duel" (99 : Nat) ({ cls := "TaleDuel$Duel", name := "mover", desc := "()LTaleDuel$Teller;" } : Jvm.MethodName)) ∈ lw_all := lw_g (lw_at lw_m5 223 rfl) rfl
theorem q1222 : (Jvm.Cond.instanceMethod ({ cls := "TaleDuel$Duel", name := "mover", desc := "()LTaleDuel$Teller;" } : Jvm.MethodName)) ∈ lw_all := lw_g (lw_at lw_m5 224 rfl) rfl
theorem q1223 : (Jvm.Cond.selects "TaleDuel$Duel" ({ cls := "TaleDuel$Duel", name := "mover", desc := "()LTaleDuel$Teller;" } : Jvm.MethodName) ({ cls := "TaleDuel$Duel", name := "mover", desc := "()LTaleDuel$Teller;" } : Jvm.MethodName)) ∈ lw_all := lw_g (lw_at lw_m5 225 rfl) rfl
theorem q1224 : (Jvm.Cond.code ({ cls := "TaleDuel$Duel", name := "mover", desc := "()LTaleDuel$Teller;" } : Jvm.MethodName) prog_2_method_3_code (1 : Nat) (Option.some (Jvm.ClassFile.FieldType.object "TaleDuel$Teller"))) ∈ lw_all := lw_g (lw_at lw_m5 226 rfl) rfl
theorem q1233 : (Jvm.Cond.instanceMethod ({ cls := "TaleDuel$Duel", name := "tell", desc := "(LTaleDuel$Sentence;)I" } : Jvm.MethodName)) ∈ lw_all := lw_g (lw_at lw_m5 235 rfl) rfl
theorem q1234 : (Jvm.Cond.selects "TaleDuel$Duel" ({ cls := "TaleDuel$Duel", name := "tell", desc := "(LTaleDuel$Sentence;)I" } : Jvm.MethodName) ({ cls := "TaleDuel$Duel", name := "tell", desc := "(LTaleDuel$Sentence;)I" } : Jvm.MethodName)) ∈ lw_all := lw_g (lw_at lw_m5 236 rfl) rfl
theorem q1235 : (Jvm.Cond.code ({ cls := "TaleDuel$Duel", name := "tell", desc := "(LTaleDuel$Sentence;)I" } : Jvm.MethodName) prog_2_method_9_code (9 : Nat) (Option.some Jvm.ClassFile.FieldType.int)) ∈ lw_all := lw_g (lw_at lw_m5 237 rfl) rfl
theorem q1236 : (Jvm.Cond.methodLink "TaleDuel$Duel" (106 : Nat) ({ cls := "TaleDuel$Duel", name := "points", desc := "(I)I" } : Jvm.MethodName)) ∈ lw_all := lw_g (lw_at lw_m5 238 rfl) rfl
theorem q1237 : (Jvm.Cond.instanceMethod ({ cls := "TaleDuel$Duel", name := "points", desc := "(I)I" } : Jvm.MethodName)) ∈ lw_all := lw_g (lw_at lw_m5 239 rfl) rfl
theorem q1238 : (Jvm.Cond.selects "TaleDuel$Duel" ({ cls := "TaleDuel$Duel", name := "points", desc := "(I)I" } : Jvm.MethodName) ({ cls := "TaleDuel$Duel", name := "points", desc := "(I)I" } : Jvm.MethodName)) ∈ lw_all := lw_g (lw_at lw_m6 0 rfl) rfl
theorem q1239 : (Jvm.Cond.code ({ cls := "TaleDuel$Duel", name := "points", desc := "(I)I" } : Jvm.MethodName) prog_2_method_6_code (8 : Nat) (Option.some Jvm.ClassFile.FieldType.int)) ∈ lw_all := lw_g (lw_at lw_m6 1 rfl) rfl
theorem q1240 : (Jvm.Cond.methodLink "TaleDuel$Duel" (85 : Nat) ({ cls := "TaleDuel$Duel", name := "memory", desc := "()I" } : Jvm.MethodName)) ∈ lw_all := lw_g (lw_at lw_m6 2 rfl) rfl
theorem q1241 : (Jvm.Cond.methodLink "TaleDuel$Duel" (109 : Nat) ({ cls := "TaleDuel$Listener", name := "hear", desc := "(II)V" } : Jvm.MethodName)) ∈ lw_all := lw_g (lw_at lw_m6 3 rfl) rfl
theorem q1264 : (Jvm.Cond.instanceMethod ({ cls := "TaleDuel$Duel", name := "forbid", desc := "(I)I" } : Jvm.MethodName)) ∈ lw_all := lw_g (lw_at lw_m6 26 rfl) rfl
theorem q1265 : (Jvm.Cond.selects "TaleDuel$Duel" ({ cls := "TaleDuel$Duel", name := "forbid", desc := "(I)I" } : Jvm.MethodName) ({ cls := "TaleDuel$Duel", name := "forbid", desc := "(I)I" } : Jvm.MethodName)) ∈ lw_all := lw_g (lw_at lw_m6 27 rfl) rfl
theorem q1266 : (Jvm.Cond.code ({ cls := "TaleDuel$Duel", name := "forbid", desc := "(I)I" } : Jvm.MethodName) prog_2_method_11_code (3 : Nat) (Option.some Jvm.ClassFile.FieldType.int)) ∈ lw_all := lw_g (lw_at lw_m6 28 rfl) rfl
theorem q1267 : (Jvm.Cond.methodLink "TaleDuel$Duel" (131 : Nat) ({ cls := "TaleDuel$Duel", name := "end", desc := "()V" } : Jvm.MethodName)) ∈ lw_all := lw_g (lw_at lw_m6 29 rfl) rfl
theorem q1268 : (Jvm.Cond.privateMethod ({ cls := "TaleDuel$Duel", name := "end", desc := "()V" } : Jvm.MethodName)) ∈ lw_tbl := lw_at lw_m6 30 rfl
theorem q1269 : (Jvm.Cond.instanceMethod ({ cls := "TaleDuel$Duel", name := "end", desc := "()V" } : Jvm.MethodName)) ∈ lw_all := lw_g (lw_at lw_m6 31 rfl) rfl
theorem q1270 : (Jvm.Cond.code ({ cls := "TaleDuel$Duel", name := "end", desc := "()V" } : Jvm.MethodName) prog_2_method_13_code (1 : Nat) (Option.none : Option Jvm.ClassFile.FieldType)) ∈ lw_all := lw_g (lw_at lw_m6 32 rfl) rfl
theorem q1271 : (Jvm.Cond.methodLink "TaleDuel$Duel" (137 : Nat) ({ cls := "TaleDuel$Duel", name := "there", desc := "()I" } : Jvm.MethodName)) ∈ lw_all := lw_g (lw_at lw_m6 33 rfl) rfl
theorem q1280 : (Jvm.Cond.instanceMethod ({ cls := "TaleDuel$Duel", name := "done", desc := "()I" } : Jvm.MethodName)) ∈ lw_all := lw_g (lw_at lw_m6 42 rfl) rfl
theorem q1281 : (Jvm.Cond.selects "TaleDuel$Duel" ({ cls := "TaleDuel$Duel", name := "done", desc := "()I" } : Jvm.MethodName) ({ cls := "TaleDuel$Duel", name := "done", desc := "()I" } : Jvm.MethodName)) ∈ lw_all := lw_g (lw_at lw_m6 43 rfl) rfl
theorem q1282 : (Jvm.Cond.code ({ cls := "TaleDuel$Duel", name := "done", desc := "()I" } : Jvm.MethodName) prog_2_method_14_code (1 : Nat) (Option.some Jvm.ClassFile.FieldType.int)) ∈ lw_all := lw_g (lw_at lw_m6 44 rfl) rfl
theorem q1291 : (Jvm.Cond.instanceMethod ({ cls := "TaleDuel$Duel", name := "play", desc := "()I" } : Jvm.MethodName)) ∈ lw_all := lw_g (lw_at lw_m6 53 rfl) rfl
theorem q1292 : (Jvm.Cond.selects "TaleDuel$Duel" ({ cls := "TaleDuel$Duel", name := "play", desc := "()I" } : Jvm.MethodName) ({ cls := "TaleDuel$Duel", name := "play", desc := "()I" } : Jvm.MethodName)) ∈ lw_all := lw_g (lw_at lw_m6 54 rfl) rfl
theorem q1293 : (Jvm.Cond.code ({ cls := "TaleDuel$Duel", name := "play", desc := "()I" } : Jvm.MethodName) prog_2_method_18_code (4 : Nat) (Option.some Jvm.ClassFile.FieldType.int)) ∈ lw_all := lw_g (lw_at lw_m6 55 rfl) rfl
theorem q1294 : (Jvm.Cond.methodLink "TaleDuel$Duel" (153 : Nat) ({ cls := "TaleDuel$Duel", name := "search", desc := "(II)LTaleDuel$Search;" } : Jvm.MethodName)) ∈ lw_all := lw_g (lw_at lw_m6 56 rfl) rfl
theorem q1295 : (Jvm.Cond.instanceMethod ({ cls := "TaleDuel$Duel", name := "search", desc := "(II)LTaleDuel$Search;" } : Jvm.MethodName)) ∈ lw_all := lw_g (lw_at lw_m6 57 rfl) rfl
theorem q1296 : (Jvm.Cond.selects "TaleDuel$Duel" ({ cls := "TaleDuel$Duel", name := "search", desc := "(II)LTaleDuel$Search;" } : Jvm.MethodName) ({ cls := "TaleDuel$Duel", name := "search", desc := "(II)LTaleDuel$Search;" } : Jvm.MethodName)) ∈ lw_all := lw_g (lw_at lw_m6 58 rfl) rfl
theorem q1297 : (Jvm.Cond.code ({ cls := "TaleDuel$Duel", name := "search", desc := "(II)LTaleDuel$Search;" } : Jvm.MethodName) prog_2_method_15_code (3 : Nat) (Option.some (Jvm.ClassFile.FieldType.object "TaleDuel$Search"))) ∈ lw_all := lw_g (lw_at lw_m6 59 rfl) rfl
theorem q1298 : (Jvm.Cond.methodLink "TaleDuel$Duel" (160 : Nat) ({ cls := "TaleDuel$Duel", name := "tell", desc := "(LTaleDuel$Sentence;)I" } : Jvm.MethodName)) ∈ lw_all := lw_g (lw_at lw_m6 60 rfl) rfl
theorem q1299 : (Jvm.Cond.methodLink "TaleDuel$Duel" (164 : Nat) ({ cls := "TaleDuel$Duel", name := "bestBan", desc := "()I" } : Jvm.MethodName)) ∈ lw_all := lw_g (lw_at lw_m6 61 rfl) rfl
theorem q1300 : (Jvm.Cond.methodLink "TaleDuel$Duel" (167 : Nat) ({ cls := "TaleDuel$Duel", name := "done", desc := "()I" } : Jvm.MethodName)) ∈ lw_all := lw_g (lw_at lw_m6 62 rfl) rfl
theorem q1301 : (Jvm.Cond.methodLink "TaleDuel$Duel" (170 : Nat) ({ cls := "TaleDuel$Duel", name := "forbid", desc := "(I)I" } : Jvm.MethodName)) ∈ lw_all := lw_g (lw_at lw_m6 63 rfl) rfl
theorem q1794 : (Jvm.Cond.castable "TaleDuel$Duel" "java/lang/Object") ∈ lw_tbl := lw_at lw_m8 76 rfl
theorem in_X6 : ∀ w ∈ wsX60, w ∈ lw_all := lw_in wsX60 [896, 898, 900, 902, 904, 906, 908, 910, 912, 914] (by decide +kernel) (by decide +kernel)
