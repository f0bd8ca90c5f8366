/-! NutCaches$Reader -/
set_option maxRecDepth 100000
def RX3 : String := "NutCaches$Reader"
def TX3 : u_T := fun k => match k with
  | 0 => ("NutCaches$Reader", "here", "I", false)
  | 1 => ("NutCaches$Reader", "first", "I", false)
  | 2 => ("NutCaches$Reader", "word", "Ljava/lang/String;", false)
  | 3 => ("NutCaches$Reader", "there", "I", false)
  | 4 => ("NutCaches$Reader", "dug", "I", false)
  | 5 => ("NutCaches$Reader", "clauses", "[[I", true)
  | 6 => ("NutCaches$Reader", "read", "I", false)
  | _ => ("NutCaches$Reader", "this$0", "LNutCaches;", true)
def tyX3 : Nat → FieldType := fun k => match k with
  | 0 => .int
  | 1 => .int
  | 2 => .object "java/lang/String"
  | 3 => .int
  | 4 => .int
  | 5 => .array (.array .int)
  | 6 => .int
  | _ => .object "NutCaches"
abbrev wsX30 : List Cond := u_ws RX3 TX3 8
theorem nmX3 : ∀ a, a < 8 → ∀ b, b < 8 → a ≠ b → (TX3 a).2.1 ≠ (TX3 b).2.1 := by decide +kernel
theorem tyX3_ok : ∀ k, k < 8 → parseFieldDescriptor (TX3 k).2.2.1 = some (tyX3 k) := by decide +kernel
abbrev cX3_init : ByteArray := prog_8_method_1_code
def yX3_init : MethodName := ⟨RX3, "<init>", "(LNutCaches;)V"⟩
def dkwX3_init_2 : List UInt8 := [181, 0, 42, 177]
abbrev dktX3_init_2 : List UInt8 := dkwX3_init_2 ++ []
def dkwX3_init_1 : List UInt8 := [181, 0, 25, 42, 42, 180, 0, 3, 180, 0, 28, 180, 0, 32, 181, 0, 37, 42, 16, 24, 189, 0, 40]
abbrev dktX3_init_1 : List UInt8 := dkwX3_init_1 ++ dktX3_init_2
def dkwX3_init_0 : List UInt8 := [42, 43, 181, 0, 3, 42, 183, 0, 9, 42, 18, 15, 181, 0, 17, 42, 42, 180, 0, 3, 180, 0, 21]
abbrev dktX3_init_0 : List UInt8 := dkwX3_init_0 ++ dktX3_init_1
theorem dksX3_init_0 : cX3_init.data.toList.drop 0 = dktX3_init_0 := by decide +kernel
theorem dksX3_init_1 : cX3_init.data.toList.drop 23 = dktX3_init_1 := dk_seg dksX3_init_0 23 rfl rfl
theorem dksX3_init_2 : cX3_init.data.toList.drop 46 = dktX3_init_2 := dk_seg dksX3_init_1 23 rfl rfl
theorem dX3_init_0 : decode cX3_init 0 = .ok (.aload_n 0, 1) := dk_42 (dk_at dksX3_init_0 0 rfl rfl)
theorem dX3_init_1 : decode cX3_init 1 = .ok (.aload_n 1, 1) := dk_43 (dk_at dksX3_init_0 1 rfl rfl)
theorem dX3_init_2 : decode cX3_init 2 = .ok (.putfield 3, 3) := dk_181 0 3 (dk_at dksX3_init_0 2 rfl rfl)
theorem dX3_init_5 : decode cX3_init 5 = .ok (.aload_n 0, 1) := dk_42 (dk_at dksX3_init_0 5 rfl rfl)
theorem dX3_init_6 : decode cX3_init 6 = .ok (.invokespecial 9, 3) := dk_183 0 9 (dk_at dksX3_init_0 6 rfl rfl)
theorem dX3_init_9 : decode cX3_init 9 = .ok (.aload_n 0, 1) := dk_42 (dk_at dksX3_init_0 9 rfl rfl)
theorem dX3_init_10 : decode cX3_init 10 = .ok (.ldc 15, 2) := dk_18 15 (dk_at dksX3_init_0 10 rfl rfl)
theorem dX3_init_12 : decode cX3_init 12 = .ok (.putfield 17, 3) := dk_181 0 17 (dk_at dksX3_init_0 12 rfl rfl)
theorem dX3_init_15 : decode cX3_init 15 = .ok (.aload_n 0, 1) := dk_42 (dk_at dksX3_init_0 15 rfl rfl)
theorem dX3_init_16 : decode cX3_init 16 = .ok (.aload_n 0, 1) := dk_42 (dk_at dksX3_init_0 16 rfl rfl)
theorem dX3_init_17 : decode cX3_init 17 = .ok (.getfield 3, 3) := dk_180 0 3 (dk_at dksX3_init_0 17 rfl rfl)
theorem dX3_init_20 : decode cX3_init 20 = .ok (.getfield 21, 3) := dk_180 0 21 (dk_at dksX3_init_0 20 rfl rfl)
theorem dX3_init_23 : decode cX3_init 23 = .ok (.putfield 25, 3) := dk_181 0 25 (dk_at dksX3_init_1 0 rfl rfl)
theorem dX3_init_26 : decode cX3_init 26 = .ok (.aload_n 0, 1) := dk_42 (dk_at dksX3_init_1 3 rfl rfl)
theorem dX3_init_27 : decode cX3_init 27 = .ok (.aload_n 0, 1) := dk_42 (dk_at dksX3_init_1 4 rfl rfl)
theorem dX3_init_28 : decode cX3_init 28 = .ok (.getfield 3, 3) := dk_180 0 3 (dk_at dksX3_init_1 5 rfl rfl)
theorem dX3_init_31 : decode cX3_init 31 = .ok (.getfield 28, 3) := dk_180 0 28 (dk_at dksX3_init_1 8 rfl rfl)
theorem dX3_init_34 : decode cX3_init 34 = .ok (.getfield 32, 3) := dk_180 0 32 (dk_at dksX3_init_1 11 rfl rfl)
theorem dX3_init_37 : decode cX3_init 37 = .ok (.putfield 37, 3) := dk_181 0 37 (dk_at dksX3_init_1 14 rfl rfl)
theorem dX3_init_40 : decode cX3_init 40 = .ok (.aload_n 0, 1) := dk_42 (dk_at dksX3_init_1 17 rfl rfl)
theorem dX3_init_41 : decode cX3_init 41 = .ok (.bipush 24, 2) := dk_16 24 (dk_at dksX3_init_1 18 rfl rfl)
theorem dX3_init_43 : decode cX3_init 43 = .ok (.anewarray 40, 3) := dk_189 0 40 (dk_at dksX3_init_1 20 rfl rfl)
theorem dX3_init_46 : decode cX3_init 46 = .ok (.putfield 42, 3) := dk_181 0 42 (dk_at dksX3_init_2 0 rfl rfl)
theorem dX3_init_49 : decode cX3_init 49 = .ok (.return_, 1) := dk_177 (dk_at dksX3_init_2 3 rfl rfl)
abbrev cX3_read : ByteArray := prog_8_method_7_code
def yX3_read : MethodName := ⟨RX3, "read", "()LNutCaches$Reader;"⟩
def dkwX3_read_3 : List UInt8 := [182, 0, 149, 153, 0, 7, 4, 167, 0, 4, 3, 182, 0, 106, 167, 255, 175, 42, 176]
abbrev dktX3_read_3 : List UInt8 := dkwX3_read_3 ++ []
def dkwX3_read_2 : List UInt8 := [180, 0, 136, 16, 24, 162, 0, 7, 4, 167, 0, 4, 3, 60, 42, 27, 154, 0, 13, 42, 180, 0, 17]
abbrev dktX3_read_2 : List UInt8 := dkwX3_read_2 ++ dktX3_read_3
def dkwX3_read_1 : List UInt8 := [4, 96, 181, 0, 136, 42, 182, 0, 91, 42, 180, 0, 17, 18, 143, 182, 0, 145, 153, 0, 16, 42]
abbrev dktX3_read_1 : List UInt8 := dkwX3_read_1 ++ dktX3_read_2
def dkwX3_read_0 : List UInt8 := [4, 60, 27, 153, 0, 83, 42, 180, 0, 42, 42, 180, 0, 136, 42, 182, 0, 139, 83, 42, 89, 180, 0, 136]
abbrev dktX3_read_0 : List UInt8 := dkwX3_read_0 ++ dktX3_read_1
theorem dksX3_read_0 : cX3_read.data.toList.drop 0 = dktX3_read_0 := by decide +kernel
theorem dksX3_read_1 : cX3_read.data.toList.drop 24 = dktX3_read_1 := dk_seg dksX3_read_0 24 rfl rfl
theorem dksX3_read_2 : cX3_read.data.toList.drop 46 = dktX3_read_2 := dk_seg dksX3_read_1 22 rfl rfl
theorem dksX3_read_3 : cX3_read.data.toList.drop 69 = dktX3_read_3 := dk_seg dksX3_read_2 23 rfl rfl
theorem dX3_read_0 : decode cX3_read 0 = .ok (.iconst 1, 1) := dk_4 (dk_at dksX3_read_0 0 rfl rfl)
theorem dX3_read_1 : decode cX3_read 1 = .ok (.istore_n 1, 1) := dk_60 (dk_at dksX3_read_0 1 rfl rfl)
theorem dX3_read_2 : decode cX3_read 2 = .ok (.iload_n 1, 1) := dk_27 (dk_at dksX3_read_0 2 rfl rfl)
theorem dX3_read_3 : decode cX3_read 3 = .ok (.ifCond .eq 83, 3) := dk_153 0 83 (dk_at dksX3_read_0 3 rfl rfl)
theorem dX3_read_6 : decode cX3_read 6 = .ok (.aload_n 0, 1) := dk_42 (dk_at dksX3_read_0 6 rfl rfl)
theorem dX3_read_7 : decode cX3_read 7 = .ok (.getfield 42, 3) := dk_180 0 42 (dk_at dksX3_read_0 7 rfl rfl)
theorem dX3_read_10 : decode cX3_read 10 = .ok (.aload_n 0, 1) := dk_42 (dk_at dksX3_read_0 10 rfl rfl)
theorem dX3_read_11 : decode cX3_read 11 = .ok (.getfield 136, 3) := dk_180 0 136 (dk_at dksX3_read_0 11 rfl rfl)
theorem dX3_read_14 : decode cX3_read 14 = .ok (.aload_n 0, 1) := dk_42 (dk_at dksX3_read_0 14 rfl rfl)
theorem dX3_read_15 : decode cX3_read 15 = .ok (.invokevirtual 139, 3) := dk_182 0 139 (dk_at dksX3_read_0 15 rfl rfl)
theorem dX3_read_18 : decode cX3_read 18 = .ok (.aastore, 1) := dk_83 (dk_at dksX3_read_0 18 rfl rfl)
theorem dX3_read_19 : decode cX3_read 19 = .ok (.aload_n 0, 1) := dk_42 (dk_at dksX3_read_0 19 rfl rfl)
theorem dX3_read_20 : decode cX3_read 20 = .ok (.dup, 1) := dk_89 (dk_at dksX3_read_0 20 rfl rfl)
theorem dX3_read_21 : decode cX3_read 21 = .ok (.getfield 136, 3) := dk_180 0 136 (dk_at dksX3_read_0 21 rfl rfl)
theorem dX3_read_24 : decode cX3_read 24 = .ok (.iconst 1, 1) := dk_4 (dk_at dksX3_read_1 0 rfl rfl)
theorem dX3_read_25 : decode cX3_read 25 = .ok (.iadd, 1) := dk_96 (dk_at dksX3_read_1 1 rfl rfl)
theorem dX3_read_26 : decode cX3_read 26 = .ok (.putfield 136, 3) := dk_181 0 136 (dk_at dksX3_read_1 2 rfl rfl)
theorem dX3_read_29 : decode cX3_read 29 = .ok (.aload_n 0, 1) := dk_42 (dk_at dksX3_read_1 5 rfl rfl)
theorem dX3_read_30 : decode cX3_read 30 = .ok (.invokevirtual 91, 3) := dk_182 0 91 (dk_at dksX3_read_1 6 rfl rfl)
theorem dX3_read_33 : decode cX3_read 33 = .ok (.aload_n 0, 1) := dk_42 (dk_at dksX3_read_1 9 rfl rfl)
theorem dX3_read_34 : decode cX3_read 34 = .ok (.getfield 17, 3) := dk_180 0 17 (dk_at dksX3_read_1 10 rfl rfl)
theorem dX3_read_37 : decode cX3_read 37 = .ok (.ldc 143, 2) := dk_18 143 (dk_at dksX3_read_1 13 rfl rfl)
theorem dX3_read_39 : decode cX3_read 39 = .ok (.invokevirtual 145, 3) := dk_182 0 145 (dk_at dksX3_read_1 15 rfl rfl)
theorem dX3_read_42 : decode cX3_read 42 = .ok (.ifCond .eq 16, 3) := dk_153 0 16 (dk_at dksX3_read_1 18 rfl rfl)
theorem dX3_read_45 : decode cX3_read 45 = .ok (.aload_n 0, 1) := dk_42 (dk_at dksX3_read_1 21 rfl rfl)
theorem dX3_read_46 : decode cX3_read 46 = .ok (.getfield 136, 3) := dk_180 0 136 (dk_at dksX3_read_2 0 rfl rfl)
theorem dX3_read_49 : decode cX3_read 49 = .ok (.bipush 24, 2) := dk_16 24 (dk_at dksX3_read_2 3 rfl rfl)
theorem dX3_read_51 : decode cX3_read 51 = .ok (.if_icmp .ge 7, 3) := dk_162 0 7 (dk_at dksX3_read_2 5 rfl rfl)
theorem dX3_read_54 : decode cX3_read 54 = .ok (.iconst 1, 1) := dk_4 (dk_at dksX3_read_2 8 rfl rfl)
theorem dX3_read_55 : decode cX3_read 55 = .ok (.goto 4, 3) := dk_167 0 4 (dk_at dksX3_read_2 9 rfl rfl)
theorem dX3_read_58 : decode cX3_read 58 = .ok (.iconst 0, 1) := dk_3 (dk_at dksX3_read_2 12 rfl rfl)
theorem dX3_read_59 : decode cX3_read 59 = .ok (.istore_n 1, 1) := dk_60 (dk_at dksX3_read_2 13 rfl rfl)
theorem dX3_read_60 : decode cX3_read 60 = .ok (.aload_n 0, 1) := dk_42 (dk_at dksX3_read_2 14 rfl rfl)
theorem dX3_read_61 : decode cX3_read 61 = .ok (.iload_n 1, 1) := dk_27 (dk_at dksX3_read_2 15 rfl rfl)
theorem dX3_read_62 : decode cX3_read 62 = .ok (.ifCond .ne 13, 3) := dk_154 0 13 (dk_at dksX3_read_2 16 rfl rfl)
theorem dX3_read_65 : decode cX3_read 65 = .ok (.aload_n 0, 1) := dk_42 (dk_at dksX3_read_2 19 rfl rfl)
theorem dX3_read_66 : decode cX3_read 66 = .ok (.getfield 17, 3) := dk_180 0 17 (dk_at dksX3_read_2 20 rfl rfl)
theorem dX3_read_69 : decode cX3_read 69 = .ok (.invokevirtual 149, 3) := dk_182 0 149 (dk_at dksX3_read_3 0 rfl rfl)
theorem dX3_read_72 : decode cX3_read 72 = .ok (.ifCond .eq 7, 3) := dk_153 0 7 (dk_at dksX3_read_3 3 rfl rfl)
theorem dX3_read_75 : decode cX3_read 75 = .ok (.iconst 1, 1) := dk_4 (dk_at dksX3_read_3 6 rfl rfl)
theorem dX3_read_76 : decode cX3_read 76 = .ok (.goto 4, 3) := dk_167 0 4 (dk_at dksX3_read_3 7 rfl rfl)
theorem dX3_read_79 : decode cX3_read 79 = .ok (.iconst 0, 1) := dk_3 (dk_at dksX3_read_3 10 rfl rfl)
theorem dX3_read_80 : decode cX3_read 80 = .ok (.invokevirtual 106, 3) := dk_182 0 106 (dk_at dksX3_read_3 11 rfl rfl)
theorem dX3_read_83 : decode cX3_read 83 = .ok (.goto (-81), 3) := dk_167 255 175 (dk_at dksX3_read_3 14 rfl rfl)
theorem dX3_read_86 : decode cX3_read 86 = .ok (.aload_n 0, 1) := dk_42 (dk_at dksX3_read_3 17 rfl rfl)
theorem dX3_read_87 : decode cX3_read 87 = .ok (.areturn, 1) := dk_176 (dk_at dksX3_read_3 18 rfl rfl)
abbrev cX3_clause : ByteArray := prog_8_method_6_code
def yX3_clause : MethodName := ⟨RX3, "clause", "()[I"⟩
def dkwX3_clause_9 : List UInt8 := [79, 89, 5, 42, 4, 16, 9, 182, 0, 132, 79, 176]
abbrev dktX3_clause_9 : List UInt8 := dkwX3_clause_9 ++ []
def dkwX3_clause_8 : List UInt8 := [180, 0, 25, 4, 96, 181, 0, 25, 6, 188, 10, 89, 3, 27, 79, 89, 4, 42, 3, 16, 19, 182, 0, 132]
abbrev dktX3_clause_8 : List UInt8 := dkwX3_clause_8 ++ dktX3_clause_9
def dkwX3_clause_7 : List UInt8 := [100, 182, 0, 132, 79, 89, 5, 42, 3, 42, 180, 0, 37, 4, 100, 182, 0, 132, 79, 176, 42, 89]
abbrev dktX3_clause_7 : List UInt8 := dkwX3_clause_7 ++ dktX3_clause_8
def dkwX3_clause_6 : List UInt8 := [3, 16, 99, 182, 0, 132, 79, 176, 6, 188, 10, 89, 3, 27, 79, 89, 4, 42, 3, 42, 180, 0, 25, 4]
abbrev dktX3_clause_6 : List UInt8 := dkwX3_clause_6 ++ dktX3_clause_7
def dkwX3_clause_5 : List UInt8 := [96, 181, 0, 37, 6, 188, 10, 89, 3, 27, 79, 89, 4, 42, 3, 16, 19, 182, 0, 132, 79, 89, 5, 42]
abbrev dktX3_clause_5 : List UInt8 := dkwX3_clause_5 ++ dktX3_clause_6
def dkwX3_clause_4 : List UInt8 := [42, 3, 181, 0, 25, 42, 3, 181, 0, 37, 4, 188, 10, 89, 3, 27, 79, 176, 42, 89, 180, 0, 37, 4]
abbrev dktX3_clause_4 : List UInt8 := dkwX3_clause_4 ++ dktX3_clause_5
def dkwX3_clause_3 : List UInt8 := [170, 0, 0, 0, 117, 0, 0, 0, 5, 0, 0, 0, 7, 0, 0, 0, 25, 0, 0, 0, 43, 0, 0, 0, 81]
abbrev dktX3_clause_3 : List UInt8 := dkwX3_clause_3 ++ dktX3_clause_4
def dkwX3_clause_2 : List UInt8 := [180, 0, 37, 16, 9, 162, 0, 7, 4, 167, 0, 4, 3, 182, 0, 106, 27]
abbrev dktX3_clause_2 : List UInt8 := dkwX3_clause_2 ++ dktX3_clause_3
def dkwX3_clause_1 : List UInt8 := [159, 0, 35, 27, 7, 163, 0, 11, 42, 180, 0, 25, 8, 162, 0, 22, 27, 16, 6, 160, 0, 12, 42]
abbrev dktX3_clause_1 : List UInt8 := dkwX3_clause_1 ++ dktX3_clause_2
def dkwX3_clause_0 : List UInt8 := [42, 182, 0, 91, 178, 0, 116, 184, 0, 120, 42, 180, 0, 17, 185, 0, 126, 2, 0, 60, 42, 27, 2]
abbrev dktX3_clause_0 : List UInt8 := dkwX3_clause_0 ++ dktX3_clause_1
theorem dksX3_clause_0 : cX3_clause.data.toList.drop 0 = dktX3_clause_0 := by decide +kernel
theorem dksX3_clause_1 : cX3_clause.data.toList.drop 23 = dktX3_clause_1 := dk_seg dksX3_clause_0 23 rfl rfl
theorem dksX3_clause_2 : cX3_clause.data.toList.drop 46 = dktX3_clause_2 := dk_seg dksX3_clause_1 23 rfl rfl
theorem dksX3_clause_3 : cX3_clause.data.toList.drop 63 = dktX3_clause_3 := dk_seg dksX3_clause_2 17 rfl rfl
theorem dksX3_clause_4 : cX3_clause.data.toList.drop 88 = dktX3_clause_4 := dk_seg dksX3_clause_3 25 rfl rfl
theorem dksX3_clause_5 : cX3_clause.data.toList.drop 112 = dktX3_clause_5 := dk_seg dksX3_clause_4 24 rfl rfl
theorem dksX3_clause_6 : cX3_clause.data.toList.drop 136 = dktX3_clause_6 := dk_seg dksX3_clause_5 24 rfl rfl
theorem dksX3_clause_7 : cX3_clause.data.toList.drop 160 = dktX3_clause_7 := dk_seg dksX3_clause_6 24 rfl rfl
theorem dksX3_clause_8 : cX3_clause.data.toList.drop 182 = dktX3_clause_8 := dk_seg dksX3_clause_7 22 rfl rfl
theorem dksX3_clause_9 : cX3_clause.data.toList.drop 206 = dktX3_clause_9 := dk_seg dksX3_clause_8 24 rfl rfl
theorem dX3_clause_0 : decode cX3_clause 0 = .ok (.aload_n 0, 1) := dk_42 (dk_at dksX3_clause_0 0 rfl rfl)
theorem dX3_clause_1 : decode cX3_clause 1 = .ok (.invokevirtual 91, 3) := dk_182 0 91 (dk_at dksX3_clause_0 1 rfl rfl)
theorem dX3_clause_4 : decode cX3_clause 4 = .ok (.getstatic 116, 3) := dk_178 0 116 (dk_at dksX3_clause_0 4 rfl rfl)
theorem dX3_clause_7 : decode cX3_clause 7 = .ok (.invokestatic 120, 3) := dk_184 0 120 (dk_at dksX3_clause_0 7 rfl rfl)
theorem dX3_clause_10 : decode cX3_clause 10 = .ok (.aload_n 0, 1) := dk_42 (dk_at dksX3_clause_0 10 rfl rfl)
theorem dX3_clause_11 : decode cX3_clause 11 = .ok (.getfield 17, 3) := dk_180 0 17 (dk_at dksX3_clause_0 11 rfl rfl)
theorem dX3_clause_14 : decode cX3_clause 14 = .ok (.invokeinterface 126 2, 5) := by decide +kernel
theorem dX3_clause_19 : decode cX3_clause 19 = .ok (.istore_n 1, 1) := dk_60 (dk_at dksX3_clause_0 19 rfl rfl)
theorem dX3_clause_20 : decode cX3_clause 20 = .ok (.aload_n 0, 1) := dk_42 (dk_at dksX3_clause_0 20 rfl rfl)
theorem dX3_clause_21 : decode cX3_clause 21 = .ok (.iload_n 1, 1) := dk_27 (dk_at dksX3_clause_0 21 rfl rfl)
theorem dX3_clause_22 : decode cX3_clause 22 = .ok (.iconst (-1), 1) := dk_2 (dk_at dksX3_clause_0 22 rfl rfl)
theorem dX3_clause_23 : decode cX3_clause 23 = .ok (.if_icmp .eq 35, 3) := dk_159 0 35 (dk_at dksX3_clause_1 0 rfl rfl)
theorem dX3_clause_26 : decode cX3_clause 26 = .ok (.iload_n 1, 1) := dk_27 (dk_at dksX3_clause_1 3 rfl rfl)
theorem dX3_clause_27 : decode cX3_clause 27 = .ok (.iconst 4, 1) := dk_7 (dk_at dksX3_clause_1 4 rfl rfl)
theorem dX3_clause_28 : decode cX3_clause 28 = .ok (.if_icmp .gt 11, 3) := dk_163 0 11 (dk_at dksX3_clause_1 5 rfl rfl)
theorem dX3_clause_31 : decode cX3_clause 31 = .ok (.aload_n 0, 1) := dk_42 (dk_at dksX3_clause_1 8 rfl rfl)
theorem dX3_clause_32 : decode cX3_clause 32 = .ok (.getfield 25, 3) := dk_180 0 25 (dk_at dksX3_clause_1 9 rfl rfl)
theorem dX3_clause_35 : decode cX3_clause 35 = .ok (.iconst 5, 1) := dk_8 (dk_at dksX3_clause_1 12 rfl rfl)
theorem dX3_clause_36 : decode cX3_clause 36 = .ok (.if_icmp .ge 22, 3) := dk_162 0 22 (dk_at dksX3_clause_1 13 rfl rfl)
theorem dX3_clause_39 : decode cX3_clause 39 = .ok (.iload_n 1, 1) := dk_27 (dk_at dksX3_clause_1 16 rfl rfl)
theorem dX3_clause_40 : decode cX3_clause 40 = .ok (.bipush 6, 2) := dk_16 6 (dk_at dksX3_clause_1 17 rfl rfl)
theorem dX3_clause_42 : decode cX3_clause 42 = .ok (.if_icmp .ne 12, 3) := dk_160 0 12 (dk_at dksX3_clause_1 19 rfl rfl)
theorem dX3_clause_45 : decode cX3_clause 45 = .ok (.aload_n 0, 1) := dk_42 (dk_at dksX3_clause_1 22 rfl rfl)
theorem dX3_clause_46 : decode cX3_clause 46 = .ok (.getfield 37, 3) := dk_180 0 37 (dk_at dksX3_clause_2 0 rfl rfl)
theorem dX3_clause_49 : decode cX3_clause 49 = .ok (.bipush 9, 2) := dk_16 9 (dk_at dksX3_clause_2 3 rfl rfl)
theorem dX3_clause_51 : decode cX3_clause 51 = .ok (.if_icmp .ge 7, 3) := dk_162 0 7 (dk_at dksX3_clause_2 5 rfl rfl)
theorem dX3_clause_54 : decode cX3_clause 54 = .ok (.iconst 1, 1) := dk_4 (dk_at dksX3_clause_2 8 rfl rfl)
theorem dX3_clause_55 : decode cX3_clause 55 = .ok (.goto 4, 3) := dk_167 0 4 (dk_at dksX3_clause_2 9 rfl rfl)
theorem dX3_clause_58 : decode cX3_clause 58 = .ok (.iconst 0, 1) := dk_3 (dk_at dksX3_clause_2 12 rfl rfl)
theorem dX3_clause_59 : decode cX3_clause 59 = .ok (.invokevirtual 106, 3) := dk_182 0 106 (dk_at dksX3_clause_2 13 rfl rfl)
theorem dX3_clause_62 : decode cX3_clause 62 = .ok (.iload_n 1, 1) := dk_27 (dk_at dksX3_clause_2 16 rfl rfl)
theorem dX3_clause_63 : decode cX3_clause 63 = .ok (.tableswitch 117 5 7 #[25, 43, 81], 25) := by decide +kernel
theorem dX3_clause_88 : decode cX3_clause 88 = .ok (.aload_n 0, 1) := dk_42 (dk_at dksX3_clause_4 0 rfl rfl)
theorem dX3_clause_89 : decode cX3_clause 89 = .ok (.iconst 0, 1) := dk_3 (dk_at dksX3_clause_4 1 rfl rfl)
theorem dX3_clause_90 : decode cX3_clause 90 = .ok (.putfield 25, 3) := dk_181 0 25 (dk_at dksX3_clause_4 2 rfl rfl)
theorem dX3_clause_93 : decode cX3_clause 93 = .ok (.aload_n 0, 1) := dk_42 (dk_at dksX3_clause_4 5 rfl rfl)
theorem dX3_clause_94 : decode cX3_clause 94 = .ok (.iconst 0, 1) := dk_3 (dk_at dksX3_clause_4 6 rfl rfl)
theorem dX3_clause_95 : decode cX3_clause 95 = .ok (.putfield 37, 3) := dk_181 0 37 (dk_at dksX3_clause_4 7 rfl rfl)
theorem dX3_clause_98 : decode cX3_clause 98 = .ok (.iconst 1, 1) := dk_4 (dk_at dksX3_clause_4 10 rfl rfl)
theorem dX3_clause_99 : decode cX3_clause 99 = .ok (.newarray .int, 2) := dk_188_10 (dk_at dksX3_clause_4 11 rfl rfl)
theorem dX3_clause_101 : decode cX3_clause 101 = .ok (.dup, 1) := dk_89 (dk_at dksX3_clause_4 13 rfl rfl)
theorem dX3_clause_102 : decode cX3_clause 102 = .ok (.iconst 0, 1) := dk_3 (dk_at dksX3_clause_4 14 rfl rfl)
theorem dX3_clause_103 : decode cX3_clause 103 = .ok (.iload_n 1, 1) := dk_27 (dk_at dksX3_clause_4 15 rfl rfl)
theorem dX3_clause_104 : decode cX3_clause 104 = .ok (.iastore, 1) := dk_79 (dk_at dksX3_clause_4 16 rfl rfl)
theorem dX3_clause_105 : decode cX3_clause 105 = .ok (.areturn, 1) := dk_176 (dk_at dksX3_clause_4 17 rfl rfl)
theorem dX3_clause_106 : decode cX3_clause 106 = .ok (.aload_n 0, 1) := dk_42 (dk_at dksX3_clause_4 18 rfl rfl)
theorem dX3_clause_107 : decode cX3_clause 107 = .ok (.dup, 1) := dk_89 (dk_at dksX3_clause_4 19 rfl rfl)
theorem dX3_clause_108 : decode cX3_clause 108 = .ok (.getfield 37, 3) := dk_180 0 37 (dk_at dksX3_clause_4 20 rfl rfl)
theorem dX3_clause_111 : decode cX3_clause 111 = .ok (.iconst 1, 1) := dk_4 (dk_at dksX3_clause_4 23 rfl rfl)
theorem dX3_clause_112 : decode cX3_clause 112 = .ok (.iadd, 1) := dk_96 (dk_at dksX3_clause_5 0 rfl rfl)
theorem dX3_clause_113 : decode cX3_clause 113 = .ok (.putfield 37, 3) := dk_181 0 37 (dk_at dksX3_clause_5 1 rfl rfl)
theorem dX3_clause_116 : decode cX3_clause 116 = .ok (.iconst 3, 1) := dk_6 (dk_at dksX3_clause_5 4 rfl rfl)
theorem dX3_clause_117 : decode cX3_clause 117 = .ok (.newarray .int, 2) := dk_188_10 (dk_at dksX3_clause_5 5 rfl rfl)
theorem dX3_clause_119 : decode cX3_clause 119 = .ok (.dup, 1) := dk_89 (dk_at dksX3_clause_5 7 rfl rfl)
theorem dX3_clause_120 : decode cX3_clause 120 = .ok (.iconst 0, 1) := dk_3 (dk_at dksX3_clause_5 8 rfl rfl)
theorem dX3_clause_121 : decode cX3_clause 121 = .ok (.iload_n 1, 1) := dk_27 (dk_at dksX3_clause_5 9 rfl rfl)
theorem dX3_clause_122 : decode cX3_clause 122 = .ok (.iastore, 1) := dk_79 (dk_at dksX3_clause_5 10 rfl rfl)
theorem dX3_clause_123 : decode cX3_clause 123 = .ok (.dup, 1) := dk_89 (dk_at dksX3_clause_5 11 rfl rfl)
theorem dX3_clause_124 : decode cX3_clause 124 = .ok (.iconst 1, 1) := dk_4 (dk_at dksX3_clause_5 12 rfl rfl)
theorem dX3_clause_125 : decode cX3_clause 125 = .ok (.aload_n 0, 1) := dk_42 (dk_at dksX3_clause_5 13 rfl rfl)
theorem dX3_clause_126 : decode cX3_clause 126 = .ok (.iconst 0, 1) := dk_3 (dk_at dksX3_clause_5 14 rfl rfl)
theorem dX3_clause_127 : decode cX3_clause 127 = .ok (.bipush 19, 2) := dk_16 19 (dk_at dksX3_clause_5 15 rfl rfl)
theorem dX3_clause_129 : decode cX3_clause 129 = .ok (.invokevirtual 132, 3) := dk_182 0 132 (dk_at dksX3_clause_5 17 rfl rfl)
theorem dX3_clause_132 : decode cX3_clause 132 = .ok (.iastore, 1) := dk_79 (dk_at dksX3_clause_5 20 rfl rfl)
theorem dX3_clause_133 : decode cX3_clause 133 = .ok (.dup, 1) := dk_89 (dk_at dksX3_clause_5 21 rfl rfl)
theorem dX3_clause_134 : decode cX3_clause 134 = .ok (.iconst 2, 1) := dk_5 (dk_at dksX3_clause_5 22 rfl rfl)
theorem dX3_clause_135 : decode cX3_clause 135 = .ok (.aload_n 0, 1) := dk_42 (dk_at dksX3_clause_5 23 rfl rfl)
theorem dX3_clause_136 : decode cX3_clause 136 = .ok (.iconst 0, 1) := dk_3 (dk_at dksX3_clause_6 0 rfl rfl)
theorem dX3_clause_137 : decode cX3_clause 137 = .ok (.bipush 99, 2) := dk_16 99 (dk_at dksX3_clause_6 1 rfl rfl)
theorem dX3_clause_139 : decode cX3_clause 139 = .ok (.invokevirtual 132, 3) := dk_182 0 132 (dk_at dksX3_clause_6 3 rfl rfl)
theorem dX3_clause_142 : decode cX3_clause 142 = .ok (.iastore, 1) := dk_79 (dk_at dksX3_clause_6 6 rfl rfl)
theorem dX3_clause_143 : decode cX3_clause 143 = .ok (.areturn, 1) := dk_176 (dk_at dksX3_clause_6 7 rfl rfl)
theorem dX3_clause_144 : decode cX3_clause 144 = .ok (.iconst 3, 1) := dk_6 (dk_at dksX3_clause_6 8 rfl rfl)
theorem dX3_clause_145 : decode cX3_clause 145 = .ok (.newarray .int, 2) := dk_188_10 (dk_at dksX3_clause_6 9 rfl rfl)
theorem dX3_clause_147 : decode cX3_clause 147 = .ok (.dup, 1) := dk_89 (dk_at dksX3_clause_6 11 rfl rfl)
theorem dX3_clause_148 : decode cX3_clause 148 = .ok (.iconst 0, 1) := dk_3 (dk_at dksX3_clause_6 12 rfl rfl)
theorem dX3_clause_149 : decode cX3_clause 149 = .ok (.iload_n 1, 1) := dk_27 (dk_at dksX3_clause_6 13 rfl rfl)
theorem dX3_clause_150 : decode cX3_clause 150 = .ok (.iastore, 1) := dk_79 (dk_at dksX3_clause_6 14 rfl rfl)
theorem dX3_clause_151 : decode cX3_clause 151 = .ok (.dup, 1) := dk_89 (dk_at dksX3_clause_6 15 rfl rfl)
theorem dX3_clause_152 : decode cX3_clause 152 = .ok (.iconst 1, 1) := dk_4 (dk_at dksX3_clause_6 16 rfl rfl)
theorem dX3_clause_153 : decode cX3_clause 153 = .ok (.aload_n 0, 1) := dk_42 (dk_at dksX3_clause_6 17 rfl rfl)
theorem dX3_clause_154 : decode cX3_clause 154 = .ok (.iconst 0, 1) := dk_3 (dk_at dksX3_clause_6 18 rfl rfl)
theorem dX3_clause_155 : decode cX3_clause 155 = .ok (.aload_n 0, 1) := dk_42 (dk_at dksX3_clause_6 19 rfl rfl)
theorem dX3_clause_156 : decode cX3_clause 156 = .ok (.getfield 25, 3) := dk_180 0 25 (dk_at dksX3_clause_6 20 rfl rfl)
theorem dX3_clause_159 : decode cX3_clause 159 = .ok (.iconst 1, 1) := dk_4 (dk_at dksX3_clause_6 23 rfl rfl)
theorem dX3_clause_160 : decode cX3_clause 160 = .ok (.isub, 1) := dk_100 (dk_at dksX3_clause_7 0 rfl rfl)
theorem dX3_clause_161 : decode cX3_clause 161 = .ok (.invokevirtual 132, 3) := dk_182 0 132 (dk_at dksX3_clause_7 1 rfl rfl)
theorem dX3_clause_164 : decode cX3_clause 164 = .ok (.iastore, 1) := dk_79 (dk_at dksX3_clause_7 4 rfl rfl)
theorem dX3_clause_165 : decode cX3_clause 165 = .ok (.dup, 1) := dk_89 (dk_at dksX3_clause_7 5 rfl rfl)
theorem dX3_clause_166 : decode cX3_clause 166 = .ok (.iconst 2, 1) := dk_5 (dk_at dksX3_clause_7 6 rfl rfl)
theorem dX3_clause_167 : decode cX3_clause 167 = .ok (.aload_n 0, 1) := dk_42 (dk_at dksX3_clause_7 7 rfl rfl)
theorem dX3_clause_168 : decode cX3_clause 168 = .ok (.iconst 0, 1) := dk_3 (dk_at dksX3_clause_7 8 rfl rfl)
theorem dX3_clause_169 : decode cX3_clause 169 = .ok (.aload_n 0, 1) := dk_42 (dk_at dksX3_clause_7 9 rfl rfl)
theorem dX3_clause_170 : decode cX3_clause 170 = .ok (.getfield 37, 3) := dk_180 0 37 (dk_at dksX3_clause_7 10 rfl rfl)
theorem dX3_clause_173 : decode cX3_clause 173 = .ok (.iconst 1, 1) := dk_4 (dk_at dksX3_clause_7 13 rfl rfl)
theorem dX3_clause_174 : decode cX3_clause 174 = .ok (.isub, 1) := dk_100 (dk_at dksX3_clause_7 14 rfl rfl)
theorem dX3_clause_175 : decode cX3_clause 175 = .ok (.invokevirtual 132, 3) := dk_182 0 132 (dk_at dksX3_clause_7 15 rfl rfl)
theorem dX3_clause_178 : decode cX3_clause 178 = .ok (.iastore, 1) := dk_79 (dk_at dksX3_clause_7 18 rfl rfl)
theorem dX3_clause_179 : decode cX3_clause 179 = .ok (.areturn, 1) := dk_176 (dk_at dksX3_clause_7 19 rfl rfl)
theorem dX3_clause_180 : decode cX3_clause 180 = .ok (.aload_n 0, 1) := dk_42 (dk_at dksX3_clause_7 20 rfl rfl)
theorem dX3_clause_181 : decode cX3_clause 181 = .ok (.dup, 1) := dk_89 (dk_at dksX3_clause_7 21 rfl rfl)
theorem dX3_clause_182 : decode cX3_clause 182 = .ok (.getfield 25, 3) := dk_180 0 25 (dk_at dksX3_clause_8 0 rfl rfl)
theorem dX3_clause_185 : decode cX3_clause 185 = .ok (.iconst 1, 1) := dk_4 (dk_at dksX3_clause_8 3 rfl rfl)
theorem dX3_clause_186 : decode cX3_clause 186 = .ok (.iadd, 1) := dk_96 (dk_at dksX3_clause_8 4 rfl rfl)
theorem dX3_clause_187 : decode cX3_clause 187 = .ok (.putfield 25, 3) := dk_181 0 25 (dk_at dksX3_clause_8 5 rfl rfl)
theorem dX3_clause_190 : decode cX3_clause 190 = .ok (.iconst 3, 1) := dk_6 (dk_at dksX3_clause_8 8 rfl rfl)
theorem dX3_clause_191 : decode cX3_clause 191 = .ok (.newarray .int, 2) := dk_188_10 (dk_at dksX3_clause_8 9 rfl rfl)
theorem dX3_clause_193 : decode cX3_clause 193 = .ok (.dup, 1) := dk_89 (dk_at dksX3_clause_8 11 rfl rfl)
theorem dX3_clause_194 : decode cX3_clause 194 = .ok (.iconst 0, 1) := dk_3 (dk_at dksX3_clause_8 12 rfl rfl)
theorem dX3_clause_195 : decode cX3_clause 195 = .ok (.iload_n 1, 1) := dk_27 (dk_at dksX3_clause_8 13 rfl rfl)
theorem dX3_clause_196 : decode cX3_clause 196 = .ok (.iastore, 1) := dk_79 (dk_at dksX3_clause_8 14 rfl rfl)
theorem dX3_clause_197 : decode cX3_clause 197 = .ok (.dup, 1) := dk_89 (dk_at dksX3_clause_8 15 rfl rfl)
theorem dX3_clause_198 : decode cX3_clause 198 = .ok (.iconst 1, 1) := dk_4 (dk_at dksX3_clause_8 16 rfl rfl)
theorem dX3_clause_199 : decode cX3_clause 199 = .ok (.aload_n 0, 1) := dk_42 (dk_at dksX3_clause_8 17 rfl rfl)
theorem dX3_clause_200 : decode cX3_clause 200 = .ok (.iconst 0, 1) := dk_3 (dk_at dksX3_clause_8 18 rfl rfl)
theorem dX3_clause_201 : decode cX3_clause 201 = .ok (.bipush 19, 2) := dk_16 19 (dk_at dksX3_clause_8 19 rfl rfl)
theorem dX3_clause_203 : decode cX3_clause 203 = .ok (.invokevirtual 132, 3) := dk_182 0 132 (dk_at dksX3_clause_8 21 rfl rfl)
theorem dX3_clause_206 : decode cX3_clause 206 = .ok (.iastore, 1) := dk_79 (dk_at dksX3_clause_9 0 rfl rfl)
theorem dX3_clause_207 : decode cX3_clause 207 = .ok (.dup, 1) := dk_89 (dk_at dksX3_clause_9 1 rfl rfl)
theorem dX3_clause_208 : decode cX3_clause 208 = .ok (.iconst 2, 1) := dk_5 (dk_at dksX3_clause_9 2 rfl rfl)
theorem dX3_clause_209 : decode cX3_clause 209 = .ok (.aload_n 0, 1) := dk_42 (dk_at dksX3_clause_9 3 rfl rfl)
theorem dX3_clause_210 : decode cX3_clause 210 = .ok (.iconst 1, 1) := dk_4 (dk_at dksX3_clause_9 4 rfl rfl)
theorem dX3_clause_211 : decode cX3_clause 211 = .ok (.bipush 9, 2) := dk_16 9 (dk_at dksX3_clause_9 5 rfl rfl)
theorem dX3_clause_213 : decode cX3_clause 213 = .ok (.invokevirtual 132, 3) := dk_182 0 132 (dk_at dksX3_clause_9 7 rfl rfl)
theorem dX3_clause_216 : decode cX3_clause 216 = .ok (.iastore, 1) := dk_79 (dk_at dksX3_clause_9 10 rfl rfl)
theorem dX3_clause_217 : decode cX3_clause 217 = .ok (.areturn, 1) := dk_176 (dk_at dksX3_clause_9 11 rfl rfl)
abbrev cX3_take : ByteArray := prog_8_method_3_code
def yX3_take : MethodName := ⟨RX3, "take", "()V"⟩
def dkwX3_take_8 : List UInt8 := [177]
abbrev dktX3_take_8 : List UInt8 := dkwX3_take_8 ++ []
def dkwX3_take_7 : List UInt8 := [181, 0, 58, 51, 17, 0, 255, 126, 146, 182, 0, 78, 87, 167, 255, 178, 42, 44, 182, 0, 82, 181, 0, 17]
abbrev dktX3_take_7 : List UInt8 := dkwX3_take_7 ++ dktX3_take_8
def dkwX3_take_6 : List UInt8 := [182, 0, 71, 27, 160, 0, 35, 44, 42, 180, 0, 3, 180, 0, 64, 42, 89, 180, 0, 58, 90, 4, 96]
abbrev dktX3_take_6 : List UInt8 := dkwX3_take_6 ++ dktX3_take_7
def dkwX3_take_5 : List UInt8 := [180, 0, 58, 159, 0, 27, 27, 158, 0, 55, 42, 42, 180, 0, 3, 180, 0, 64, 42, 180, 0, 58, 51]
abbrev dktX3_take_5 : List UInt8 := dkwX3_take_5 ++ dktX3_take_6
def dkwX3_take_4 : List UInt8 := [183, 0, 77, 77, 42, 180, 0, 58, 42, 180, 0, 3, 180, 0, 61, 162, 0, 70, 42, 180, 0, 68, 42]
abbrev dktX3_take_4 : List UInt8 := dkwX3_take_4 ++ dktX3_take_5
def dkwX3_take_3 : List UInt8 := [180, 0, 3, 180, 0, 64, 42, 180, 0, 58, 51, 182, 0, 71, 167, 0, 4, 3, 60, 187, 0, 75, 89]
abbrev dktX3_take_3 : List UInt8 := dkwX3_take_3 ++ dktX3_take_4
def dkwX3_take_2 : List UInt8 := [180, 0, 58, 181, 0, 68, 42, 180, 0, 58, 42, 180, 0, 3, 180, 0, 61, 162, 0, 22, 42, 42]
abbrev dktX3_take_2 : List UInt8 := dkwX3_take_2 ++ dktX3_take_3
def dkwX3_take_1 : List UInt8 := [180, 0, 58, 51, 16, 32, 160, 0, 16, 42, 89, 180, 0, 58, 4, 96, 181, 0, 58, 167, 255, 215, 42, 42]
abbrev dktX3_take_1 : List UInt8 := dkwX3_take_1 ++ dktX3_take_2
def dkwX3_take_0 : List UInt8 := [42, 180, 0, 58, 42, 180, 0, 3, 180, 0, 61, 162, 0, 33, 42, 180, 0, 3, 180, 0, 64, 42]
abbrev dktX3_take_0 : List UInt8 := dkwX3_take_0 ++ dktX3_take_1
theorem dksX3_take_0 : cX3_take.data.toList.drop 0 = dktX3_take_0 := by decide +kernel
theorem dksX3_take_1 : cX3_take.data.toList.drop 22 = dktX3_take_1 := dk_seg dksX3_take_0 22 rfl rfl
theorem dksX3_take_2 : cX3_take.data.toList.drop 46 = dktX3_take_2 := dk_seg dksX3_take_1 24 rfl rfl
theorem dksX3_take_3 : cX3_take.data.toList.drop 68 = dktX3_take_3 := dk_seg dksX3_take_2 22 rfl rfl
theorem dksX3_take_4 : cX3_take.data.toList.drop 91 = dktX3_take_4 := dk_seg dksX3_take_3 23 rfl rfl
theorem dksX3_take_5 : cX3_take.data.toList.drop 114 = dktX3_take_5 := dk_seg dksX3_take_4 23 rfl rfl
theorem dksX3_take_6 : cX3_take.data.toList.drop 137 = dktX3_take_6 := dk_seg dksX3_take_5 23 rfl rfl
theorem dksX3_take_7 : cX3_take.data.toList.drop 160 = dktX3_take_7 := dk_seg dksX3_take_6 23 rfl rfl
theorem dksX3_take_8 : cX3_take.data.toList.drop 184 = dktX3_take_8 := dk_seg dksX3_take_7 24 rfl rfl
theorem dX3_take_0 : decode cX3_take 0 = .ok (.aload_n 0, 1) := dk_42 (dk_at dksX3_take_0 0 rfl rfl)
theorem dX3_take_1 : decode cX3_take 1 = .ok (.getfield 58, 3) := dk_180 0 58 (dk_at dksX3_take_0 1 rfl rfl)
theorem dX3_take_4 : decode cX3_take 4 = .ok (.aload_n 0, 1) := dk_42 (dk_at dksX3_take_0 4 rfl rfl)
theorem dX3_take_5 : decode cX3_take 5 = .ok (.getfield 3, 3) := dk_180 0 3 (dk_at dksX3_take_0 5 rfl rfl)
theorem dX3_take_8 : decode cX3_take 8 = .ok (.getfield 61, 3) := dk_180 0 61 (dk_at dksX3_take_0 8 rfl rfl)
theorem dX3_take_11 : decode cX3_take 11 = .ok (.if_icmp .ge 33, 3) := dk_162 0 33 (dk_at dksX3_take_0 11 rfl rfl)
theorem dX3_take_14 : decode cX3_take 14 = .ok (.aload_n 0, 1) := dk_42 (dk_at dksX3_take_0 14 rfl rfl)
theorem dX3_take_15 : decode cX3_take 15 = .ok (.getfield 3, 3) := dk_180 0 3 (dk_at dksX3_take_0 15 rfl rfl)
theorem dX3_take_18 : decode cX3_take 18 = .ok (.getfield 64, 3) := dk_180 0 64 (dk_at dksX3_take_0 18 rfl rfl)
theorem dX3_take_21 : decode cX3_take 21 = .ok (.aload_n 0, 1) := dk_42 (dk_at dksX3_take_0 21 rfl rfl)
theorem dX3_take_22 : decode cX3_take 22 = .ok (.getfield 58, 3) := dk_180 0 58 (dk_at dksX3_take_1 0 rfl rfl)
theorem dX3_take_25 : decode cX3_take 25 = .ok (.baload, 1) := dk_51 (dk_at dksX3_take_1 3 rfl rfl)
theorem dX3_take_26 : decode cX3_take 26 = .ok (.bipush 32, 2) := dk_16 32 (dk_at dksX3_take_1 4 rfl rfl)
theorem dX3_take_28 : decode cX3_take 28 = .ok (.if_icmp .ne 16, 3) := dk_160 0 16 (dk_at dksX3_take_1 6 rfl rfl)
theorem dX3_take_31 : decode cX3_take 31 = .ok (.aload_n 0, 1) := dk_42 (dk_at dksX3_take_1 9 rfl rfl)
theorem dX3_take_32 : decode cX3_take 32 = .ok (.dup, 1) := dk_89 (dk_at dksX3_take_1 10 rfl rfl)
theorem dX3_take_33 : decode cX3_take 33 = .ok (.getfield 58, 3) := dk_180 0 58 (dk_at dksX3_take_1 11 rfl rfl)
theorem dX3_take_36 : decode cX3_take 36 = .ok (.iconst 1, 1) := dk_4 (dk_at dksX3_take_1 14 rfl rfl)
theorem dX3_take_37 : decode cX3_take 37 = .ok (.iadd, 1) := dk_96 (dk_at dksX3_take_1 15 rfl rfl)
theorem dX3_take_38 : decode cX3_take 38 = .ok (.putfield 58, 3) := dk_181 0 58 (dk_at dksX3_take_1 16 rfl rfl)
theorem dX3_take_41 : decode cX3_take 41 = .ok (.goto (-41), 3) := dk_167 255 215 (dk_at dksX3_take_1 19 rfl rfl)
theorem dX3_take_44 : decode cX3_take 44 = .ok (.aload_n 0, 1) := dk_42 (dk_at dksX3_take_1 22 rfl rfl)
theorem dX3_take_45 : decode cX3_take 45 = .ok (.aload_n 0, 1) := dk_42 (dk_at dksX3_take_1 23 rfl rfl)
theorem dX3_take_46 : decode cX3_take 46 = .ok (.getfield 58, 3) := dk_180 0 58 (dk_at dksX3_take_2 0 rfl rfl)
theorem dX3_take_49 : decode cX3_take 49 = .ok (.putfield 68, 3) := dk_181 0 68 (dk_at dksX3_take_2 3 rfl rfl)
theorem dX3_take_52 : decode cX3_take 52 = .ok (.aload_n 0, 1) := dk_42 (dk_at dksX3_take_2 6 rfl rfl)
theorem dX3_take_53 : decode cX3_take 53 = .ok (.getfield 58, 3) := dk_180 0 58 (dk_at dksX3_take_2 7 rfl rfl)
theorem dX3_take_56 : decode cX3_take 56 = .ok (.aload_n 0, 1) := dk_42 (dk_at dksX3_take_2 10 rfl rfl)
theorem dX3_take_57 : decode cX3_take 57 = .ok (.getfield 3, 3) := dk_180 0 3 (dk_at dksX3_take_2 11 rfl rfl)
theorem dX3_take_60 : decode cX3_take 60 = .ok (.getfield 61, 3) := dk_180 0 61 (dk_at dksX3_take_2 14 rfl rfl)
theorem dX3_take_63 : decode cX3_take 63 = .ok (.if_icmp .ge 22, 3) := dk_162 0 22 (dk_at dksX3_take_2 17 rfl rfl)
theorem dX3_take_66 : decode cX3_take 66 = .ok (.aload_n 0, 1) := dk_42 (dk_at dksX3_take_2 20 rfl rfl)
theorem dX3_take_67 : decode cX3_take 67 = .ok (.aload_n 0, 1) := dk_42 (dk_at dksX3_take_2 21 rfl rfl)
theorem dX3_take_68 : decode cX3_take 68 = .ok (.getfield 3, 3) := dk_180 0 3 (dk_at dksX3_take_3 0 rfl rfl)
theorem dX3_take_71 : decode cX3_take 71 = .ok (.getfield 64, 3) := dk_180 0 64 (dk_at dksX3_take_3 3 rfl rfl)
theorem dX3_take_74 : decode cX3_take 74 = .ok (.aload_n 0, 1) := dk_42 (dk_at dksX3_take_3 6 rfl rfl)
theorem dX3_take_75 : decode cX3_take 75 = .ok (.getfield 58, 3) := dk_180 0 58 (dk_at dksX3_take_3 7 rfl rfl)
theorem dX3_take_78 : decode cX3_take 78 = .ok (.baload, 1) := dk_51 (dk_at dksX3_take_3 10 rfl rfl)
theorem dX3_take_79 : decode cX3_take 79 = .ok (.invokevirtual 71, 3) := dk_182 0 71 (dk_at dksX3_take_3 11 rfl rfl)
theorem dX3_take_82 : decode cX3_take 82 = .ok (.goto 4, 3) := dk_167 0 4 (dk_at dksX3_take_3 14 rfl rfl)
theorem dX3_take_85 : decode cX3_take 85 = .ok (.iconst 0, 1) := dk_3 (dk_at dksX3_take_3 17 rfl rfl)
theorem dX3_take_86 : decode cX3_take 86 = .ok (.istore_n 1, 1) := dk_60 (dk_at dksX3_take_3 18 rfl rfl)
theorem dX3_take_87 : decode cX3_take 87 = .ok (.new 75, 3) := dk_187 0 75 (dk_at dksX3_take_3 19 rfl rfl)
theorem dX3_take_90 : decode cX3_take 90 = .ok (.dup, 1) := dk_89 (dk_at dksX3_take_3 22 rfl rfl)
theorem dX3_take_91 : decode cX3_take 91 = .ok (.invokespecial 77, 3) := dk_183 0 77 (dk_at dksX3_take_4 0 rfl rfl)
theorem dX3_take_94 : decode cX3_take 94 = .ok (.astore_n 2, 1) := dk_77 (dk_at dksX3_take_4 3 rfl rfl)
theorem dX3_take_95 : decode cX3_take 95 = .ok (.aload_n 0, 1) := dk_42 (dk_at dksX3_take_4 4 rfl rfl)
theorem dX3_take_96 : decode cX3_take 96 = .ok (.getfield 58, 3) := dk_180 0 58 (dk_at dksX3_take_4 5 rfl rfl)
theorem dX3_take_99 : decode cX3_take 99 = .ok (.aload_n 0, 1) := dk_42 (dk_at dksX3_take_4 8 rfl rfl)
theorem dX3_take_100 : decode cX3_take 100 = .ok (.getfield 3, 3) := dk_180 0 3 (dk_at dksX3_take_4 9 rfl rfl)
theorem dX3_take_103 : decode cX3_take 103 = .ok (.getfield 61, 3) := dk_180 0 61 (dk_at dksX3_take_4 12 rfl rfl)
theorem dX3_take_106 : decode cX3_take 106 = .ok (.if_icmp .ge 70, 3) := dk_162 0 70 (dk_at dksX3_take_4 15 rfl rfl)
theorem dX3_take_109 : decode cX3_take 109 = .ok (.aload_n 0, 1) := dk_42 (dk_at dksX3_take_4 18 rfl rfl)
theorem dX3_take_110 : decode cX3_take 110 = .ok (.getfield 68, 3) := dk_180 0 68 (dk_at dksX3_take_4 19 rfl rfl)
theorem dX3_take_113 : decode cX3_take 113 = .ok (.aload_n 0, 1) := dk_42 (dk_at dksX3_take_4 22 rfl rfl)
theorem dX3_take_114 : decode cX3_take 114 = .ok (.getfield 58, 3) := dk_180 0 58 (dk_at dksX3_take_5 0 rfl rfl)
theorem dX3_take_117 : decode cX3_take 117 = .ok (.if_icmp .eq 27, 3) := dk_159 0 27 (dk_at dksX3_take_5 3 rfl rfl)
theorem dX3_take_120 : decode cX3_take 120 = .ok (.iload_n 1, 1) := dk_27 (dk_at dksX3_take_5 6 rfl rfl)
theorem dX3_take_121 : decode cX3_take 121 = .ok (.ifCond .le 55, 3) := dk_158 0 55 (dk_at dksX3_take_5 7 rfl rfl)
theorem dX3_take_124 : decode cX3_take 124 = .ok (.aload_n 0, 1) := dk_42 (dk_at dksX3_take_5 10 rfl rfl)
theorem dX3_take_125 : decode cX3_take 125 = .ok (.aload_n 0, 1) := dk_42 (dk_at dksX3_take_5 11 rfl rfl)
theorem dX3_take_126 : decode cX3_take 126 = .ok (.getfield 3, 3) := dk_180 0 3 (dk_at dksX3_take_5 12 rfl rfl)
theorem dX3_take_129 : decode cX3_take 129 = .ok (.getfield 64, 3) := dk_180 0 64 (dk_at dksX3_take_5 15 rfl rfl)
theorem dX3_take_132 : decode cX3_take 132 = .ok (.aload_n 0, 1) := dk_42 (dk_at dksX3_take_5 18 rfl rfl)
theorem dX3_take_133 : decode cX3_take 133 = .ok (.getfield 58, 3) := dk_180 0 58 (dk_at dksX3_take_5 19 rfl rfl)
theorem dX3_take_136 : decode cX3_take 136 = .ok (.baload, 1) := dk_51 (dk_at dksX3_take_5 22 rfl rfl)
theorem dX3_take_137 : decode cX3_take 137 = .ok (.invokevirtual 71, 3) := dk_182 0 71 (dk_at dksX3_take_6 0 rfl rfl)
theorem dX3_take_140 : decode cX3_take 140 = .ok (.iload_n 1, 1) := dk_27 (dk_at dksX3_take_6 3 rfl rfl)
theorem dX3_take_141 : decode cX3_take 141 = .ok (.if_icmp .ne 35, 3) := dk_160 0 35 (dk_at dksX3_take_6 4 rfl rfl)
theorem dX3_take_144 : decode cX3_take 144 = .ok (.aload_n 2, 1) := dk_44 (dk_at dksX3_take_6 7 rfl rfl)
theorem dX3_take_145 : decode cX3_take 145 = .ok (.aload_n 0, 1) := dk_42 (dk_at dksX3_take_6 8 rfl rfl)
theorem dX3_take_146 : decode cX3_take 146 = .ok (.getfield 3, 3) := dk_180 0 3 (dk_at dksX3_take_6 9 rfl rfl)
theorem dX3_take_149 : decode cX3_take 149 = .ok (.getfield 64, 3) := dk_180 0 64 (dk_at dksX3_take_6 12 rfl rfl)
theorem dX3_take_152 : decode cX3_take 152 = .ok (.aload_n 0, 1) := dk_42 (dk_at dksX3_take_6 15 rfl rfl)
theorem dX3_take_153 : decode cX3_take 153 = .ok (.dup, 1) := dk_89 (dk_at dksX3_take_6 16 rfl rfl)
theorem dX3_take_154 : decode cX3_take 154 = .ok (.getfield 58, 3) := dk_180 0 58 (dk_at dksX3_take_6 17 rfl rfl)
theorem dX3_take_157 : decode cX3_take 157 = .ok (.dup_x1, 1) := dk_90 (dk_at dksX3_take_6 20 rfl rfl)
theorem dX3_take_158 : decode cX3_take 158 = .ok (.iconst 1, 1) := dk_4 (dk_at dksX3_take_6 21 rfl rfl)
theorem dX3_take_159 : decode cX3_take 159 = .ok (.iadd, 1) := dk_96 (dk_at dksX3_take_6 22 rfl rfl)
theorem dX3_take_160 : decode cX3_take 160 = .ok (.putfield 58, 3) := dk_181 0 58 (dk_at dksX3_take_7 0 rfl rfl)
theorem dX3_take_163 : decode cX3_take 163 = .ok (.baload, 1) := dk_51 (dk_at dksX3_take_7 3 rfl rfl)
theorem dX3_take_164 : decode cX3_take 164 = .ok (.sipush 255, 3) := dk_17 0 255 (dk_at dksX3_take_7 4 rfl rfl)
theorem dX3_take_167 : decode cX3_take 167 = .ok (.iand, 1) := dk_126 (dk_at dksX3_take_7 7 rfl rfl)
theorem dX3_take_168 : decode cX3_take 168 = .ok (.i2c, 1) := dk_146 (dk_at dksX3_take_7 8 rfl rfl)
theorem dX3_take_169 : decode cX3_take 169 = .ok (.invokevirtual 78, 3) := dk_182 0 78 (dk_at dksX3_take_7 9 rfl rfl)
theorem dX3_take_172 : decode cX3_take 172 = .ok (.pop, 1) := dk_87 (dk_at dksX3_take_7 12 rfl rfl)
theorem dX3_take_173 : decode cX3_take 173 = .ok (.goto (-78), 3) := dk_167 255 178 (dk_at dksX3_take_7 13 rfl rfl)
theorem dX3_take_176 : decode cX3_take 176 = .ok (.aload_n 0, 1) := dk_42 (dk_at dksX3_take_7 16 rfl rfl)
theorem dX3_take_177 : decode cX3_take 177 = .ok (.aload_n 2, 1) := dk_44 (dk_at dksX3_take_7 17 rfl rfl)
theorem dX3_take_178 : decode cX3_take 178 = .ok (.invokevirtual 82, 3) := dk_182 0 82 (dk_at dksX3_take_7 18 rfl rfl)
theorem dX3_take_181 : decode cX3_take 181 = .ok (.putfield 17, 3) := dk_181 0 17 (dk_at dksX3_take_7 21 rfl rfl)
theorem dX3_take_184 : decode cX3_take 184 = .ok (.return_, 1) := dk_177 (dk_at dksX3_take_8 0 rfl rfl)
abbrev cX3_kindOf : ByteArray := prog_8_method_2_code
def yX3_kindOf : MethodName := ⟨RX3, "kindOf", "(I)I"⟩
def dkwX3_kindOf_1 : List UInt8 := [20, 0, 56, 184, 0, 50, 153, 0, 7, 5, 167, 0, 4, 3, 172]
abbrev dktX3_kindOf_1 : List UInt8 := dkwX3_kindOf_1 ++ []
def dkwX3_kindOf_0 : List UInt8 := [27, 133, 20, 0, 46, 20, 0, 48, 184, 0, 50, 153, 0, 7, 4, 167, 0, 22, 27, 133, 20, 0, 54]
abbrev dktX3_kindOf_0 : List UInt8 := dkwX3_kindOf_0 ++ dktX3_kindOf_1
theorem dksX3_kindOf_0 : cX3_kindOf.data.toList.drop 0 = dktX3_kindOf_0 := by decide +kernel
theorem dksX3_kindOf_1 : cX3_kindOf.data.toList.drop 23 = dktX3_kindOf_1 := dk_seg dksX3_kindOf_0 23 rfl rfl
theorem dX3_kindOf_0 : decode cX3_kindOf 0 = .ok (.iload_n 1, 1) := dk_27 (dk_at dksX3_kindOf_0 0 rfl rfl)
theorem dX3_kindOf_1 : decode cX3_kindOf 1 = .ok (.i2l, 1) := dk_133 (dk_at dksX3_kindOf_0 1 rfl rfl)
theorem dX3_kindOf_2 : decode cX3_kindOf 2 = .ok (.ldc2_w 46, 3) := dk_20 0 46 (dk_at dksX3_kindOf_0 2 rfl rfl)
theorem dX3_kindOf_5 : decode cX3_kindOf 5 = .ok (.ldc2_w 48, 3) := dk_20 0 48 (dk_at dksX3_kindOf_0 5 rfl rfl)
theorem dX3_kindOf_8 : decode cX3_kindOf 8 = .ok (.invokestatic 50, 3) := dk_184 0 50 (dk_at dksX3_kindOf_0 8 rfl rfl)
theorem dX3_kindOf_11 : decode cX3_kindOf 11 = .ok (.ifCond .eq 7, 3) := dk_153 0 7 (dk_at dksX3_kindOf_0 11 rfl rfl)
theorem dX3_kindOf_14 : decode cX3_kindOf 14 = .ok (.iconst 1, 1) := dk_4 (dk_at dksX3_kindOf_0 14 rfl rfl)
theorem dX3_kindOf_15 : decode cX3_kindOf 15 = .ok (.goto 22, 3) := dk_167 0 22 (dk_at dksX3_kindOf_0 15 rfl rfl)
theorem dX3_kindOf_18 : decode cX3_kindOf 18 = .ok (.iload_n 1, 1) := dk_27 (dk_at dksX3_kindOf_0 18 rfl rfl)
theorem dX3_kindOf_19 : decode cX3_kindOf 19 = .ok (.i2l, 1) := dk_133 (dk_at dksX3_kindOf_0 19 rfl rfl)
theorem dX3_kindOf_20 : decode cX3_kindOf 20 = .ok (.ldc2_w 54, 3) := dk_20 0 54 (dk_at dksX3_kindOf_0 20 rfl rfl)
theorem dX3_kindOf_23 : decode cX3_kindOf 23 = .ok (.ldc2_w 56, 3) := dk_20 0 56 (dk_at dksX3_kindOf_1 0 rfl rfl)
theorem dX3_kindOf_26 : decode cX3_kindOf 26 = .ok (.invokestatic 50, 3) := dk_184 0 50 (dk_at dksX3_kindOf_1 3 rfl rfl)
theorem dX3_kindOf_29 : decode cX3_kindOf 29 = .ok (.ifCond .eq 7, 3) := dk_153 0 7 (dk_at dksX3_kindOf_1 6 rfl rfl)
theorem dX3_kindOf_32 : decode cX3_kindOf 32 = .ok (.iconst 2, 1) := dk_5 (dk_at dksX3_kindOf_1 9 rfl rfl)
theorem dX3_kindOf_33 : decode cX3_kindOf 33 = .ok (.goto 4, 3) := dk_167 0 4 (dk_at dksX3_kindOf_1 10 rfl rfl)
theorem dX3_kindOf_36 : decode cX3_kindOf 36 = .ok (.iconst 0, 1) := dk_3 (dk_at dksX3_kindOf_1 13 rfl rfl)
theorem dX3_kindOf_37 : decode cX3_kindOf 37 = .ok (.ireturn, 1) := dk_172 (dk_at dksX3_kindOf_1 14 rfl rfl)
abbrev cX3_want : ByteArray := prog_8_method_4_code
def yX3_want : MethodName := ⟨RX3, "want", "(Z)V"⟩
def dkwX3_want_0 : List UInt8 := [27, 154, 0, 15, 187, 0, 86, 89, 42, 180, 0, 68, 183, 0, 88, 191, 177]
abbrev dktX3_want_0 : List UInt8 := dkwX3_want_0 ++ []
theorem dksX3_want_0 : cX3_want.data.toList.drop 0 = dktX3_want_0 := by decide +kernel
theorem dX3_want_0 : decode cX3_want 0 = .ok (.iload_n 1, 1) := dk_27 (dk_at dksX3_want_0 0 rfl rfl)
theorem dX3_want_1 : decode cX3_want 1 = .ok (.ifCond .ne 15, 3) := dk_154 0 15 (dk_at dksX3_want_0 1 rfl rfl)
theorem dX3_want_4 : decode cX3_want 4 = .ok (.new 86, 3) := dk_187 0 86 (dk_at dksX3_want_0 4 rfl rfl)
theorem dX3_want_7 : decode cX3_want 7 = .ok (.dup, 1) := dk_89 (dk_at dksX3_want_0 7 rfl rfl)
theorem dX3_want_8 : decode cX3_want 8 = .ok (.aload_n 0, 1) := dk_42 (dk_at dksX3_want_0 8 rfl rfl)
theorem dX3_want_9 : decode cX3_want 9 = .ok (.getfield 68, 3) := dk_180 0 68 (dk_at dksX3_want_0 9 rfl rfl)
theorem dX3_want_12 : decode cX3_want 12 = .ok (.invokespecial 88, 3) := dk_183 0 88 (dk_at dksX3_want_0 12 rfl rfl)
theorem dX3_want_15 : decode cX3_want 15 = .ok (.athrow, 1) := dk_191 (dk_at dksX3_want_0 15 rfl rfl)
theorem dX3_want_16 : decode cX3_want 16 = .ok (.return_, 1) := dk_177 (dk_at dksX3_want_0 16 rfl rfl)
abbrev cX3_number : ByteArray := prog_8_method_5_code
def yX3_number : MethodName := ⟨RX3, "number", "(II)I"⟩
def dkwX3_number_2 : List UInt8 := [180, 0, 17, 184, 0, 110, 62, 42, 29, 133, 27, 133, 28, 133, 184, 0, 50, 182, 0, 106, 29, 172]
abbrev dktX3_number_2 : List UInt8 := dkwX3_number_2 ++ []
def dkwX3_number_1 : List UInt8 := [42, 180, 0, 17, 3, 182, 0, 102, 182, 0, 71, 5, 160, 0, 7, 4, 167, 0, 4, 3, 182, 0, 106, 42]
abbrev dktX3_number_1 : List UInt8 := dkwX3_number_1 ++ dktX3_number_2
def dkwX3_number_0 : List UInt8 := [42, 182, 0, 91, 42, 42, 180, 0, 17, 182, 0, 94, 133, 10, 20, 0, 100, 184, 0, 50, 153, 0, 23, 42]
abbrev dktX3_number_0 : List UInt8 := dkwX3_number_0 ++ dktX3_number_1
theorem dksX3_number_0 : cX3_number.data.toList.drop 0 = dktX3_number_0 := by decide +kernel
theorem dksX3_number_1 : cX3_number.data.toList.drop 24 = dktX3_number_1 := dk_seg dksX3_number_0 24 rfl rfl
theorem dksX3_number_2 : cX3_number.data.toList.drop 48 = dktX3_number_2 := dk_seg dksX3_number_1 24 rfl rfl
theorem dX3_number_0 : decode cX3_number 0 = .ok (.aload_n 0, 1) := dk_42 (dk_at dksX3_number_0 0 rfl rfl)
theorem dX3_number_1 : decode cX3_number 1 = .ok (.invokevirtual 91, 3) := dk_182 0 91 (dk_at dksX3_number_0 1 rfl rfl)
theorem dX3_number_4 : decode cX3_number 4 = .ok (.aload_n 0, 1) := dk_42 (dk_at dksX3_number_0 4 rfl rfl)
theorem dX3_number_5 : decode cX3_number 5 = .ok (.aload_n 0, 1) := dk_42 (dk_at dksX3_number_0 5 rfl rfl)
theorem dX3_number_6 : decode cX3_number 6 = .ok (.getfield 17, 3) := dk_180 0 17 (dk_at dksX3_number_0 6 rfl rfl)
theorem dX3_number_9 : decode cX3_number 9 = .ok (.invokevirtual 94, 3) := dk_182 0 94 (dk_at dksX3_number_0 9 rfl rfl)
theorem dX3_number_12 : decode cX3_number 12 = .ok (.i2l, 1) := dk_133 (dk_at dksX3_number_0 12 rfl rfl)
theorem dX3_number_13 : decode cX3_number 13 = .ok (.lconst 1, 1) := dk_10 (dk_at dksX3_number_0 13 rfl rfl)
theorem dX3_number_14 : decode cX3_number 14 = .ok (.ldc2_w 100, 3) := dk_20 0 100 (dk_at dksX3_number_0 14 rfl rfl)
theorem dX3_number_17 : decode cX3_number 17 = .ok (.invokestatic 50, 3) := dk_184 0 50 (dk_at dksX3_number_0 17 rfl rfl)
theorem dX3_number_20 : decode cX3_number 20 = .ok (.ifCond .eq 23, 3) := dk_153 0 23 (dk_at dksX3_number_0 20 rfl rfl)
theorem dX3_number_23 : decode cX3_number 23 = .ok (.aload_n 0, 1) := dk_42 (dk_at dksX3_number_0 23 rfl rfl)
theorem dX3_number_24 : decode cX3_number 24 = .ok (.aload_n 0, 1) := dk_42 (dk_at dksX3_number_1 0 rfl rfl)
theorem dX3_number_25 : decode cX3_number 25 = .ok (.getfield 17, 3) := dk_180 0 17 (dk_at dksX3_number_1 1 rfl rfl)
theorem dX3_number_28 : decode cX3_number 28 = .ok (.iconst 0, 1) := dk_3 (dk_at dksX3_number_1 4 rfl rfl)
theorem dX3_number_29 : decode cX3_number 29 = .ok (.invokevirtual 102, 3) := dk_182 0 102 (dk_at dksX3_number_1 5 rfl rfl)
theorem dX3_number_32 : decode cX3_number 32 = .ok (.invokevirtual 71, 3) := dk_182 0 71 (dk_at dksX3_number_1 8 rfl rfl)
theorem dX3_number_35 : decode cX3_number 35 = .ok (.iconst 2, 1) := dk_5 (dk_at dksX3_number_1 11 rfl rfl)
theorem dX3_number_36 : decode cX3_number 36 = .ok (.if_icmp .ne 7, 3) := dk_160 0 7 (dk_at dksX3_number_1 12 rfl rfl)
theorem dX3_number_39 : decode cX3_number 39 = .ok (.iconst 1, 1) := dk_4 (dk_at dksX3_number_1 15 rfl rfl)
theorem dX3_number_40 : decode cX3_number 40 = .ok (.goto 4, 3) := dk_167 0 4 (dk_at dksX3_number_1 16 rfl rfl)
theorem dX3_number_43 : decode cX3_number 43 = .ok (.iconst 0, 1) := dk_3 (dk_at dksX3_number_1 19 rfl rfl)
theorem dX3_number_44 : decode cX3_number 44 = .ok (.invokevirtual 106, 3) := dk_182 0 106 (dk_at dksX3_number_1 20 rfl rfl)
theorem dX3_number_47 : decode cX3_number 47 = .ok (.aload_n 0, 1) := dk_42 (dk_at dksX3_number_1 23 rfl rfl)
theorem dX3_number_48 : decode cX3_number 48 = .ok (.getfield 17, 3) := dk_180 0 17 (dk_at dksX3_number_2 0 rfl rfl)
theorem dX3_number_51 : decode cX3_number 51 = .ok (.invokestatic 110, 3) := dk_184 0 110 (dk_at dksX3_number_2 3 rfl rfl)
theorem dX3_number_54 : decode cX3_number 54 = .ok (.istore_n 3, 1) := dk_62 (dk_at dksX3_number_2 6 rfl rfl)
theorem dX3_number_55 : decode cX3_number 55 = .ok (.aload_n 0, 1) := dk_42 (dk_at dksX3_number_2 7 rfl rfl)
theorem dX3_number_56 : decode cX3_number 56 = .ok (.iload_n 3, 1) := dk_29 (dk_at dksX3_number_2 8 rfl rfl)
theorem dX3_number_57 : decode cX3_number 57 = .ok (.i2l, 1) := dk_133 (dk_at dksX3_number_2 9 rfl rfl)
theorem dX3_number_58 : decode cX3_number 58 = .ok (.iload_n 1, 1) := dk_27 (dk_at dksX3_number_2 10 rfl rfl)
theorem dX3_number_59 : decode cX3_number 59 = .ok (.i2l, 1) := dk_133 (dk_at dksX3_number_2 11 rfl rfl)
theorem dX3_number_60 : decode cX3_number 60 = .ok (.iload_n 2, 1) := dk_28 (dk_at dksX3_number_2 12 rfl rfl)
theorem dX3_number_61 : decode cX3_number 61 = .ok (.i2l, 1) := dk_133 (dk_at dksX3_number_2 13 rfl rfl)
theorem dX3_number_62 : decode cX3_number 62 = .ok (.invokestatic 50, 3) := dk_184 0 50 (dk_at dksX3_number_2 14 rfl rfl)
theorem dX3_number_65 : decode cX3_number 65 = .ok (.invokevirtual 106, 3) := dk_182 0 106 (dk_at dksX3_number_2 17 rfl rfl)
theorem dX3_number_68 : decode cX3_number 68 = .ok (.iload_n 3, 1) := dk_29 (dk_at dksX3_number_2 20 rfl rfl)
theorem dX3_number_69 : decode cX3_number 69 = .ok (.ireturn, 1) := dk_172 (dk_at dksX3_number_2 21 rfl rfl)
theorem q54 : (Jvm.Cond.initialized "NutCaches$Reader") ∈ lw_all := lw_g (lw_at lw_m1 6 rfl) rfl
theorem q116 : (Jvm.Cond.fieldLink "NutCaches$Reader" (32 : Nat) "NutCaches$State" "pits" "I") ∈ lw_all := lw_g (lw_at lw_m1 68 rfl) rfl
theorem q171 : (Jvm.Cond.fieldLinkNest "NutCaches$Reader" (21 : Nat) "NutCaches" "many" "I" "NutCaches") ∈ lw_tbl := lw_at lw_m1 123 rfl
theorem q174 : (Jvm.Cond.fieldLinkNest "NutCaches$Reader" (28 : Nat) "NutCaches" "told" "LNutCaches$State;" "NutCaches") ∈ lw_tbl := lw_at lw_m1 126 rfl
theorem q184 : (Jvm.Cond.fieldLinkNest "NutCaches$Reader" (64 : Nat) "NutCaches" "text" "[B" "NutCaches") ∈ lw_tbl := lw_at lw_m1 136 rfl
theorem q186 : (Jvm.Cond.fieldLinkNest "NutCaches$Reader" (61 : Nat) "NutCaches" "letters" "I" "NutCaches") ∈ lw_tbl := lw_at lw_m1 138 rfl
theorem q233 : (Jvm.Cond.instantiable "NutCaches$Reader" (8 : Nat)) ∈ lw_all := lw_g (lw_at lw_m1 185 rfl) rfl
theorem q235 : (Jvm.Cond.instanceMethod ({ cls := "NutCaches$Reader", name := "<init>", desc := "(LNutCaches;)V" } : Jvm.MethodName)) ∈ lw_all := lw_g (lw_at lw_m1 187 rfl) rfl
theorem q236 : (Jvm.Cond.code ({ cls := "NutCaches$Reader", name := "<init>", desc := "(LNutCaches;)V" } : Jvm.MethodName) prog_8_method_1_code (2 : Nat) (Option.none : Option Jvm.ClassFile.FieldType)) ∈ lw_all := lw_g (lw_at lw_m1 188 rfl) rfl
theorem q237 : (Jvm.Cond.methodLink "NutCaches$Reader" (9 : Nat) ({ cls := "java/lang/Object", name := "<init>", desc := "()V" } : Jvm.MethodName)) ∈ lw_all := lw_g (lw_at lw_m1 189 rfl) rfl
theorem q238 : (Jvm.Cond.stringRef "NutCaches$Reader" (15 : Nat) "") ∈ lw_tbl := lw_at lw_m1 190 rfl
theorem q239 : (Jvm.Cond.classLink "NutCaches$Reader" (40 : Nat) "[I") ∈ lw_all := lw_g (lw_at lw_m1 191 rfl) rfl
theorem q240 : (Jvm.Cond.fieldLink "NutCaches$Reader" (58 : Nat) "NutCaches$Reader" "here" "I") ∈ lw_all := lw_g (lw_at lw_m1 192 rfl) rfl
theorem q241 : (Jvm.Cond.fieldLink "NutCaches$Reader" (68 : Nat) "NutCaches$Reader" "first" "I") ∈ lw_all := lw_g (lw_at lw_m1 193 rfl) rfl
theorem q242 : (Jvm.Cond.fieldLink "NutCaches$Reader" (17 : Nat) "NutCaches$Reader" "word" "Ljava/lang/String;") ∈ lw_all := lw_g (lw_at lw_m1 194 rfl) rfl
theorem q243 : (Jvm.Cond.fieldLink "NutCaches$Reader" (25 : Nat) "NutCaches$Reader" "there" "I") ∈ lw_all := lw_g (lw_at lw_m1 195 rfl) rfl
theorem q244 : (Jvm.Cond.fieldLink "NutCaches$Reader" (37 : Nat) "NutCaches$Reader" "dug" "I") ∈ lw_all := lw_g (lw_at lw_m1 196 rfl) rfl
theorem q245 : (Jvm.Cond.fieldLink "NutCaches$Reader" (42 : Nat) "NutCaches$Reader" "clauses" "[[I") ∈ lw_all := lw_g (lw_at lw_m1 197 rfl) rfl
theorem q247 : (Jvm.Cond.fieldLink "NutCaches$Reader" (136 : Nat) "NutCaches$Reader" "read" "I") ∈ lw_all := lw_g (lw_at lw_m1 199 rfl) rfl
theorem q249 : (Jvm.Cond.fieldLink "NutCaches$Reader" (3 : Nat) "NutCaches$Reader" "this$0" "LNutCaches;") ∈ lw_all := lw_g (lw_at lw_m1 201 rfl) rfl
theorem q250 : (Jvm.Cond.lays "NutCaches$Reader" "NutCaches$Reader" "here" "I") ∈ lw_all := lw_g (lw_at lw_m1 202 rfl) rfl
theorem q251 : (Jvm.Cond.soleField "NutCaches$Reader" "here") ∈ lw_all := lw_g (lw_at lw_m1 203 rfl) rfl
theorem q252 : (Jvm.Cond.lays "NutCaches$Reader" "NutCaches$Reader" "first" "I") ∈ lw_all := lw_g (lw_at lw_m1 204 rfl) rfl
theorem q253 : (Jvm.Cond.soleField "NutCaches$Reader" "first") ∈ lw_all := lw_g (lw_at lw_m1 205 rfl) rfl
theorem q254 : (Jvm.Cond.lays "NutCaches$Reader" "NutCaches$Reader" "word" "Ljava/lang/String;") ∈ lw_all := lw_g (lw_at lw_m1 206 rfl) rfl
theorem q255 : (Jvm.Cond.soleField "NutCaches$Reader" "word") ∈ lw_all := lw_g (lw_at lw_m1 207 rfl) rfl
theorem q256 : (Jvm.Cond.lays "NutCaches$Reader" "NutCaches$Reader" "there" "I") ∈ lw_all := lw_g (lw_at lw_m1 208 rfl) rfl
theorem q257 : (Jvm.Cond.soleField "NutCaches$Reader" "there") ∈ lw_all := lw_g (lw_at lw_m1 209 rfl) rfl
theorem q258 : (Jvm.Cond.lays "NutCaches$Reader" "NutCaches$Reader" "dug" "I") ∈ lw_all := lw_g (lw_at lw_m1 210 rfl) rfl
theorem q259 : (Jvm.Cond.soleField "NutCaches$Reader" "dug") ∈ lw_all := lw_g (lw_at lw_m1 211 rfl) rfl
theorem q260 : (Jvm.Cond.laysFinal "NutCaches$Reader" "NutCaches$Reader" "clauses" "[[I") ∈ lw_all := lw_g (lw_at lw_m1 212 rfl) rfl
theorem q261 : (Jvm.Cond.soleField "NutCaches$Reader" "clauses") ∈ lw_all := lw_g (lw_at lw_m1 213 rfl) rfl
theorem q262 : (Jvm.Cond.lays "NutCaches$Reader" "NutCaches$Reader" "read" "I") ∈ lw_all := lw_g (lw_at lw_m1 214 rfl) rfl
theorem q263 : (Jvm.Cond.soleField "NutCaches$Reader" "read") ∈ lw_all := lw_g (lw_at lw_m1 215 rfl) rfl
theorem q264 : (Jvm.Cond.laysFinal "NutCaches$Reader" "NutCaches$Reader" "this$0" "LNutCaches;") ∈ lw_all := lw_g (lw_at lw_m1 216 rfl) rfl
theorem q265 : (Jvm.Cond.soleField "NutCaches$Reader" "this$0") ∈ lw_all := lw_g (lw_at lw_m1 217 rfl) rfl
theorem q266 : (Jvm.Cond.superclass "NutCaches$Reader" "java/lang/Object") ∈ lw_all := lw_g (lw_at lw_m1 218 rfl) rfl
theorem q268 : (Jvm.Cond.instanceMethod ({ cls := "NutCaches$Reader", name := "read", desc := "()LNutCaches$Reader;" } : Jvm.MethodName)) ∈ lw_all := lw_g (lw_at lw_m1 220 rfl) rfl
theorem q269 : (Jvm.Cond.selects "NutCaches$Reader" ({ cls := "NutCaches$Reader", name := "read", desc := "()LNutCaches$Reader;" } : Jvm.MethodName) ({ cls := "NutCaches$Reader", name := "read", desc := "()LNutCaches$Reader;" } : Jvm.MethodName)) ∈ lw_all := lw_g (lw_at lw_m1 221 rfl) rfl
theorem q270 : (Jvm.Cond.code ({ cls := "NutCaches$Reader", name := "read", desc := "()LNutCaches$Reader;" } : Jvm.MethodName) prog_8_method_7_code (2 : Nat) (Option.some (Jvm.ClassFile.FieldType.object "NutCaches$Reader"))) ∈ lw_all := lw_g (lw_at lw_m1 222 rfl) rfl
theorem q271 : (Jvm.Cond.methodLink "NutCaches$Reader" (139 : Nat) ({ cls := "NutCaches$Reader", name := "clause", desc := "()[I" } : Jvm.MethodName)) ∈ lw_all := lw_g (lw_at lw_m1 223 rfl) rfl
theorem q272 : (Jvm.Cond.privateMethod ({ cls := "NutCaches$Reader", name := "clause", desc := "()[I" } : Jvm.MethodName)) ∈ lw_tbl := lw_at lw_m1 224 rfl
theorem q273 : (Jvm.Cond.instanceMethod ({ cls := "NutCaches$Reader", name := "clause", desc := "()[I" } : Jvm.MethodName)) ∈ lw_all := lw_g (lw_at lw_m1 225 rfl) rfl
theorem q274 : (Jvm.Cond.code ({ cls := "NutCaches$Reader", name := "clause", desc := "()[I" } : Jvm.MethodName) prog_8_method_6_code (2 : Nat) (Option.some (Jvm.ClassFile.FieldType.array Jvm.ClassFile.FieldType.int))) ∈ lw_all := lw_g (lw_at lw_m1 226 rfl) rfl
theorem q275 : (Jvm.Cond.methodLink "NutCaches$Reader" (91 : Nat) ({ cls := "NutCaches$Reader", name := "take", desc := "()V" } : Jvm.MethodName)) ∈ lw_all := lw_g (lw_at lw_m1 227 rfl) rfl
theorem q276 : (Jvm.Cond.privateMethod ({ cls := "NutCaches$Reader", name := "take", desc := "()V" } : Jvm.MethodName)) ∈ lw_tbl := lw_at lw_m1 228 rfl
theorem q277 : (Jvm.Cond.instanceMethod ({ cls := "NutCaches$Reader", name := "take", desc := "()V" } : Jvm.MethodName)) ∈ lw_all := lw_g (lw_at lw_m1 229 rfl) rfl
theorem q278 : (Jvm.Cond.code ({ cls := "NutCaches$Reader", name := "take", desc := "()V" } : Jvm.MethodName) prog_8_method_3_code (3 : Nat) (Option.none : Option Jvm.ClassFile.FieldType)) ∈ lw_all := lw_g (lw_at lw_m1 230 rfl) rfl
theorem q279 : (Jvm.Cond.methodLink "NutCaches$Reader" (71 : Nat) ({ cls := "NutCaches$Reader", name := "kindOf", desc := "(I)I" } : Jvm.MethodName)) ∈ lw_all := lw_g (lw_at lw_m1 231 rfl) rfl
theorem q280 : (Jvm.Cond.privateMethod ({ cls := "NutCaches$Reader", name := "kindOf", desc := "(I)I" } : Jvm.MethodName)) ∈ lw_tbl := lw_at lw_m1 232 rfl
theorem q281 : (Jvm.Cond.instanceMethod ({ cls := "NutCaches$Reader", name := "kindOf", desc := "(I)I" } : Jvm.MethodName)) ∈ lw_all := lw_g (lw_at lw_m1 233 rfl) rfl
theorem q282 : (Jvm.Cond.code ({ cls := "NutCaches$Reader", name := "kindOf", desc := "(I)I" } : Jvm.MethodName) prog_8_method_2_code (2 : Nat) (Option.some Jvm.ClassFile.FieldType.int)) ∈ lw_all := lw_g (lw_at lw_m1 234 rfl) rfl
theorem q283 : (Jvm.Cond.constantLong "NutCaches$Reader" (46 : Nat) (97 : Int64)) ∈ lw_all := lw_g (lw_at lw_m1 235 rfl) rfl
theorem q284 : (Jvm.Cond.constantLong "NutCaches$Reader" (48 : Nat) (122 : Int64)) ∈ lw_all := lw_g (lw_at lw_m1 236 rfl) rfl
theorem q285 : (Jvm.Cond.methodLinkNest "NutCaches$Reader" (50 : Nat) ({ cls := "NutCaches", name := "in", desc := "(JJJ)Z" } : Jvm.MethodName) "NutCaches") ∈ lw_tbl := lw_at lw_m1 237 rfl
theorem q286 : (Jvm.Cond.constantLong "NutCaches$Reader" (54 : Nat) (48 : Int64)) ∈ lw_all := lw_g (lw_at lw_m1 238 rfl) rfl
theorem q287 : (Jvm.Cond.constantLong "NutCaches$Reader" (56 : Nat) (57 : Int64)) ∈ lw_all := lw_g (lw_at lw_m1 239 rfl) rfl
theorem q288 : (Jvm.Cond.classLink "NutCaches$Reader" (75 : Nat) "java/lang/StringBuilder") ∈ lw_all := lw_g (lw_at lw_m2 0 rfl) rfl
theorem q290 : (Jvm.Cond.methodLink "NutCaches$Reader" (77 : Nat) ({ cls := "java/lang/StringBuilder", name := "<init>", desc := "()V" } : Jvm.MethodName)) ∈ lw_all := lw_g (lw_at lw_m2 2 rfl) rfl
theorem q319 : (Jvm.Cond.methodLink "NutCaches$Reader" (78 : Nat) ({ cls := "java/lang/StringBuilder", name := "append", desc := "(C)Ljava/lang/StringBuilder;" } : Jvm.MethodName)) ∈ lw_all := lw_g (lw_at lw_m2 31 rfl) rfl
theorem q412 : (Jvm.Cond.methodLink "NutCaches$Reader" (82 : Nat) ({ cls := "java/lang/StringBuilder", name := "toString", desc := "()Ljava/lang/String;" } : Jvm.MethodName)) ∈ lw_all := lw_g (lw_at lw_m2 124 rfl) rfl
theorem q473 : (Jvm.Cond.fieldLinkNest "NutCaches$Reader" (116 : Nat) "NutCaches" "HEADS" "[Ljava/lang/String;" "NutCaches") ∈ lw_tbl := lw_at lw_m2 185 rfl
theorem q475 : (Jvm.Cond.methodLink "NutCaches$Reader" (120 : Nat) ({ cls := "java/util/Arrays", name := "asList", desc := "([Ljava/lang/Object;)Ljava/util/List;" } : Jvm.MethodName)) ∈ lw_all := lw_g (lw_at lw_m2 187 rfl) rfl
theorem q591 : (Jvm.Cond.interfaceEntry "NutCaches$Reader" (126 : Nat)) ∈ lw_tbl := lw_at lw_m3 63 rfl
theorem q592 : (Jvm.Cond.methodLink "NutCaches$Reader" (126 : Nat) ({ cls := "java/util/List", name := "indexOf", desc := "(Ljava/lang/Object;)I" } : Jvm.MethodName)) ∈ lw_all := lw_g (lw_at lw_m3 64 rfl) rfl
theorem q615 : (Jvm.Cond.selects "NutCaches$Reader" ({ cls := "java/lang/Object", name := "equals", desc := "(Ljava/lang/Object;)Z" } : Jvm.MethodName) ({ cls := "java/lang/Object", name := "equals", desc := "(Ljava/lang/Object;)Z" } : Jvm.MethodName)) ∈ lw_all := lw_g (lw_at lw_m3 87 rfl) rfl
theorem q648 : (Jvm.Cond.methodLink "NutCaches$Reader" (106 : Nat) ({ cls := "NutCaches$Reader", name := "want", desc := "(Z)V" } : Jvm.MethodName)) ∈ lw_all := lw_g (lw_at lw_m3 120 rfl) rfl
theorem q649 : (Jvm.Cond.privateMethod ({ cls := "NutCaches$Reader", name := "want", desc := "(Z)V" } : Jvm.MethodName)) ∈ lw_tbl := lw_at lw_m3 121 rfl
theorem q650 : (Jvm.Cond.instanceMethod ({ cls := "NutCaches$Reader", name := "want", desc := "(Z)V" } : Jvm.MethodName)) ∈ lw_all := lw_g (lw_at lw_m3 122 rfl) rfl
theorem q651 : (Jvm.Cond.code ({ cls := "NutCaches$Reader", name := "want", desc := "(Z)V" } : Jvm.MethodName) prog_8_method_4_code (2 : Nat) (Option.none : Option Jvm.ClassFile.FieldType)) ∈ lw_all := lw_g (lw_at lw_m3 123 rfl) rfl
theorem q652 : (Jvm.Cond.classLink "NutCaches$Reader" (86 : Nat) "NutCaches$Fault") ∈ lw_all := lw_g (lw_at lw_m3 124 rfl) rfl
theorem q661 : (Jvm.Cond.methodLink "NutCaches$Reader" (88 : Nat) ({ cls := "NutCaches$Fault", name := "<init>", desc := "(I)V" } : Jvm.MethodName)) ∈ lw_all := lw_g (lw_at lw_m3 133 rfl) rfl
theorem q676 : (Jvm.Cond.methodLink "NutCaches$Reader" (132 : Nat) ({ cls := "NutCaches$Reader", name := "number", desc := "(II)I" } : Jvm.MethodName)) ∈ lw_all := lw_g (lw_at lw_m3 148 rfl) rfl
theorem q677 : (Jvm.Cond.privateMethod ({ cls := "NutCaches$Reader", name := "number", desc := "(II)I" } : Jvm.MethodName)) ∈ lw_tbl := lw_at lw_m3 149 rfl
theorem q678 : (Jvm.Cond.instanceMethod ({ cls := "NutCaches$Reader", name := "number", desc := "(II)I" } : Jvm.MethodName)) ∈ lw_all := lw_g (lw_at lw_m3 150 rfl) rfl
theorem q679 : (Jvm.Cond.code ({ cls := "NutCaches$Reader", name := "number", desc := "(II)I" } : Jvm.MethodName) prog_8_method_5_code (4 : Nat) (Option.some Jvm.ClassFile.FieldType.int)) ∈ lw_all := lw_g (lw_at lw_m3 151 rfl) rfl
theorem q680 : (Jvm.Cond.methodLink "NutCaches$Reader" (94 : Nat) ({ cls := "java/lang/String", name := "length", desc := "()I" } : Jvm.MethodName)) ∈ lw_all := lw_g (lw_at lw_m3 152 rfl) rfl
theorem q688 : (Jvm.Cond.constantLong "NutCaches$Reader" (100 : Nat) (2 : Int64)) ∈ lw_all := lw_g (lw_at lw_m3 160 rfl) rfl
theorem q689 : (Jvm.Cond.methodLink "NutCaches$Reader" (102 : Nat) ({ cls := "java/lang/String", name := "charAt", desc := "(I)C" } : Jvm.MethodName)) ∈ lw_all := lw_g (lw_at lw_m3 161 rfl) rfl
theorem q704 : (Jvm.Cond.methodLink "NutCaches$Reader" (110 : Nat) ({ cls := "java/lang/Integer", name := "parseInt", desc := "(Ljava/lang/String;)I" } : Jvm.MethodName)) ∈ lw_all := lw_g (lw_at lw_m3 176 rfl) rfl
theorem q733 : (Jvm.Cond.stringRef "NutCaches$Reader" (143 : Nat) ";") ∈ lw_tbl := lw_at lw_m3 205 rfl
theorem q734 : (Jvm.Cond.methodLink "NutCaches$Reader" (145 : Nat) ({ cls := "java/lang/String", name := "equals", desc := "(Ljava/lang/Object;)Z" } : Jvm.MethodName)) ∈ lw_all := lw_g (lw_at lw_m3 206 rfl) rfl
theorem q735 : (Jvm.Cond.methodLink "NutCaches$Reader" (149 : Nat) ({ cls := "java/lang/String", name := "isEmpty", desc := "()Z" } : Jvm.MethodName)) ∈ lw_all := lw_g (lw_at lw_m3 207 rfl) rfl
theorem q1428 : (Jvm.Cond.selects "NutCaches$Reader" ({ cls := "java/lang/Object", name := "getClass", desc := "()Ljava/lang/Class;" } : Jvm.MethodName) ({ cls := "java/lang/Object", name := "getClass", desc := "()Ljava/lang/Class;" } : Jvm.MethodName)) ∈ lw_all := lw_g (lw_at lw_m6 180 rfl) rfl
theorem q2209 : (Jvm.Cond.castable "NutCaches$Reader" "java/lang/Object") ∈ lw_tbl := lw_at lw_m10 1 rfl
theorem in_X3 : ∀ w ∈ wsX30, w ∈ lw_all := lw_in wsX30 [250, 252, 254, 256, 258, 260, 262, 264] (by decide +kernel) (by decide +kernel)
/-! NutCaches$Fault -/
set_option maxRecDepth 100000
def RX4 : String := "NutCaches$Fault"
def TX4 : u_T := fun k => match k with
  | 0 => ("java/lang/Throwable", "cause", "Ljava/lang/Throwable;", false)
  | 1 => ("java/lang/Throwable", "stackTrace", "[Ljava/lang/StackTraceElement;", false)
  | 2 => ("java/lang/Throwable", "suppressedExceptions", "Ljava/util/List;", false)
  | 3 => ("java/lang/Throwable", "detailMessage", "Ljava/lang/String;", false)
  | 4 => ("java/lang/Throwable", "backtrace", "Ljava/lang/Object;", false)
  | 5 => ("java/lang/Throwable", "depth", "I", false)
  | _ => ("NutCaches$Fault", "at", "I", true)
def tyX4 : Nat → FieldType := fun k => match k with
  | 0 => .object "java/lang/Throwable"
  | 1 => .array (.object "java/lang/StackTraceElement")
  | 2 => .object "java/util/List"
  | 3 => .object "java/lang/String"
  | 4 => .object "java/lang/Object"
  | 5 => .int
  | _ => .int
abbrev wsX40 : List Cond := u_ws RX4 TX4 7
theorem nmX4 : ∀ a, a < 7 → ∀ b, b < 7 → a ≠ b → (TX4 a).2.1 ≠ (TX4 b).2.1 := by decide +kernel
theorem tyX4_ok : ∀ k, k < 7 → parseFieldDescriptor (TX4 k).2.2.1 = some (tyX4 k) := by decide +kernel
abbrev cX4_init : ByteArray := prog_3_method_1_code
def yX4_init : MethodName := ⟨RX4, "<init>", "(I)V"⟩
def dkwX4_init_0 : List UInt8 := [42, 1, 1, 3, 3, 183, 0, 1, 42, 27, 181, 0, 7, 177]
abbrev dktX4_init_0 : List UInt8 := dkwX4_init_0 ++ []
theorem dksX4_init_0 : cX4_init.data.toList.drop 0 = dktX4_init_0 := by decide +kernel
theorem dX4_init_0 : decode cX4_init 0 = .ok (.aload_n 0, 1) := dk_42 (dk_at dksX4_init_0 0 rfl rfl)
theorem dX4_init_1 : decode cX4_init 1 = .ok (.aconst_null, 1) := dk_1 (dk_at dksX4_init_0 1 rfl rfl)
theorem dX4_init_2 : decode cX4_init 2 = .ok (.aconst_null, 1) := dk_1 (dk_at dksX4_init_0 2 rfl rfl)
theorem dX4_init_3 : decode cX4_init 3 = .ok (.iconst 0, 1) := dk_3 (dk_at dksX4_init_0 3 rfl rfl)
theorem dX4_init_4 : decode cX4_init 4 = .ok (.iconst 0, 1) := dk_3 (dk_at dksX4_init_0 4 rfl rfl)
theorem dX4_init_5 : decode cX4_init 5 = .ok (.invokespecial 1, 3) := dk_183 0 1 (dk_at dksX4_init_0 5 rfl rfl)
theorem dX4_init_8 : decode cX4_init 8 = .ok (.aload_n 0, 1) := dk_42 (dk_at dksX4_init_0 8 rfl rfl)
theorem dX4_init_9 : decode cX4_init 9 = .ok (.iload_n 1, 1) := dk_27 (dk_at dksX4_init_0 9 rfl rfl)
theorem dX4_init_10 : decode cX4_init 10 = .ok (.putfield 7, 3) := dk_181 0 7 (dk_at dksX4_init_0 10 rfl rfl)
theorem dX4_init_13 : decode cX4_init 13 = .ok (.return_, 1) := dk_177 (dk_at dksX4_init_0 13 rfl rfl)
theorem q71 : (Jvm.Cond.initialized "NutCaches$Fault") ∈ lw_all := lw_g (lw_at lw_m1 23 rfl) rfl
theorem q525 : (Jvm.Cond.selects "NutCaches$Fault" ({ cls := "java/lang/Throwable", name := "fillInStackTrace", desc := "()Ljava/lang/Throwable;" } : Jvm.MethodName) ({ cls := "java/lang/Throwable", name := "fillInStackTrace", desc := "()Ljava/lang/Throwable;" } : Jvm.MethodName)) ∈ lw_all := lw_g (lw_at lw_m2 237 rfl) rfl
theorem q611 : (Jvm.Cond.selects "NutCaches$Fault" ({ cls := "java/lang/Object", name := "equals", desc := "(Ljava/lang/Object;)Z" } : Jvm.MethodName) ({ cls := "java/lang/Object", name := "equals", desc := "(Ljava/lang/Object;)Z" } : Jvm.MethodName)) ∈ lw_all := lw_g (lw_at lw_m3 83 rfl) rfl
theorem q653 : (Jvm.Cond.instantiable "NutCaches$Fault" (7 : Nat)) ∈ lw_all := lw_g (lw_at lw_m3 125 rfl) rfl
theorem q654 : (Jvm.Cond.castable "NutCaches$Fault" "NutCaches$Fault") ∈ lw_tbl := lw_at lw_m3 126 rfl
theorem q655 : (Jvm.Cond.selects "NutCaches$Fault" ({ cls := "java/lang/Throwable", name := "fillInStackTrace", desc := "(I)Ljava/lang/Throwable;" } : Jvm.MethodName) ({ cls := "java/lang/Throwable", name := "fillInStackTrace", desc := "(I)Ljava/lang/Throwable;" } : Jvm.MethodName)) ∈ lw_all := lw_g (lw_at lw_m3 127 rfl) rfl
theorem q656 : (Jvm.Cond.lays "NutCaches$Fault" "java/lang/Throwable" "cause" "Ljava/lang/Throwable;") ∈ lw_all := lw_g (lw_at lw_m3 128 rfl) rfl
theorem q657 : (Jvm.Cond.lays "NutCaches$Fault" "java/lang/Throwable" "stackTrace" "[Ljava/lang/StackTraceElement;") ∈ lw_all := lw_g (lw_at lw_m3 129 rfl) rfl
theorem q658 : (Jvm.Cond.lays "NutCaches$Fault" "java/lang/Throwable" "suppressedExceptions" "Ljava/util/List;") ∈ lw_all := lw_g (lw_at lw_m3 130 rfl) rfl
theorem q659 : (Jvm.Cond.lays "NutCaches$Fault" "java/lang/Throwable" "detailMessage" "Ljava/lang/String;") ∈ lw_all := lw_g (lw_at lw_m3 131 rfl) rfl
theorem q660 : (Jvm.Cond.lays "NutCaches$Fault" "java/lang/Throwable" "backtrace" "Ljava/lang/Object;") ∈ lw_all := lw_g (lw_at lw_m3 132 rfl) rfl
theorem q662 : (Jvm.Cond.instanceMethod ({ cls := "NutCaches$Fault", name := "<init>", desc := "(I)V" } : Jvm.MethodName)) ∈ lw_all := lw_g (lw_at lw_m3 134 rfl) rfl
theorem q663 : (Jvm.Cond.code ({ cls := "NutCaches$Fault", name := "<init>", desc := "(I)V" } : Jvm.MethodName) prog_3_method_1_code (2 : Nat) (Option.none : Option Jvm.ClassFile.FieldType)) ∈ lw_all := lw_g (lw_at lw_m3 135 rfl) rfl
theorem q664 : (Jvm.Cond.methodLink "NutCaches$Fault" (1 : Nat) ({ cls := "java/lang/Exception", name := "<init>", desc := "(Ljava/lang/String;Ljava/lang/Throwable;ZZ)V" } : Jvm.MethodName)) ∈ lw_all := lw_g (lw_at lw_m3 136 rfl) rfl
theorem q670 : (Jvm.Cond.fieldLink "NutCaches$Fault" (7 : Nat) "NutCaches$Fault" "at" "I") ∈ lw_all := lw_g (lw_at lw_m3 142 rfl) rfl
theorem q672 : (Jvm.Cond.laysFinal "NutCaches$Fault" "NutCaches$Fault" "at" "I") ∈ lw_all := lw_g (lw_at lw_m3 144 rfl) rfl
theorem q673 : (Jvm.Cond.soleField "NutCaches$Fault" "at") ∈ lw_all := lw_g (lw_at lw_m3 145 rfl) rfl
theorem q674 : (Jvm.Cond.lays "NutCaches$Fault" "java/lang/Throwable" "depth" "I") ∈ lw_all := lw_g (lw_at lw_m3 146 rfl) rfl
theorem q675 : (Jvm.Cond.superclass "NutCaches$Fault" "java/lang/Exception") ∈ lw_all := lw_g (lw_at lw_m3 147 rfl) rfl
theorem q1412 : (Jvm.Cond.selects "NutCaches$Fault" ({ cls := "java/lang/Throwable", name := "toString", desc := "()Ljava/lang/String;" } : Jvm.MethodName) ({ cls := "java/lang/Throwable", name := "toString", desc := "()Ljava/lang/String;" } : Jvm.MethodName)) ∈ lw_all := lw_g (lw_at lw_m6 164 rfl) rfl
theorem q1424 : (Jvm.Cond.selects "NutCaches$Fault" ({ cls := "java/lang/Object", name := "getClass", desc := "()Ljava/lang/Class;" } : Jvm.MethodName) ({ cls := "java/lang/Object", name := "getClass", desc := "()Ljava/lang/Class;" } : Jvm.MethodName)) ∈ lw_all := lw_g (lw_at lw_m6 176 rfl) rfl
theorem q1450 : (Jvm.Cond.selects "NutCaches$Fault" ({ cls := "java/lang/Throwable", name := "getLocalizedMessage", desc := "()Ljava/lang/String;" } : Jvm.MethodName) ({ cls := "java/lang/Throwable", name := "getLocalizedMessage", desc := "()Ljava/lang/String;" } : Jvm.MethodName)) ∈ lw_all := lw_g (lw_at lw_m6 202 rfl) rfl
theorem q1460 : (Jvm.Cond.selects "NutCaches$Fault" ({ cls := "java/lang/Throwable", name := "getMessage", desc := "()Ljava/lang/String;" } : Jvm.MethodName) ({ cls := "java/lang/Throwable", name := "getMessage", desc := "()Ljava/lang/String;" } : Jvm.MethodName)) ∈ lw_all := lw_g (lw_at lw_m6 212 rfl) rfl
theorem q2213 : (Jvm.Cond.castable "NutCaches$Fault" "java/lang/Object") ∈ lw_tbl := lw_at lw_m10 5 rfl
theorem in_X4 : ∀ w ∈ wsX40, w ∈ lw_all := lw_in wsX40 [656, 657, 658, 659, 660, 674, 672] (by decide +kernel) (by decide +kernel)
/-! NutCaches$Squirrel -/
set_option maxRecDepth 100000
def RX5 : String := "NutCaches$Squirrel"
abbrev cX5_init : ByteArray := prog_10_method_1_code
def yX5_init : MethodName := ⟨RX5, "<init>", "(II)V"⟩
def dkwX5_init_0 : List UInt8 := [42, 183, 0, 1, 42, 27, 181, 0, 7, 42, 28, 181, 0, 13, 177]
abbrev dktX5_init_0 : List UInt8 := dkwX5_init_0 ++ []
theorem dksX5_init_0 : cX5_init.data.toList.drop 0 = dktX5_init_0 := by decide +kernel
theorem dX5_init_0 : decode cX5_init 0 = .ok (.aload_n 0, 1) := dk_42 (dk_at dksX5_init_0 0 rfl rfl)
theorem dX5_init_1 : decode cX5_init 1 = .ok (.invokespecial 1, 3) := dk_183 0 1 (dk_at dksX5_init_0 1 rfl rfl)
theorem dX5_init_4 : decode cX5_init 4 = .ok (.aload_n 0, 1) := dk_42 (dk_at dksX5_init_0 4 rfl rfl)
theorem dX5_init_5 : decode cX5_init 5 = .ok (.iload_n 1, 1) := dk_27 (dk_at dksX5_init_0 5 rfl rfl)
theorem dX5_init_6 : decode cX5_init 6 = .ok (.putfield 7, 3) := dk_181 0 7 (dk_at dksX5_init_0 6 rfl rfl)
theorem dX5_init_9 : decode cX5_init 9 = .ok (.aload_n 0, 1) := dk_42 (dk_at dksX5_init_0 9 rfl rfl)
theorem dX5_init_10 : decode cX5_init 10 = .ok (.iload_n 2, 1) := dk_28 (dk_at dksX5_init_0 10 rfl rfl)
theorem dX5_init_11 : decode cX5_init 11 = .ok (.putfield 13, 3) := dk_181 0 13 (dk_at dksX5_init_0 11 rfl rfl)
theorem dX5_init_14 : decode cX5_init 14 = .ok (.return_, 1) := dk_177 (dk_at dksX5_init_0 14 rfl rfl)
abbrev cX5_wants : ByteArray := prog_10_method_3_code
def yX5_wants : MethodName := ⟨RX5, "wants", "()I"⟩
def dkwX5_wants_0 : List UInt8 := [42, 42, 180, 0, 13, 182, 0, 16, 172]
abbrev dktX5_wants_0 : List UInt8 := dkwX5_wants_0 ++ []
theorem dksX5_wants_0 : cX5_wants.data.toList.drop 0 = dktX5_wants_0 := by decide +kernel
theorem dX5_wants_0 : decode cX5_wants 0 = .ok (.aload_n 0, 1) := dk_42 (dk_at dksX5_wants_0 0 rfl rfl)
theorem dX5_wants_1 : decode cX5_wants 1 = .ok (.aload_n 0, 1) := dk_42 (dk_at dksX5_wants_0 1 rfl rfl)
theorem dX5_wants_2 : decode cX5_wants 2 = .ok (.getfield 13, 3) := dk_180 0 13 (dk_at dksX5_wants_0 2 rfl rfl)
theorem dX5_wants_5 : decode cX5_wants 5 = .ok (.invokevirtual 16, 3) := dk_182 0 16 (dk_at dksX5_wants_0 5 rfl rfl)
theorem dX5_wants_8 : decode cX5_wants 8 = .ok (.ireturn, 1) := dk_172 (dk_at dksX5_wants_0 8 rfl rfl)
theorem q77 : (Jvm.Cond.initialized "NutCaches$Squirrel") ∈ lw_all := lw_g (lw_at lw_m1 29 rfl) rfl
theorem q760 : (Jvm.Cond.instanceMethod ({ cls := "NutCaches$Squirrel", name := "<init>", desc := "(II)V" } : Jvm.MethodName)) ∈ lw_all := lw_g (lw_at lw_m3 232 rfl) rfl
theorem q761 : (Jvm.Cond.code ({ cls := "NutCaches$Squirrel", name := "<init>", desc := "(II)V" } : Jvm.MethodName) prog_10_method_1_code (3 : Nat) (Option.none : Option Jvm.ClassFile.FieldType)) ∈ lw_all := lw_g (lw_at lw_m3 233 rfl) rfl
theorem q762 : (Jvm.Cond.methodLink "NutCaches$Squirrel" (1 : Nat) ({ cls := "java/lang/Object", name := "<init>", desc := "()V" } : Jvm.MethodName)) ∈ lw_all := lw_g (lw_at lw_m3 234 rfl) rfl
theorem q763 : (Jvm.Cond.fieldLink "NutCaches$Squirrel" (7 : Nat) "NutCaches$Squirrel" "number" "I") ∈ lw_all := lw_g (lw_at lw_m3 235 rfl) rfl
theorem q765 : (Jvm.Cond.fieldLink "NutCaches$Squirrel" (13 : Nat) "NutCaches$Squirrel" "needs" "I") ∈ lw_all := lw_g (lw_at lw_m3 237 rfl) rfl
theorem q769 : (Jvm.Cond.soleField "NutCaches$Squirrel" "number") ∈ lw_all := lw_g (lw_at lw_m4 1 rfl) rfl
theorem q771 : (Jvm.Cond.soleField "NutCaches$Squirrel" "needs") ∈ lw_all := lw_g (lw_at lw_m4 3 rfl) rfl
theorem q838 : (Jvm.Cond.declares ({ cls := "NutCaches$Squirrel", name := "kind", desc := "()I" } : Jvm.MethodName)) ∈ lw_tbl := lw_at lw_m4 70 rfl
theorem q839 : (Jvm.Cond.sameMethod "NutCaches$Squirrel" "NutCaches$Squirrel" "kind" "()I") ∈ lw_all := lw_g (lw_at lw_m4 71 rfl) rfl
theorem q862 : (Jvm.Cond.instanceMethod ({ cls := "NutCaches$Squirrel", name := "wants", desc := "()I" } : Jvm.MethodName)) ∈ lw_all := lw_g (lw_at lw_m4 94 rfl) rfl
theorem q863 : (Jvm.Cond.sameMethod "NutCaches$Squirrel" "NutCaches$Squirrel" "wants" "()I") ∈ lw_all := lw_g (lw_at lw_m4 95 rfl) rfl
theorem q869 : (Jvm.Cond.code ({ cls := "NutCaches$Squirrel", name := "wants", desc := "()I" } : Jvm.MethodName) prog_10_method_3_code (1 : Nat) (Option.some Jvm.ClassFile.FieldType.int)) ∈ lw_all := lw_g (lw_at lw_m4 101 rfl) rfl
theorem q870 : (Jvm.Cond.superclass "NutCaches$Squirrel" "java/lang/Object") ∈ lw_all := lw_g (lw_at lw_m4 102 rfl) rfl
/-! NutCaches$Plain -/
set_option maxRecDepth 100000
def RX6 : String := "NutCaches$Plain"
def TX6 : u_T := fun k => match k with
  | 0 => ("NutCaches$Squirrel", "number", "I", true)
  | _ => ("NutCaches$Squirrel", "needs", "I", true)
def tyX6 : Nat → FieldType := fun k => match k with
  | 0 => .int
  | _ => .int
abbrev wsX60 : List Cond := u_ws RX6 TX6 2
theorem nmX6 : ∀ a, a < 2 → ∀ b, b < 2 → a ≠ b → (TX6 a).2.1 ≠ (TX6 b).2.1 := by decide +kernel
theorem tyX6_ok : ∀ k, k < 2 → parseFieldDescriptor (TX6 k).2.2.1 = some (tyX6 k) := by decide +kernel
abbrev cX6_init : ByteArray := prog_7_method_1_code
def yX6_init : MethodName := ⟨RX6, "<init>", "(II)V"⟩
def dkwX6_init_0 : List UInt8 := [42, 27, 28, 183, 0, 3, 177]
abbrev dktX6_init_0 : List UInt8 := dkwX6_init_0 ++ []
theorem dksX6_init_0 : cX6_init.data.toList.drop 0 = dktX6_init_0 := by decide +kernel
theorem dX6_init_0 : decode cX6_init 0 = .ok (.aload_n 0, 1) := dk_42 (dk_at dksX6_init_0 0 rfl rfl)
theorem dX6_init_1 : decode cX6_init 1 = .ok (.iload_n 1, 1) := dk_27 (dk_at dksX6_init_0 1 rfl rfl)
theorem dX6_init_2 : decode cX6_init 2 = .ok (.iload_n 2, 1) := dk_28 (dk_at dksX6_init_0 2 rfl rfl)
theorem dX6_init_3 : decode cX6_init 3 = .ok (.invokespecial 3, 3) := dk_183 0 3 (dk_at dksX6_init_0 3 rfl rfl)
theorem dX6_init_6 : decode cX6_init 6 = .ok (.return_, 1) := dk_177 (dk_at dksX6_init_0 6 rfl rfl)
abbrev cX6_kind : ByteArray := prog_7_method_2_code
def yX6_kind : MethodName := ⟨RX6, "kind", "()I"⟩
theorem dX6_kind_0 : decode cX6_kind 0 = .ok (.iconst 0, 1) := by decide +kernel
theorem dX6_kind_1 : decode cX6_kind 1 = .ok (.ireturn, 1) := by decide +kernel
abbrev cX6_rank : ByteArray := prog_7_method_3_code
def yX6_rank : MethodName := ⟨RX6, "rank", "(IIII)I"⟩
def dkwX6_rank_0 : List UInt8 := [27, 16, 20, 104, 28, 96, 16, 10, 104, 21, 4, 96, 172]
abbrev dktX6_rank_0 : List UInt8 := dkwX6_rank_0 ++ []
theorem dksX6_rank_0 : cX6_rank.data.toList.drop 0 = dktX6_rank_0 := by decide +kernel
theorem dX6_rank_0 : decode cX6_rank 0 = .ok (.iload_n 1, 1) := dk_27 (dk_at dksX6_rank_0 0 rfl rfl)
theorem dX6_rank_1 : decode cX6_rank 1 = .ok (.bipush 20, 2) := dk_16 20 (dk_at dksX6_rank_0 1 rfl rfl)
theorem dX6_rank_3 : decode cX6_rank 3 = .ok (.imul, 1) := dk_104 (dk_at dksX6_rank_0 3 rfl rfl)
theorem dX6_rank_4 : decode cX6_rank 4 = .ok (.iload_n 2, 1) := dk_28 (dk_at dksX6_rank_0 4 rfl rfl)
theorem dX6_rank_5 : decode cX6_rank 5 = .ok (.iadd, 1) := dk_96 (dk_at dksX6_rank_0 5 rfl rfl)
theorem dX6_rank_6 : decode cX6_rank 6 = .ok (.bipush 10, 2) := dk_16 10 (dk_at dksX6_rank_0 6 rfl rfl)
theorem dX6_rank_8 : decode cX6_rank 8 = .ok (.imul, 1) := dk_104 (dk_at dksX6_rank_0 8 rfl rfl)
theorem dX6_rank_9 : decode cX6_rank 9 = .ok (.iload 4, 2) := dk_21 4 (dk_at dksX6_rank_0 9 rfl rfl)
theorem dX6_rank_11 : decode cX6_rank 11 = .ok (.iadd, 1) := dk_96 (dk_at dksX6_rank_0 11 rfl rfl)
theorem dX6_rank_12 : decode cX6_rank 12 = .ok (.ireturn, 1) := dk_172 (dk_at dksX6_rank_0 12 rfl rfl)
theorem q78 : (Jvm.Cond.initialized "NutCaches$Plain") ∈ lw_all := lw_g (lw_at lw_m1 30 rfl) rfl
theorem q614 : (Jvm.Cond.selects "NutCaches$Plain" ({ cls := "java/lang/Object", name := "equals", desc := "(Ljava/lang/Object;)Z" } : Jvm.MethodName) ({ cls := "java/lang/Object", name := "equals", desc := "(Ljava/lang/Object;)Z" } : Jvm.MethodName)) ∈ lw_all := lw_g (lw_at lw_m3 86 rfl) rfl
theorem q755 : (Jvm.Cond.instantiable "NutCaches$Plain" (2 : Nat)) ∈ lw_all := lw_g (lw_at lw_m3 227 rfl) rfl
theorem q757 : (Jvm.Cond.instanceMethod ({ cls := "NutCaches$Plain", name := "<init>", desc := "(II)V" } : Jvm.MethodName)) ∈ lw_all := lw_g (lw_at lw_m3 229 rfl) rfl
theorem q758 : (Jvm.Cond.code ({ cls := "NutCaches$Plain", name := "<init>", desc := "(II)V" } : Jvm.MethodName) prog_7_method_1_code (3 : Nat) (Option.none : Option Jvm.ClassFile.FieldType)) ∈ lw_all := lw_g (lw_at lw_m3 230 rfl) rfl
theorem q759 : (Jvm.Cond.methodLink "NutCaches$Plain" (3 : Nat) ({ cls := "NutCaches$Squirrel", name := "<init>", desc := "(II)V" } : Jvm.MethodName)) ∈ lw_all := lw_g (lw_at lw_m3 231 rfl) rfl
theorem q768 : (Jvm.Cond.laysFinal "NutCaches$Plain" "NutCaches$Squirrel" "number" "I") ∈ lw_all := lw_g (lw_at lw_m4 0 rfl) rfl
theorem q770 : (Jvm.Cond.laysFinal "NutCaches$Plain" "NutCaches$Squirrel" "needs" "I") ∈ lw_all := lw_g (lw_at lw_m4 2 rfl) rfl
theorem q772 : (Jvm.Cond.superclass "NutCaches$Plain" "NutCaches$Squirrel") ∈ lw_all := lw_g (lw_at lw_m4 4 rfl) rfl
theorem q847 : (Jvm.Cond.instanceMethod ({ cls := "NutCaches$Plain", name := "kind", desc := "()I" } : Jvm.MethodName)) ∈ lw_all := lw_g (lw_at lw_m4 79 rfl) rfl
theorem q848 : (Jvm.Cond.code ({ cls := "NutCaches$Plain", name := "kind", desc := "()I" } : Jvm.MethodName) prog_7_method_2_code (1 : Nat) (Option.some Jvm.ClassFile.FieldType.int)) ∈ lw_all := lw_g (lw_at lw_m4 80 rfl) rfl
theorem q853 : (Jvm.Cond.selects "NutCaches$Plain" ({ cls := "NutCaches$Squirrel", name := "kind", desc := "()I" } : Jvm.MethodName) ({ cls := "NutCaches$Plain", name := "kind", desc := "()I" } : Jvm.MethodName)) ∈ lw_all := lw_g (lw_at lw_m4 85 rfl) rfl
theorem q867 : (Jvm.Cond.selects "NutCaches$Plain" ({ cls := "NutCaches$Squirrel", name := "wants", desc := "()I" } : Jvm.MethodName) ({ cls := "NutCaches$Squirrel", name := "wants", desc := "()I" } : Jvm.MethodName)) ∈ lw_all := lw_g (lw_at lw_m4 99 rfl) rfl
theorem q881 : (Jvm.Cond.unhidden "NutCaches$Plain" "wants" "(I)I") ∈ lw_tbl := lw_at lw_m4 113 rfl
theorem q941 : (Jvm.Cond.unhidden "NutCaches$Plain" "spies" "()Z") ∈ lw_tbl := lw_at lw_m4 173 rfl
theorem q967 : (Jvm.Cond.unhidden "NutCaches$Plain" "wakes" "(I)Z") ∈ lw_tbl := lw_at lw_m4 199 rfl
theorem q989 : (Jvm.Cond.instanceMethod ({ cls := "NutCaches$Plain", name := "rank", desc := "(IIII)I" } : Jvm.MethodName)) ∈ lw_all := lw_g (lw_at lw_m4 221 rfl) rfl
theorem q990 : (Jvm.Cond.code ({ cls := "NutCaches$Plain", name := "rank", desc := "(IIII)I" } : Jvm.MethodName) prog_7_method_3_code (5 : Nat) (Option.some Jvm.ClassFile.FieldType.int)) ∈ lw_all := lw_g (lw_at lw_m4 222 rfl) rfl
theorem q995 : (Jvm.Cond.selects "NutCaches$Plain" ({ cls := "NutCaches$Habit", name := "rank", desc := "(IIII)I" } : Jvm.MethodName) ({ cls := "NutCaches$Plain", name := "rank", desc := "(IIII)I" } : Jvm.MethodName)) ∈ lw_all := lw_g (lw_at lw_m4 227 rfl) rfl
theorem q1427 : (Jvm.Cond.selects "NutCaches$Plain" ({ cls := "java/lang/Object", name := "getClass", desc := "()Ljava/lang/Class;" } : Jvm.MethodName) ({ cls := "java/lang/Object", name := "getClass", desc := "()Ljava/lang/Class;" } : Jvm.MethodName)) ∈ lw_all := lw_g (lw_at lw_m6 179 rfl) rfl
theorem q2178 : (Jvm.Cond.sameMethod "NutCaches$Plain" "NutCaches$Plain" "kind" "()I") ∈ lw_all := lw_g (lw_at lw_m9 210 rfl) rfl
theorem q2181 : (Jvm.Cond.sameMethod "NutCaches$Plain" "NutCaches$Plain" "rank" "(IIII)I") ∈ lw_all := lw_g (lw_at lw_m9 213 rfl) rfl
theorem q2199 : (Jvm.Cond.castable "NutCaches$Plain" "NutCaches$Squirrel") ∈ lw_tbl := lw_at lw_m9 231 rfl
theorem q2215 : (Jvm.Cond.castable "NutCaches$Plain" "java/lang/Object") ∈ lw_tbl := lw_at lw_m10 7 rfl
theorem in_X6 : ∀ w ∈ wsX60, w ∈ lw_all := lw_in wsX60 [768, 770] (by decide +kernel) (by decide +kernel)
/-! NutCaches$Greedy -/
set_option maxRecDepth 100000
def RX7 : String := "NutCaches$Greedy"
def TX7 : u_T := fun k => match k with
  | 0 => ("NutCaches$Squirrel", "number", "I", true)
  | _ => ("NutCaches$Squirrel", "needs", "I", true)
def tyX7 : Nat → FieldType := fun k => match k with
  | 0 => .int
  | _ => .int
abbrev wsX70 : List Cond := u_ws RX7 TX7 2
theorem nmX7 : ∀ a, a < 2 → ∀ b, b < 2 → a ≠ b → (TX7 a).2.1 ≠ (TX7 b).2.1 := by decide +kernel
theorem tyX7_ok : ∀ k, k < 2 → parseFieldDescriptor (TX7 k).2.2.1 = some (tyX7 k) := by decide +kernel
abbrev cX7_init : ByteArray := prog_4_method_1_code
def yX7_init : MethodName := ⟨RX7, "<init>", "(II)V"⟩
def dkwX7_init_0 : List UInt8 := [42, 27, 28, 183, 0, 1, 177]
abbrev dktX7_init_0 : List UInt8 := dkwX7_init_0 ++ []
theorem dksX7_init_0 : cX7_init.data.toList.drop 0 = dktX7_init_0 := by decide +kernel
theorem dX7_init_0 : decode cX7_init 0 = .ok (.aload_n 0, 1) := dk_42 (dk_at dksX7_init_0 0 rfl rfl)
theorem dX7_init_1 : decode cX7_init 1 = .ok (.iload_n 1, 1) := dk_27 (dk_at dksX7_init_0 1 rfl rfl)
theorem dX7_init_2 : decode cX7_init 2 = .ok (.iload_n 2, 1) := dk_28 (dk_at dksX7_init_0 2 rfl rfl)
theorem dX7_init_3 : decode cX7_init 3 = .ok (.invokespecial 1, 3) := dk_183 0 1 (dk_at dksX7_init_0 3 rfl rfl)
theorem dX7_init_6 : decode cX7_init 6 = .ok (.return_, 1) := dk_177 (dk_at dksX7_init_0 6 rfl rfl)
abbrev cX7_kind : ByteArray := prog_4_method_2_code
def yX7_kind : MethodName := ⟨RX7, "kind", "()I"⟩
def dkwX7_kind_0 : List UInt8 := [4, 42, 183, 0, 7, 96, 172]
abbrev dktX7_kind_0 : List UInt8 := dkwX7_kind_0 ++ []
theorem dksX7_kind_0 : cX7_kind.data.toList.drop 0 = dktX7_kind_0 := by decide +kernel
theorem dX7_kind_0 : decode cX7_kind 0 = .ok (.iconst 1, 1) := dk_4 (dk_at dksX7_kind_0 0 rfl rfl)
theorem dX7_kind_1 : decode cX7_kind 1 = .ok (.aload_n 0, 1) := dk_42 (dk_at dksX7_kind_0 1 rfl rfl)
theorem dX7_kind_2 : decode cX7_kind 2 = .ok (.invokespecial 7, 3) := dk_183 0 7 (dk_at dksX7_kind_0 2 rfl rfl)
theorem dX7_kind_5 : decode cX7_kind 5 = .ok (.iadd, 1) := dk_96 (dk_at dksX7_kind_0 5 rfl rfl)
theorem dX7_kind_6 : decode cX7_kind 6 = .ok (.ireturn, 1) := dk_172 (dk_at dksX7_kind_0 6 rfl rfl)
abbrev cX7_wants : ByteArray := prog_4_method_3_code
def yX7_wants : MethodName := ⟨RX7, "wants", "(I)I"⟩
def dkwX7_wants_0 : List UInt8 := [5, 42, 27, 183, 0, 11, 104, 172]
abbrev dktX7_wants_0 : List UInt8 := dkwX7_wants_0 ++ []
theorem dksX7_wants_0 : cX7_wants.data.toList.drop 0 = dktX7_wants_0 := by decide +kernel
theorem dX7_wants_0 : decode cX7_wants 0 = .ok (.iconst 2, 1) := dk_5 (dk_at dksX7_wants_0 0 rfl rfl)
theorem dX7_wants_1 : decode cX7_wants 1 = .ok (.aload_n 0, 1) := dk_42 (dk_at dksX7_wants_0 1 rfl rfl)
theorem dX7_wants_2 : decode cX7_wants 2 = .ok (.iload_n 1, 1) := dk_27 (dk_at dksX7_wants_0 2 rfl rfl)
theorem dX7_wants_3 : decode cX7_wants 3 = .ok (.invokespecial 11, 3) := dk_183 0 11 (dk_at dksX7_wants_0 3 rfl rfl)
theorem dX7_wants_6 : decode cX7_wants 6 = .ok (.imul, 1) := dk_104 (dk_at dksX7_wants_0 6 rfl rfl)
theorem dX7_wants_7 : decode cX7_wants 7 = .ok (.ireturn, 1) := dk_172 (dk_at dksX7_wants_0 7 rfl rfl)
theorem q79 : (Jvm.Cond.initialized "NutCaches$Greedy") ∈ lw_all := lw_g (lw_at lw_m1 31 rfl) rfl
theorem q612 : (Jvm.Cond.selects "NutCaches$Greedy" ({ cls := "java/lang/Object", name := "equals", desc := "(Ljava/lang/Object;)Z" } : Jvm.MethodName) ({ cls := "java/lang/Object", name := "equals", desc := "(Ljava/lang/Object;)Z" } : Jvm.MethodName)) ∈ lw_all := lw_g (lw_at lw_m3 84 rfl) rfl
theorem q774 : (Jvm.Cond.instantiable "NutCaches$Greedy" (2 : Nat)) ∈ lw_all := lw_g (lw_at lw_m4 6 rfl) rfl
theorem q776 : (Jvm.Cond.instanceMethod ({ cls := "NutCaches$Greedy", name := "<init>", desc := "(II)V" } : Jvm.MethodName)) ∈ lw_all := lw_g (lw_at lw_m4 8 rfl) rfl
theorem q777 : (Jvm.Cond.code ({ cls := "NutCaches$Greedy", name := "<init>", desc := "(II)V" } : Jvm.MethodName) prog_4_method_1_code (3 : Nat) (Option.none : Option Jvm.ClassFile.FieldType)) ∈ lw_all := lw_g (lw_at lw_m4 9 rfl) rfl
theorem q778 : (Jvm.Cond.methodLink "NutCaches$Greedy" (1 : Nat) ({ cls := "NutCaches$Plain", name := "<init>", desc := "(II)V" } : Jvm.MethodName)) ∈ lw_all := lw_g (lw_at lw_m4 10 rfl) rfl
theorem q779 : (Jvm.Cond.laysFinal "NutCaches$Greedy" "NutCaches$Squirrel" "number" "I") ∈ lw_all := lw_g (lw_at lw_m4 11 rfl) rfl
theorem q780 : (Jvm.Cond.laysFinal "NutCaches$Greedy" "NutCaches$Squirrel" "needs" "I") ∈ lw_all := lw_g (lw_at lw_m4 12 rfl) rfl
theorem q781 : (Jvm.Cond.superclass "NutCaches$Greedy" "NutCaches$Plain") ∈ lw_all := lw_g (lw_at lw_m4 13 rfl) rfl
theorem q843 : (Jvm.Cond.selects "NutCaches$Greedy" ({ cls := "NutCaches$Squirrel", name := "kind", desc := "()I" } : Jvm.MethodName) ({ cls := "NutCaches$Greedy", name := "kind", desc := "()I" } : Jvm.MethodName)) ∈ lw_all := lw_g (lw_at lw_m4 75 rfl) rfl
theorem q844 : (Jvm.Cond.instanceMethod ({ cls := "NutCaches$Greedy", name := "kind", desc := "()I" } : Jvm.MethodName)) ∈ lw_all := lw_g (lw_at lw_m4 76 rfl) rfl
theorem q845 : (Jvm.Cond.code ({ cls := "NutCaches$Greedy", name := "kind", desc := "()I" } : Jvm.MethodName) prog_4_method_2_code (1 : Nat) (Option.some Jvm.ClassFile.FieldType.int)) ∈ lw_all := lw_g (lw_at lw_m4 77 rfl) rfl
theorem q846 : (Jvm.Cond.methodLink "NutCaches$Greedy" (7 : Nat) ({ cls := "NutCaches$Plain", name := "kind", desc := "()I" } : Jvm.MethodName)) ∈ lw_all := lw_g (lw_at lw_m4 78 rfl) rfl
theorem q865 : (Jvm.Cond.selects "NutCaches$Greedy" ({ cls := "NutCaches$Squirrel", name := "wants", desc := "()I" } : Jvm.MethodName) ({ cls := "NutCaches$Squirrel", name := "wants", desc := "()I" } : Jvm.MethodName)) ∈ lw_all := lw_g (lw_at lw_m4 97 rfl) rfl
theorem q877 : (Jvm.Cond.selects "NutCaches$Greedy" ({ cls := "NutCaches$Habit", name := "wants", desc := "(I)I" } : Jvm.MethodName) ({ cls := "NutCaches$Greedy", name := "wants", desc := "(I)I" } : Jvm.MethodName)) ∈ lw_all := lw_g (lw_at lw_m4 109 rfl) rfl
theorem q878 : (Jvm.Cond.instanceMethod ({ cls := "NutCaches$Greedy", name := "wants", desc := "(I)I" } : Jvm.MethodName)) ∈ lw_all := lw_g (lw_at lw_m4 110 rfl) rfl
theorem q879 : (Jvm.Cond.code ({ cls := "NutCaches$Greedy", name := "wants", desc := "(I)I" } : Jvm.MethodName) prog_4_method_3_code (2 : Nat) (Option.some Jvm.ClassFile.FieldType.int)) ∈ lw_all := lw_g (lw_at lw_m4 111 rfl) rfl
theorem q939 : (Jvm.Cond.unhidden "NutCaches$Greedy" "spies" "()Z") ∈ lw_tbl := lw_at lw_m4 171 rfl
theorem q965 : (Jvm.Cond.unhidden "NutCaches$Greedy" "wakes" "(I)Z") ∈ lw_tbl := lw_at lw_m4 197 rfl
theorem q988 : (Jvm.Cond.selects "NutCaches$Greedy" ({ cls := "NutCaches$Habit", name := "rank", desc := "(IIII)I" } : Jvm.MethodName) ({ cls := "NutCaches$Plain", name := "rank", desc := "(IIII)I" } : Jvm.MethodName)) ∈ lw_all := lw_g (lw_at lw_m4 220 rfl) rfl
theorem q1425 : (Jvm.Cond.selects "NutCaches$Greedy" ({ cls := "java/lang/Object", name := "getClass", desc := "()Ljava/lang/Class;" } : Jvm.MethodName) ({ cls := "java/lang/Object", name := "getClass", desc := "()Ljava/lang/Class;" } : Jvm.MethodName)) ∈ lw_all := lw_g (lw_at lw_m6 177 rfl) rfl
theorem q2197 : (Jvm.Cond.castable "NutCaches$Greedy" "NutCaches$Squirrel") ∈ lw_tbl := lw_at lw_m9 229 rfl
theorem q2201 : (Jvm.Cond.castable "NutCaches$Greedy" "NutCaches$Plain") ∈ lw_tbl := lw_at lw_m9 233 rfl
theorem q2216 : (Jvm.Cond.castable "NutCaches$Greedy" "java/lang/Object") ∈ lw_tbl := lw_at lw_m10 8 rfl
theorem in_X7 : ∀ w ∈ wsX70, w ∈ lw_all := lw_in wsX70 [779, 780] (by decide +kernel) (by decide +kernel)
/-! NutCaches$Neat -/
set_option maxRecDepth 100000
def RX8 : String := "NutCaches$Neat"
def TX8 : u_T := fun k => match k with
  | 0 => ("NutCaches$Squirrel", "number", "I", true)
  | _ => ("NutCaches$Squirrel", "needs", "I", true)
def tyX8 : Nat → FieldType := fun k => match k with
  | 0 => .int
  | _ => .int
abbrev wsX80 : List Cond := u_ws RX8 TX8 2
theorem nmX8 : ∀ a, a < 2 → ∀ b, b < 2 → a ≠ b → (TX8 a).2.1 ≠ (TX8 b).2.1 := by decide +kernel
theorem tyX8_ok : ∀ k, k < 2 → parseFieldDescriptor (TX8 k).2.2.1 = some (tyX8 k) := by decide +kernel
abbrev cX8_init : ByteArray := prog_6_method_1_code
def yX8_init : MethodName := ⟨RX8, "<init>", "(II)V"⟩
def dkwX8_init_0 : List UInt8 := [42, 27, 28, 183, 0, 1, 177]
abbrev dktX8_init_0 : List UInt8 := dkwX8_init_0 ++ []
theorem dksX8_init_0 : cX8_init.data.toList.drop 0 = dktX8_init_0 := by decide +kernel
theorem dX8_init_0 : decode cX8_init 0 = .ok (.aload_n 0, 1) := dk_42 (dk_at dksX8_init_0 0 rfl rfl)
theorem dX8_init_1 : decode cX8_init 1 = .ok (.iload_n 1, 1) := dk_27 (dk_at dksX8_init_0 1 rfl rfl)
theorem dX8_init_2 : decode cX8_init 2 = .ok (.iload_n 2, 1) := dk_28 (dk_at dksX8_init_0 2 rfl rfl)
theorem dX8_init_3 : decode cX8_init 3 = .ok (.invokespecial 1, 3) := dk_183 0 1 (dk_at dksX8_init_0 3 rfl rfl)
theorem dX8_init_6 : decode cX8_init 6 = .ok (.return_, 1) := dk_177 (dk_at dksX8_init_0 6 rfl rfl)
abbrev cX8_kind : ByteArray := prog_6_method_2_code
def yX8_kind : MethodName := ⟨RX8, "kind", "()I"⟩
def dkwX8_kind_0 : List UInt8 := [5, 42, 183, 0, 7, 96, 172]
abbrev dktX8_kind_0 : List UInt8 := dkwX8_kind_0 ++ []
theorem dksX8_kind_0 : cX8_kind.data.toList.drop 0 = dktX8_kind_0 := by decide +kernel
theorem dX8_kind_0 : decode cX8_kind 0 = .ok (.iconst 2, 1) := dk_5 (dk_at dksX8_kind_0 0 rfl rfl)
theorem dX8_kind_1 : decode cX8_kind 1 = .ok (.aload_n 0, 1) := dk_42 (dk_at dksX8_kind_0 1 rfl rfl)
theorem dX8_kind_2 : decode cX8_kind 2 = .ok (.invokespecial 7, 3) := dk_183 0 7 (dk_at dksX8_kind_0 2 rfl rfl)
theorem dX8_kind_5 : decode cX8_kind 5 = .ok (.iadd, 1) := dk_96 (dk_at dksX8_kind_0 5 rfl rfl)
theorem dX8_kind_6 : decode cX8_kind 6 = .ok (.ireturn, 1) := dk_172 (dk_at dksX8_kind_0 6 rfl rfl)
abbrev cX8_rank : ByteArray := prog_6_method_3_code
def yX8_rank : MethodName := ⟨RX8, "rank", "(IIII)I"⟩
def dkwX8_rank_0 : List UInt8 := [29, 17, 39, 16, 104, 42, 27, 28, 29, 21, 4, 183, 0, 11, 96, 172]
abbrev dktX8_rank_0 : List UInt8 := dkwX8_rank_0 ++ []
theorem dksX8_rank_0 : cX8_rank.data.toList.drop 0 = dktX8_rank_0 := by decide +kernel
theorem dX8_rank_0 : decode cX8_rank 0 = .ok (.iload_n 3, 1) := dk_29 (dk_at dksX8_rank_0 0 rfl rfl)
theorem dX8_rank_1 : decode cX8_rank 1 = .ok (.sipush 10000, 3) := dk_17 39 16 (dk_at dksX8_rank_0 1 rfl rfl)
theorem dX8_rank_4 : decode cX8_rank 4 = .ok (.imul, 1) := dk_104 (dk_at dksX8_rank_0 4 rfl rfl)
theorem dX8_rank_5 : decode cX8_rank 5 = .ok (.aload_n 0, 1) := dk_42 (dk_at dksX8_rank_0 5 rfl rfl)
theorem dX8_rank_6 : decode cX8_rank 6 = .ok (.iload_n 1, 1) := dk_27 (dk_at dksX8_rank_0 6 rfl rfl)
theorem dX8_rank_7 : decode cX8_rank 7 = .ok (.iload_n 2, 1) := dk_28 (dk_at dksX8_rank_0 7 rfl rfl)
theorem dX8_rank_8 : decode cX8_rank 8 = .ok (.iload_n 3, 1) := dk_29 (dk_at dksX8_rank_0 8 rfl rfl)
theorem dX8_rank_9 : decode cX8_rank 9 = .ok (.iload 4, 2) := dk_21 4 (dk_at dksX8_rank_0 9 rfl rfl)
theorem dX8_rank_11 : decode cX8_rank 11 = .ok (.invokespecial 11, 3) := dk_183 0 11 (dk_at dksX8_rank_0 11 rfl rfl)
theorem dX8_rank_14 : decode cX8_rank 14 = .ok (.iadd, 1) := dk_96 (dk_at dksX8_rank_0 14 rfl rfl)
theorem dX8_rank_15 : decode cX8_rank 15 = .ok (.ireturn, 1) := dk_172 (dk_at dksX8_rank_0 15 rfl rfl)
theorem q80 : (Jvm.Cond.initialized "NutCaches$Neat") ∈ lw_all := lw_g (lw_at lw_m1 32 rfl) rfl
theorem q613 : (Jvm.Cond.selects "NutCaches$Neat" ({ cls := "java/lang/Object", name := "equals", desc := "(Ljava/lang/Object;)Z" } : Jvm.MethodName) ({ cls := "java/lang/Object", name := "equals", desc := "(Ljava/lang/Object;)Z" } : Jvm.MethodName)) ∈ lw_all := lw_g (lw_at lw_m3 85 rfl) rfl
theorem q783 : (Jvm.Cond.instantiable "NutCaches$Neat" (2 : Nat)) ∈ lw_all := lw_g (lw_at lw_m4 15 rfl) rfl
theorem q785 : (Jvm.Cond.instanceMethod ({ cls := "NutCaches$Neat", name := "<init>", desc := "(II)V" } : Jvm.MethodName)) ∈ lw_all := lw_g (lw_at lw_m4 17 rfl) rfl
theorem q786 : (Jvm.Cond.code ({ cls := "NutCaches$Neat", name := "<init>", desc := "(II)V" } : Jvm.MethodName) prog_6_method_1_code (3 : Nat) (Option.none : Option Jvm.ClassFile.FieldType)) ∈ lw_all := lw_g (lw_at lw_m4 18 rfl) rfl
theorem q787 : (Jvm.Cond.methodLink "NutCaches$Neat" (1 : Nat) ({ cls := "NutCaches$Plain", name := "<init>", desc := "(II)V" } : Jvm.MethodName)) ∈ lw_all := lw_g (lw_at lw_m4 19 rfl) rfl
theorem q788 : (Jvm.Cond.laysFinal "NutCaches$Neat" "NutCaches$Squirrel" "number" "I") ∈ lw_all := lw_g (lw_at lw_m4 20 rfl) rfl
theorem q789 : (Jvm.Cond.laysFinal "NutCaches$Neat" "NutCaches$Squirrel" "needs" "I") ∈ lw_all := lw_g (lw_at lw_m4 21 rfl) rfl
theorem q790 : (Jvm.Cond.superclass "NutCaches$Neat" "NutCaches$Plain") ∈ lw_all := lw_g (lw_at lw_m4 22 rfl) rfl
theorem q849 : (Jvm.Cond.selects "NutCaches$Neat" ({ cls := "NutCaches$Squirrel", name := "kind", desc := "()I" } : Jvm.MethodName) ({ cls := "NutCaches$Neat", name := "kind", desc := "()I" } : Jvm.MethodName)) ∈ lw_all := lw_g (lw_at lw_m4 81 rfl) rfl
theorem q850 : (Jvm.Cond.instanceMethod ({ cls := "NutCaches$Neat", name := "kind", desc := "()I" } : Jvm.MethodName)) ∈ lw_all := lw_g (lw_at lw_m4 82 rfl) rfl
theorem q851 : (Jvm.Cond.code ({ cls := "NutCaches$Neat", name := "kind", desc := "()I" } : Jvm.MethodName) prog_6_method_2_code (1 : Nat) (Option.some Jvm.ClassFile.FieldType.int)) ∈ lw_all := lw_g (lw_at lw_m4 83 rfl) rfl
theorem q852 : (Jvm.Cond.methodLink "NutCaches$Neat" (7 : Nat) ({ cls := "NutCaches$Plain", name := "kind", desc := "()I" } : Jvm.MethodName)) ∈ lw_all := lw_g (lw_at lw_m4 84 rfl) rfl
theorem q866 : (Jvm.Cond.selects "NutCaches$Neat" ({ cls := "NutCaches$Squirrel", name := "wants", desc := "()I" } : Jvm.MethodName) ({ cls := "NutCaches$Squirrel", name := "wants", desc := "()I" } : Jvm.MethodName)) ∈ lw_all := lw_g (lw_at lw_m4 98 rfl) rfl
theorem q880 : (Jvm.Cond.unhidden "NutCaches$Neat" "wants" "(I)I") ∈ lw_tbl := lw_at lw_m4 112 rfl
theorem q940 : (Jvm.Cond.unhidden "NutCaches$Neat" "spies" "()Z") ∈ lw_tbl := lw_at lw_m4 172 rfl
theorem q966 : (Jvm.Cond.unhidden "NutCaches$Neat" "wakes" "(I)Z") ∈ lw_tbl := lw_at lw_m4 198 rfl
theorem q991 : (Jvm.Cond.selects "NutCaches$Neat" ({ cls := "NutCaches$Habit", name := "rank", desc := "(IIII)I" } : Jvm.MethodName) ({ cls := "NutCaches$Neat", name := "rank", desc := "(IIII)I" } : Jvm.MethodName)) ∈ lw_all := lw_g (lw_at lw_m4 223 rfl) rfl
theorem q992 : (Jvm.Cond.instanceMethod ({ cls := "NutCaches$Neat", name := "rank", desc := "(IIII)I" } : Jvm.MethodName)) ∈ lw_all := lw_g (lw_at lw_m4 224 rfl) rfl
theorem q993 : (Jvm.Cond.code ({ cls := "NutCaches$Neat", name := "rank", desc := "(IIII)I" } : Jvm.MethodName) prog_6_method_3_code (5 : Nat) (Option.some Jvm.ClassFile.FieldType.int)) ∈ lw_all := lw_g (lw_at lw_m4 225 rfl) rfl
theorem q994 : (Jvm.Cond.methodLink "NutCaches$Neat" (11 : Nat) ({ cls := "NutCaches$Plain", name := "rank", desc := "(IIII)I" } : Jvm.MethodName)) ∈ lw_all := lw_g (lw_at lw_m4 226 rfl) rfl
theorem q1426 : (Jvm.Cond.selects "NutCaches$Neat" ({ cls := "java/lang/Object", name := "getClass", desc := "()Ljava/lang/Class;" } : Jvm.MethodName) ({ cls := "java/lang/Object", name := "getClass", desc := "()Ljava/lang/Class;" } : Jvm.MethodName)) ∈ lw_all := lw_g (lw_at lw_m6 178 rfl) rfl
theorem q2198 : (Jvm.Cond.castable "NutCaches$Neat" "NutCaches$Squirrel") ∈ lw_tbl := lw_at lw_m9 230 rfl
theorem q2202 : (Jvm.Cond.castable "NutCaches$Neat" "NutCaches$Plain") ∈ lw_tbl := lw_at lw_m9 234 rfl
theorem q2217 : (Jvm.Cond.castable "NutCaches$Neat" "java/lang/Object") ∈ lw_tbl := lw_at lw_m10 9 rfl
theorem in_X8 : ∀ w ∈ wsX80, w ∈ lw_all := lw_in wsX80 [788, 789] (by decide +kernel) (by decide +kernel)
/-! NutCaches$Dozy -/
set_option maxRecDepth 100000
def RX9 : String := "NutCaches$Dozy"
def TX9 : u_T := fun k => match k with
  | 0 => ("NutCaches$Squirrel", "number", "I", true)
  | _ => ("NutCaches$Squirrel", "needs", "I", true)
def tyX9 : Nat → FieldType := fun k => match k with
  | 0 => .int
  | _ => .int
abbrev wsX90 : List Cond := u_ws RX9 TX9 2
theorem nmX9 : ∀ a, a < 2 → ∀ b, b < 2 → a ≠ b → (TX9 a).2.1 ≠ (TX9 b).2.1 := by decide +kernel
theorem tyX9_ok : ∀ k, k < 2 → parseFieldDescriptor (TX9 k).2.2.1 = some (tyX9 k) := by decide +kernel
abbrev cX9_init : ByteArray := prog_2_method_1_code
def yX9_init : MethodName := ⟨RX9, "<init>", "(II)V"⟩
def dkwX9_init_0 : List UInt8 := [42, 27, 28, 183, 0, 1, 177]
abbrev dktX9_init_0 : List UInt8 := dkwX9_init_0 ++ []
theorem dksX9_init_0 : cX9_init.data.toList.drop 0 = dktX9_init_0 := by decide +kernel
theorem dX9_init_0 : decode cX9_init 0 = .ok (.aload_n 0, 1) := dk_42 (dk_at dksX9_init_0 0 rfl rfl)
theorem dX9_init_1 : decode cX9_init 1 = .ok (.iload_n 1, 1) := dk_27 (dk_at dksX9_init_0 1 rfl rfl)
theorem dX9_init_2 : decode cX9_init 2 = .ok (.iload_n 2, 1) := dk_28 (dk_at dksX9_init_0 2 rfl rfl)
theorem dX9_init_3 : decode cX9_init 3 = .ok (.invokespecial 1, 3) := dk_183 0 1 (dk_at dksX9_init_0 3 rfl rfl)
theorem dX9_init_6 : decode cX9_init 6 = .ok (.return_, 1) := dk_177 (dk_at dksX9_init_0 6 rfl rfl)
abbrev cX9_kind : ByteArray := prog_2_method_2_code
def yX9_kind : MethodName := ⟨RX9, "kind", "()I"⟩
theorem dX9_kind_0 : decode cX9_kind 0 = .ok (.iconst 3, 1) := by decide +kernel
theorem dX9_kind_1 : decode cX9_kind 1 = .ok (.ireturn, 1) := by decide +kernel
abbrev cX9_wants : ByteArray := prog_2_method_4_code
def yX9_wants : MethodName := ⟨RX9, "wants", "(I)I"⟩
def dkwX9_wants_0 : List UInt8 := [4, 42, 27, 183, 0, 11, 96, 172]
abbrev dktX9_wants_0 : List UInt8 := dkwX9_wants_0 ++ []
theorem dksX9_wants_0 : cX9_wants.data.toList.drop 0 = dktX9_wants_0 := by decide +kernel
theorem dX9_wants_0 : decode cX9_wants 0 = .ok (.iconst 1, 1) := dk_4 (dk_at dksX9_wants_0 0 rfl rfl)
theorem dX9_wants_1 : decode cX9_wants 1 = .ok (.aload_n 0, 1) := dk_42 (dk_at dksX9_wants_0 1 rfl rfl)
theorem dX9_wants_2 : decode cX9_wants 2 = .ok (.iload_n 1, 1) := dk_27 (dk_at dksX9_wants_0 2 rfl rfl)
theorem dX9_wants_3 : decode cX9_wants 3 = .ok (.invokespecial 11, 3) := dk_183 0 11 (dk_at dksX9_wants_0 3 rfl rfl)
theorem dX9_wants_6 : decode cX9_wants 6 = .ok (.iadd, 1) := dk_96 (dk_at dksX9_wants_0 6 rfl rfl)
theorem dX9_wants_7 : decode cX9_wants 7 = .ok (.ireturn, 1) := dk_172 (dk_at dksX9_wants_0 7 rfl rfl)
abbrev cX9_wakes : ByteArray := prog_2_method_3_code
def yX9_wakes : MethodName := ⟨RX9, "wakes", "(I)Z"⟩
def dkwX9_wakes_0 : List UInt8 := [42, 27, 183, 0, 7, 153, 0, 13, 27, 5, 112, 154, 0, 7, 4, 167, 0, 4, 3, 172]
abbrev dktX9_wakes_0 : List UInt8 := dkwX9_wakes_0 ++ []
theorem dksX9_wakes_0 : cX9_wakes.data.toList.drop 0 = dktX9_wakes_0 := by decide +kernel
theorem dX9_wakes_0 : decode cX9_wakes 0 = .ok (.aload_n 0, 1) := dk_42 (dk_at dksX9_wakes_0 0 rfl rfl)
theorem dX9_wakes_1 : decode cX9_wakes 1 = .ok (.iload_n 1, 1) := dk_27 (dk_at dksX9_wakes_0 1 rfl rfl)
theorem dX9_wakes_2 : decode cX9_wakes 2 = .ok (.invokespecial 7, 3) := dk_183 0 7 (dk_at dksX9_wakes_0 2 rfl rfl)
theorem dX9_wakes_5 : decode cX9_wakes 5 = .ok (.ifCond .eq 13, 3) := dk_153 0 13 (dk_at dksX9_wakes_0 5 rfl rfl)
theorem dX9_wakes_8 : decode cX9_wakes 8 = .ok (.iload_n 1, 1) := dk_27 (dk_at dksX9_wakes_0 8 rfl rfl)
theorem dX9_wakes_9 : decode cX9_wakes 9 = .ok (.iconst 2, 1) := dk_5 (dk_at dksX9_wakes_0 9 rfl rfl)
theorem dX9_wakes_10 : decode cX9_wakes 10 = .ok (.irem, 1) := dk_112 (dk_at dksX9_wakes_0 10 rfl rfl)
theorem dX9_wakes_11 : decode cX9_wakes 11 = .ok (.ifCond .ne 7, 3) := dk_154 0 7 (dk_at dksX9_wakes_0 11 rfl rfl)
theorem dX9_wakes_14 : decode cX9_wakes 14 = .ok (.iconst 1, 1) := dk_4 (dk_at dksX9_wakes_0 14 rfl rfl)
theorem dX9_wakes_15 : decode cX9_wakes 15 = .ok (.goto 4, 3) := dk_167 0 4 (dk_at dksX9_wakes_0 15 rfl rfl)
theorem dX9_wakes_18 : decode cX9_wakes 18 = .ok (.iconst 0, 1) := dk_3 (dk_at dksX9_wakes_0 18 rfl rfl)
theorem dX9_wakes_19 : decode cX9_wakes 19 = .ok (.ireturn, 1) := dk_172 (dk_at dksX9_wakes_0 19 rfl rfl)
abbrev cX9_rank : ByteArray := prog_2_method_5_code
def yX9_rank : MethodName := ⟨RX9, "rank", "(IIII)I"⟩
theorem dX9_rank_0 : decode cX9_rank 0 = .ok (.iload 4, 2) := by decide +kernel
theorem dX9_rank_2 : decode cX9_rank 2 = .ok (.ireturn, 1) := by decide +kernel
theorem q81 : (Jvm.Cond.initialized "NutCaches$Dozy") ∈ lw_all := lw_g (lw_at lw_m1 33 rfl) rfl
theorem q610 : (Jvm.Cond.selects "NutCaches$Dozy" ({ cls := "java/lang/Object", name := "equals", desc := "(Ljava/lang/Object;)Z" } : Jvm.MethodName) ({ cls := "java/lang/Object", name := "equals", desc := "(Ljava/lang/Object;)Z" } : Jvm.MethodName)) ∈ lw_all := lw_g (lw_at lw_m3 82 rfl) rfl
theorem q792 : (Jvm.Cond.instantiable "NutCaches$Dozy" (2 : Nat)) ∈ lw_all := lw_g (lw_at lw_m4 24 rfl) rfl
theorem q794 : (Jvm.Cond.instanceMethod ({ cls := "NutCaches$Dozy", name := "<init>", desc := "(II)V" } : Jvm.MethodName)) ∈ lw_all := lw_g (lw_at lw_m4 26 rfl) rfl
theorem q795 : (Jvm.Cond.code ({ cls := "NutCaches$Dozy", name := "<init>", desc := "(II)V" } : Jvm.MethodName) prog_2_method_1_code (3 : Nat) (Option.none : Option Jvm.ClassFile.FieldType)) ∈ lw_all := lw_g (lw_at lw_m4 27 rfl) rfl
theorem q796 : (Jvm.Cond.methodLink "NutCaches$Dozy" (1 : Nat) ({ cls := "NutCaches$Squirrel", name := "<init>", desc := "(II)V" } : Jvm.MethodName)) ∈ lw_all := lw_g (lw_at lw_m4 28 rfl) rfl
theorem q797 : (Jvm.Cond.laysFinal "NutCaches$Dozy" "NutCaches$Squirrel" "number" "I") ∈ lw_all := lw_g (lw_at lw_m4 29 rfl) rfl
theorem q798 : (Jvm.Cond.laysFinal "NutCaches$Dozy" "NutCaches$Squirrel" "needs" "I") ∈ lw_all := lw_g (lw_at lw_m4 30 rfl) rfl
theorem q799 : (Jvm.Cond.superclass "NutCaches$Dozy" "NutCaches$Squirrel") ∈ lw_all := lw_g (lw_at lw_m4 31 rfl) rfl
theorem q840 : (Jvm.Cond.selects "NutCaches$Dozy" ({ cls := "NutCaches$Squirrel", name := "kind", desc := "()I" } : Jvm.MethodName) ({ cls := "NutCaches$Dozy", name := "kind", desc := "()I" } : Jvm.MethodName)) ∈ lw_all := lw_g (lw_at lw_m4 72 rfl) rfl
theorem q841 : (Jvm.Cond.instanceMethod ({ cls := "NutCaches$Dozy", name := "kind", desc := "()I" } : Jvm.MethodName)) ∈ lw_all := lw_g (lw_at lw_m4 73 rfl) rfl
theorem q842 : (Jvm.Cond.code ({ cls := "NutCaches$Dozy", name := "kind", desc := "()I" } : Jvm.MethodName) prog_2_method_2_code (1 : Nat) (Option.some Jvm.ClassFile.FieldType.int)) ∈ lw_all := lw_g (lw_at lw_m4 74 rfl) rfl
theorem q864 : (Jvm.Cond.selects "NutCaches$Dozy" ({ cls := "NutCaches$Squirrel", name := "wants", desc := "()I" } : Jvm.MethodName) ({ cls := "NutCaches$Squirrel", name := "wants", desc := "()I" } : Jvm.MethodName)) ∈ lw_all := lw_g (lw_at lw_m4 96 rfl) rfl
theorem q872 : (Jvm.Cond.selects "NutCaches$Dozy" ({ cls := "NutCaches$Habit", name := "wants", desc := "(I)I" } : Jvm.MethodName) ({ cls := "NutCaches$Dozy", name := "wants", desc := "(I)I" } : Jvm.MethodName)) ∈ lw_all := lw_g (lw_at lw_m4 104 rfl) rfl
theorem q873 : (Jvm.Cond.instanceMethod ({ cls := "NutCaches$Dozy", name := "wants", desc := "(I)I" } : Jvm.MethodName)) ∈ lw_all := lw_g (lw_at lw_m4 105 rfl) rfl
theorem q874 : (Jvm.Cond.code ({ cls := "NutCaches$Dozy", name := "wants", desc := "(I)I" } : Jvm.MethodName) prog_2_method_4_code (2 : Nat) (Option.some Jvm.ClassFile.FieldType.int)) ∈ lw_all := lw_g (lw_at lw_m4 106 rfl) rfl
theorem q938 : (Jvm.Cond.unhidden "NutCaches$Dozy" "spies" "()Z") ∈ lw_tbl := lw_at lw_m4 170 rfl
theorem q960 : (Jvm.Cond.selects "NutCaches$Dozy" ({ cls := "NutCaches$Habit", name := "wakes", desc := "(I)Z" } : Jvm.MethodName) ({ cls := "NutCaches$Dozy", name := "wakes", desc := "(I)Z" } : Jvm.MethodName)) ∈ lw_all := lw_g (lw_at lw_m4 192 rfl) rfl
theorem q961 : (Jvm.Cond.instanceMethod ({ cls := "NutCaches$Dozy", name := "wakes", desc := "(I)Z" } : Jvm.MethodName)) ∈ lw_all := lw_g (lw_at lw_m4 193 rfl) rfl
theorem q962 : (Jvm.Cond.code ({ cls := "NutCaches$Dozy", name := "wakes", desc := "(I)Z" } : Jvm.MethodName) prog_2_method_3_code (2 : Nat) (Option.some Jvm.ClassFile.FieldType.boolean)) ∈ lw_all := lw_g (lw_at lw_m4 194 rfl) rfl
theorem q985 : (Jvm.Cond.selects "NutCaches$Dozy" ({ cls := "NutCaches$Habit", name := "rank", desc := "(IIII)I" } : Jvm.MethodName) ({ cls := "NutCaches$Dozy", name := "rank", desc := "(IIII)I" } : Jvm.MethodName)) ∈ lw_all := lw_g (lw_at lw_m4 217 rfl) rfl
theorem q986 : (Jvm.Cond.instanceMethod ({ cls := "NutCaches$Dozy", name := "rank", desc := "(IIII)I" } : Jvm.MethodName)) ∈ lw_all := lw_g (lw_at lw_m4 218 rfl) rfl
theorem q987 : (Jvm.Cond.code ({ cls := "NutCaches$Dozy", name := "rank", desc := "(IIII)I" } : Jvm.MethodName) prog_2_method_5_code (5 : Nat) (Option.some Jvm.ClassFile.FieldType.int)) ∈ lw_all := lw_g (lw_at lw_m4 219 rfl) rfl
theorem q1423 : (Jvm.Cond.selects "NutCaches$Dozy" ({ cls := "java/lang/Object", name := "getClass", desc := "()Ljava/lang/Class;" } : Jvm.MethodName) ({ cls := "java/lang/Object", name := "getClass", desc := "()Ljava/lang/Class;" } : Jvm.MethodName)) ∈ lw_all := lw_g (lw_at lw_m6 175 rfl) rfl
theorem q2179 : (Jvm.Cond.sameMethod "NutCaches$Dozy" "NutCaches$Dozy" "kind" "()I") ∈ lw_all := lw_g (lw_at lw_m9 211 rfl) rfl
theorem q2180 : (Jvm.Cond.sameMethod "NutCaches$Dozy" "NutCaches$Dozy" "wakes" "(I)Z") ∈ lw_all := lw_g (lw_at lw_m9 212 rfl) rfl
theorem q2196 : (Jvm.Cond.castable "NutCaches$Dozy" "NutCaches$Squirrel") ∈ lw_tbl := lw_at lw_m9 228 rfl
theorem q2218 : (Jvm.Cond.castable "NutCaches$Dozy" "java/lang/Object") ∈ lw_tbl := lw_at lw_m10 10 rfl
theorem in_X9 : ∀ w ∈ wsX90, w ∈ lw_all := lw_in wsX90 [797, 798] (by decide +kernel) (by decide +kernel)
/-! NutCaches$Spy -/
set_option maxRecDepth 100000
def RX10 : String := "NutCaches$Spy"
def TX10 : u_T := fun k => match k with
  | 0 => ("NutCaches$Squirrel", "number", "I", true)
  | _ => ("NutCaches$Squirrel", "needs", "I", true)
def tyX10 : Nat → FieldType := fun k => match k with
  | 0 => .int
  | _ => .int
abbrev wsX100 : List Cond := u_ws RX10 TX10 2
theorem nmX10 : ∀ a, a < 2 → ∀ b, b < 2 → a ≠ b → (TX10 a).2.1 ≠ (TX10 b).2.1 := by decide +kernel
theorem tyX10_ok : ∀ k, k < 2 → parseFieldDescriptor (TX10 k).2.2.1 = some (tyX10 k) := by decide +kernel
abbrev cX10_init : ByteArray := prog_9_method_1_code
def yX10_init : MethodName := ⟨RX10, "<init>", "(II)V"⟩
def dkwX10_init_0 : List UInt8 := [42, 27, 28, 183, 0, 1, 177]
abbrev dktX10_init_0 : List UInt8 := dkwX10_init_0 ++ []
theorem dksX10_init_0 : cX10_init.data.toList.drop 0 = dktX10_init_0 := by decide +kernel
theorem dX10_init_0 : decode cX10_init 0 = .ok (.aload_n 0, 1) := dk_42 (dk_at dksX10_init_0 0 rfl rfl)
theorem dX10_init_1 : decode cX10_init 1 = .ok (.iload_n 1, 1) := dk_27 (dk_at dksX10_init_0 1 rfl rfl)
theorem dX10_init_2 : decode cX10_init 2 = .ok (.iload_n 2, 1) := dk_28 (dk_at dksX10_init_0 2 rfl rfl)
theorem dX10_init_3 : decode cX10_init 3 = .ok (.invokespecial 1, 3) := dk_183 0 1 (dk_at dksX10_init_0 3 rfl rfl)
theorem dX10_init_6 : decode cX10_init 6 = .ok (.return_, 1) := dk_177 (dk_at dksX10_init_0 6 rfl rfl)
abbrev cX10_kind : ByteArray := prog_9_method_2_code
def yX10_kind : MethodName := ⟨RX10, "kind", "()I"⟩
def dkwX10_kind_0 : List UInt8 := [4, 42, 183, 0, 7, 96, 172]
abbrev dktX10_kind_0 : List UInt8 := dkwX10_kind_0 ++ []
theorem dksX10_kind_0 : cX10_kind.data.toList.drop 0 = dktX10_kind_0 := by decide +kernel
theorem dX10_kind_0 : decode cX10_kind 0 = .ok (.iconst 1, 1) := dk_4 (dk_at dksX10_kind_0 0 rfl rfl)
theorem dX10_kind_1 : decode cX10_kind 1 = .ok (.aload_n 0, 1) := dk_42 (dk_at dksX10_kind_0 1 rfl rfl)
theorem dX10_kind_2 : decode cX10_kind 2 = .ok (.invokespecial 7, 3) := dk_183 0 7 (dk_at dksX10_kind_0 2 rfl rfl)
theorem dX10_kind_5 : decode cX10_kind 5 = .ok (.iadd, 1) := dk_96 (dk_at dksX10_kind_0 5 rfl rfl)
theorem dX10_kind_6 : decode cX10_kind 6 = .ok (.ireturn, 1) := dk_172 (dk_at dksX10_kind_0 6 rfl rfl)
abbrev cX10_spies : ByteArray := prog_9_method_4_code
def yX10_spies : MethodName := ⟨RX10, "spies", "()Z"⟩
def dkwX10_spies_0 : List UInt8 := [42, 183, 0, 15, 154, 0, 7, 4, 167, 0, 4, 3, 172]
abbrev dktX10_spies_0 : List UInt8 := dkwX10_spies_0 ++ []
theorem dksX10_spies_0 : cX10_spies.data.toList.drop 0 = dktX10_spies_0 := by decide +kernel
theorem dX10_spies_0 : decode cX10_spies 0 = .ok (.aload_n 0, 1) := dk_42 (dk_at dksX10_spies_0 0 rfl rfl)
theorem dX10_spies_1 : decode cX10_spies 1 = .ok (.invokespecial 15, 3) := dk_183 0 15 (dk_at dksX10_spies_0 1 rfl rfl)
theorem dX10_spies_4 : decode cX10_spies 4 = .ok (.ifCond .ne 7, 3) := dk_154 0 7 (dk_at dksX10_spies_0 4 rfl rfl)
theorem dX10_spies_7 : decode cX10_spies 7 = .ok (.iconst 1, 1) := dk_4 (dk_at dksX10_spies_0 7 rfl rfl)
theorem dX10_spies_8 : decode cX10_spies 8 = .ok (.goto 4, 3) := dk_167 0 4 (dk_at dksX10_spies_0 8 rfl rfl)
theorem dX10_spies_11 : decode cX10_spies 11 = .ok (.iconst 0, 1) := dk_3 (dk_at dksX10_spies_0 11 rfl rfl)
theorem dX10_spies_12 : decode cX10_spies 12 = .ok (.ireturn, 1) := dk_172 (dk_at dksX10_spies_0 12 rfl rfl)
abbrev cX10_wakes : ByteArray := prog_9_method_3_code
def yX10_wakes : MethodName := ⟨RX10, "wakes", "(I)Z"⟩
def dkwX10_wakes_0 : List UInt8 := [42, 5, 27, 104, 183, 0, 11, 172]
abbrev dktX10_wakes_0 : List UInt8 := dkwX10_wakes_0 ++ []
theorem dksX10_wakes_0 : cX10_wakes.data.toList.drop 0 = dktX10_wakes_0 := by decide +kernel
theorem dX10_wakes_0 : decode cX10_wakes 0 = .ok (.aload_n 0, 1) := dk_42 (dk_at dksX10_wakes_0 0 rfl rfl)
theorem dX10_wakes_1 : decode cX10_wakes 1 = .ok (.iconst 2, 1) := dk_5 (dk_at dksX10_wakes_0 1 rfl rfl)
theorem dX10_wakes_2 : decode cX10_wakes 2 = .ok (.iload_n 1, 1) := dk_27 (dk_at dksX10_wakes_0 2 rfl rfl)
theorem dX10_wakes_3 : decode cX10_wakes 3 = .ok (.imul, 1) := dk_104 (dk_at dksX10_wakes_0 3 rfl rfl)
theorem dX10_wakes_4 : decode cX10_wakes 4 = .ok (.invokespecial 11, 3) := dk_183 0 11 (dk_at dksX10_wakes_0 4 rfl rfl)
theorem dX10_wakes_7 : decode cX10_wakes 7 = .ok (.ireturn, 1) := dk_172 (dk_at dksX10_wakes_0 7 rfl rfl)
theorem q82 : (Jvm.Cond.initialized "NutCaches$Spy") ∈ lw_all := lw_g (lw_at lw_m1 34 rfl) rfl
theorem q616 : (Jvm.Cond.selects "NutCaches$Spy" ({ cls := "java/lang/Object", name := "equals", desc := "(Ljava/lang/Object;)Z" } : Jvm.MethodName) ({ cls := "java/lang/Object", name := "equals", desc := "(Ljava/lang/Object;)Z" } : Jvm.MethodName)) ∈ lw_all := lw_g (lw_at lw_m3 88 rfl) rfl
theorem q801 : (Jvm.Cond.instantiable "NutCaches$Spy" (2 : Nat)) ∈ lw_all := lw_g (lw_at lw_m4 33 rfl) rfl
theorem q803 : (Jvm.Cond.instanceMethod ({ cls := "NutCaches$Spy", name := "<init>", desc := "(II)V" } : Jvm.MethodName)) ∈ lw_all := lw_g (lw_at lw_m4 35 rfl) rfl
theorem q804 : (Jvm.Cond.code ({ cls := "NutCaches$Spy", name := "<init>", desc := "(II)V" } : Jvm.MethodName) prog_9_method_1_code (3 : Nat) (Option.none : Option Jvm.ClassFile.FieldType)) ∈ lw_all := lw_g (lw_at lw_m4 36 rfl) rfl
theorem q805 : (Jvm.Cond.methodLink "NutCaches$Spy" (1 : Nat) ({ cls := "NutCaches$Dozy", name := "<init>", desc := "(II)V" } : Jvm.MethodName)) ∈ lw_all := lw_g (lw_at lw_m4 37 rfl) rfl
theorem q806 : (Jvm.Cond.laysFinal "NutCaches$Spy" "NutCaches$Squirrel" "number" "I") ∈ lw_all := lw_g (lw_at lw_m4 38 rfl) rfl
theorem q807 : (Jvm.Cond.laysFinal "NutCaches$Spy" "NutCaches$Squirrel" "needs" "I") ∈ lw_all := lw_g (lw_at lw_m4 39 rfl) rfl
theorem q808 : (Jvm.Cond.superclass "NutCaches$Spy" "NutCaches$Dozy") ∈ lw_all := lw_g (lw_at lw_m4 40 rfl) rfl
theorem q854 : (Jvm.Cond.selects "NutCaches$Spy" ({ cls := "NutCaches$Squirrel", name := "kind", desc := "()I" } : Jvm.MethodName) ({ cls := "NutCaches$Spy", name := "kind", desc := "()I" } : Jvm.MethodName)) ∈ lw_all := lw_g (lw_at lw_m4 86 rfl) rfl
theorem q855 : (Jvm.Cond.instanceMethod ({ cls := "NutCaches$Spy", name := "kind", desc := "()I" } : Jvm.MethodName)) ∈ lw_all := lw_g (lw_at lw_m4 87 rfl) rfl
theorem q856 : (Jvm.Cond.code ({ cls := "NutCaches$Spy", name := "kind", desc := "()I" } : Jvm.MethodName) prog_9_method_2_code (1 : Nat) (Option.some Jvm.ClassFile.FieldType.int)) ∈ lw_all := lw_g (lw_at lw_m4 88 rfl) rfl
theorem q857 : (Jvm.Cond.methodLink "NutCaches$Spy" (7 : Nat) ({ cls := "NutCaches$Dozy", name := "kind", desc := "()I" } : Jvm.MethodName)) ∈ lw_all := lw_g (lw_at lw_m4 89 rfl) rfl
theorem q868 : (Jvm.Cond.selects "NutCaches$Spy" ({ cls := "NutCaches$Squirrel", name := "wants", desc := "()I" } : Jvm.MethodName) ({ cls := "NutCaches$Squirrel", name := "wants", desc := "()I" } : Jvm.MethodName)) ∈ lw_all := lw_g (lw_at lw_m4 100 rfl) rfl
theorem q882 : (Jvm.Cond.selects "NutCaches$Spy" ({ cls := "NutCaches$Habit", name := "wants", desc := "(I)I" } : Jvm.MethodName) ({ cls := "NutCaches$Dozy", name := "wants", desc := "(I)I" } : Jvm.MethodName)) ∈ lw_all := lw_g (lw_at lw_m4 114 rfl) rfl
theorem q942 : (Jvm.Cond.selects "NutCaches$Spy" ({ cls := "NutCaches$Habit", name := "spies", desc := "()Z" } : Jvm.MethodName) ({ cls := "NutCaches$Spy", name := "spies", desc := "()Z" } : Jvm.MethodName)) ∈ lw_all := lw_g (lw_at lw_m4 174 rfl) rfl
theorem q943 : (Jvm.Cond.instanceMethod ({ cls := "NutCaches$Spy", name := "spies", desc := "()Z" } : Jvm.MethodName)) ∈ lw_all := lw_g (lw_at lw_m4 175 rfl) rfl
theorem q944 : (Jvm.Cond.code ({ cls := "NutCaches$Spy", name := "spies", desc := "()Z" } : Jvm.MethodName) prog_9_method_4_code (1 : Nat) (Option.some Jvm.ClassFile.FieldType.boolean)) ∈ lw_all := lw_g (lw_at lw_m4 176 rfl) rfl
theorem q968 : (Jvm.Cond.selects "NutCaches$Spy" ({ cls := "NutCaches$Habit", name := "wakes", desc := "(I)Z" } : Jvm.MethodName) ({ cls := "NutCaches$Spy", name := "wakes", desc := "(I)Z" } : Jvm.MethodName)) ∈ lw_all := lw_g (lw_at lw_m4 200 rfl) rfl
theorem q969 : (Jvm.Cond.instanceMethod ({ cls := "NutCaches$Spy", name := "wakes", desc := "(I)Z" } : Jvm.MethodName)) ∈ lw_all := lw_g (lw_at lw_m4 201 rfl) rfl
theorem q970 : (Jvm.Cond.code ({ cls := "NutCaches$Spy", name := "wakes", desc := "(I)Z" } : Jvm.MethodName) prog_9_method_3_code (2 : Nat) (Option.some Jvm.ClassFile.FieldType.boolean)) ∈ lw_all := lw_g (lw_at lw_m4 202 rfl) rfl
theorem q971 : (Jvm.Cond.methodLink "NutCaches$Spy" (11 : Nat) ({ cls := "NutCaches$Dozy", name := "wakes", desc := "(I)Z" } : Jvm.MethodName)) ∈ lw_all := lw_g (lw_at lw_m4 203 rfl) rfl
theorem q996 : (Jvm.Cond.selects "NutCaches$Spy" ({ cls := "NutCaches$Habit", name := "rank", desc := "(IIII)I" } : Jvm.MethodName) ({ cls := "NutCaches$Dozy", name := "rank", desc := "(IIII)I" } : Jvm.MethodName)) ∈ lw_all := lw_g (lw_at lw_m4 228 rfl) rfl
theorem q1429 : (Jvm.Cond.selects "NutCaches$Spy" ({ cls := "java/lang/Object", name := "getClass", desc := "()Ljava/lang/Class;" } : Jvm.MethodName) ({ cls := "java/lang/Object", name := "getClass", desc := "()Ljava/lang/Class;" } : Jvm.MethodName)) ∈ lw_all := lw_g (lw_at lw_m6 181 rfl) rfl
theorem q2200 : (Jvm.Cond.castable "NutCaches$Spy" "NutCaches$Squirrel") ∈ lw_tbl := lw_at lw_m9 232 rfl
theorem q2203 : (Jvm.Cond.castable "NutCaches$Spy" "NutCaches$Dozy") ∈ lw_tbl := lw_at lw_m9 235 rfl
theorem q2219 : (Jvm.Cond.castable "NutCaches$Spy" "java/lang/Object") ∈ lw_tbl := lw_at lw_m10 11 rfl
theorem in_X10 : ∀ w ∈ wsX100, w ∈ lw_all := lw_in wsX100 [806, 807] (by decide +kernel) (by decide +kernel)
/-! NutCaches$Trail -/
set_option maxRecDepth 100000
def RX11 : String := "NutCaches$Trail"
def TX11 : u_T := fun k => match k with
  | 0 => ("NutCaches$Trail", "things", "Ljava/util/List;", true)
  | 1 => ("NutCaches$Trail", "hand", "Ljava/util/ListIterator;", false)
  | _ => ("NutCaches$Trail", "isBack", "Z", false)
def tyX11 : Nat → FieldType := fun k => match k with
  | 0 => .object "java/util/List"
  | 1 => .object "java/util/ListIterator"
  | _ => .boolean
abbrev wsX110 : List Cond := u_ws RX11 TX11 3
theorem nmX11 : ∀ a, a < 3 → ∀ b, b < 3 → a ≠ b → (TX11 a).2.1 ≠ (TX11 b).2.1 := by decide +kernel
theorem tyX11_ok : ∀ k, k < 3 → parseFieldDescriptor (TX11 k).2.2.1 = some (tyX11 k) := by decide +kernel
abbrev cX11_init : ByteArray := prog_12_method_1_code
def yX11_init : MethodName := ⟨RX11, "<init>", "()V"⟩
def dkwX11_init_1 : List UInt8 := [185, 0, 18, 1, 0, 181, 0, 24, 177]
abbrev dktX11_init_1 : List UInt8 := dkwX11_init_1 ++ []
def dkwX11_init_0 : List UInt8 := [42, 183, 0, 3, 42, 187, 0, 9, 89, 183, 0, 11, 181, 0, 12, 42, 42, 180, 0, 12]
abbrev dktX11_init_0 : List UInt8 := dkwX11_init_0 ++ dktX11_init_1
theorem dksX11_init_0 : cX11_init.data.toList.drop 0 = dktX11_init_0 := by decide +kernel
theorem dksX11_init_1 : cX11_init.data.toList.drop 20 = dktX11_init_1 := dk_seg dksX11_init_0 20 rfl rfl
theorem dX11_init_0 : decode cX11_init 0 = .ok (.aload_n 0, 1) := dk_42 (dk_at dksX11_init_0 0 rfl rfl)
theorem dX11_init_1 : decode cX11_init 1 = .ok (.invokespecial 3, 3) := dk_183 0 3 (dk_at dksX11_init_0 1 rfl rfl)
theorem dX11_init_4 : decode cX11_init 4 = .ok (.aload_n 0, 1) := dk_42 (dk_at dksX11_init_0 4 rfl rfl)
theorem dX11_init_5 : decode cX11_init 5 = .ok (.new 9, 3) := dk_187 0 9 (dk_at dksX11_init_0 5 rfl rfl)
theorem dX11_init_8 : decode cX11_init 8 = .ok (.dup, 1) := dk_89 (dk_at dksX11_init_0 8 rfl rfl)
theorem dX11_init_9 : decode cX11_init 9 = .ok (.invokespecial 11, 3) := dk_183 0 11 (dk_at dksX11_init_0 9 rfl rfl)
theorem dX11_init_12 : decode cX11_init 12 = .ok (.putfield 12, 3) := dk_181 0 12 (dk_at dksX11_init_0 12 rfl rfl)
theorem dX11_init_15 : decode cX11_init 15 = .ok (.aload_n 0, 1) := dk_42 (dk_at dksX11_init_0 15 rfl rfl)
theorem dX11_init_16 : decode cX11_init 16 = .ok (.aload_n 0, 1) := dk_42 (dk_at dksX11_init_0 16 rfl rfl)
theorem dX11_init_17 : decode cX11_init 17 = .ok (.getfield 12, 3) := dk_180 0 12 (dk_at dksX11_init_0 17 rfl rfl)
theorem dX11_init_20 : decode cX11_init 20 = .ok (.invokeinterface 18 1, 5) := by decide +kernel
theorem dX11_init_25 : decode cX11_init 25 = .ok (.putfield 24, 3) := dk_181 0 24 (dk_at dksX11_init_1 5 rfl rfl)
theorem dX11_init_28 : decode cX11_init 28 = .ok (.return_, 1) := dk_177 (dk_at dksX11_init_1 8 rfl rfl)
abbrev cX11_ahead : ByteArray := prog_12_method_3_code
def yX11_ahead : MethodName := ⟨RX11, "ahead", "(I)Ljava/lang/Object;"⟩
def dkwX11_ahead_3 : List UInt8 := [185, 0, 50, 2, 0, 176]
abbrev dktX11_ahead_3 : List UInt8 := dkwX11_ahead_3 ++ []
def dkwX11_ahead_2 : List UInt8 := [42, 180, 0, 24, 185, 0, 44, 1, 0, 167, 0, 12, 42, 180, 0, 24, 185, 0, 47, 1, 0]
abbrev dktX11_ahead_2 : List UInt8 := dkwX11_ahead_2 ++ dktX11_ahead_3
def dkwX11_ahead_1 : List UInt8 := [185, 0, 38, 1, 0, 154, 0, 11, 187, 0, 41, 89, 183, 0, 43, 191, 42, 180, 0, 12, 27, 154, 0, 15]
abbrev dktX11_ahead_1 : List UInt8 := dkwX11_ahead_1 ++ dktX11_ahead_2
def dkwX11_ahead_0 : List UInt8 := [27, 154, 0, 18, 42, 180, 0, 24, 185, 0, 32, 1, 0, 154, 0, 26, 167, 0, 15, 42, 180, 0, 24]
abbrev dktX11_ahead_0 : List UInt8 := dkwX11_ahead_0 ++ dktX11_ahead_1
theorem dksX11_ahead_0 : cX11_ahead.data.toList.drop 0 = dktX11_ahead_0 := by decide +kernel
theorem dksX11_ahead_1 : cX11_ahead.data.toList.drop 23 = dktX11_ahead_1 := dk_seg dksX11_ahead_0 23 rfl rfl
theorem dksX11_ahead_2 : cX11_ahead.data.toList.drop 47 = dktX11_ahead_2 := dk_seg dksX11_ahead_1 24 rfl rfl
theorem dksX11_ahead_3 : cX11_ahead.data.toList.drop 68 = dktX11_ahead_3 := dk_seg dksX11_ahead_2 21 rfl rfl
theorem dX11_ahead_0 : decode cX11_ahead 0 = .ok (.iload_n 1, 1) := dk_27 (dk_at dksX11_ahead_0 0 rfl rfl)
theorem dX11_ahead_1 : decode cX11_ahead 1 = .ok (.ifCond .ne 18, 3) := dk_154 0 18 (dk_at dksX11_ahead_0 1 rfl rfl)
theorem dX11_ahead_4 : decode cX11_ahead 4 = .ok (.aload_n 0, 1) := dk_42 (dk_at dksX11_ahead_0 4 rfl rfl)
theorem dX11_ahead_5 : decode cX11_ahead 5 = .ok (.getfield 24, 3) := dk_180 0 24 (dk_at dksX11_ahead_0 5 rfl rfl)
theorem dX11_ahead_8 : decode cX11_ahead 8 = .ok (.invokeinterface 32 1, 5) := by decide +kernel
theorem dX11_ahead_13 : decode cX11_ahead 13 = .ok (.ifCond .ne 26, 3) := dk_154 0 26 (dk_at dksX11_ahead_0 13 rfl rfl)
theorem dX11_ahead_16 : decode cX11_ahead 16 = .ok (.goto 15, 3) := dk_167 0 15 (dk_at dksX11_ahead_0 16 rfl rfl)
theorem dX11_ahead_19 : decode cX11_ahead 19 = .ok (.aload_n 0, 1) := dk_42 (dk_at dksX11_ahead_0 19 rfl rfl)
theorem dX11_ahead_20 : decode cX11_ahead 20 = .ok (.getfield 24, 3) := dk_180 0 24 (dk_at dksX11_ahead_0 20 rfl rfl)
theorem dX11_ahead_23 : decode cX11_ahead 23 = .ok (.invokeinterface 38 1, 5) := by decide +kernel
theorem dX11_ahead_28 : decode cX11_ahead 28 = .ok (.ifCond .ne 11, 3) := dk_154 0 11 (dk_at dksX11_ahead_1 5 rfl rfl)
theorem dX11_ahead_31 : decode cX11_ahead 31 = .ok (.new 41, 3) := dk_187 0 41 (dk_at dksX11_ahead_1 8 rfl rfl)
theorem dX11_ahead_34 : decode cX11_ahead 34 = .ok (.dup, 1) := dk_89 (dk_at dksX11_ahead_1 11 rfl rfl)
theorem dX11_ahead_35 : decode cX11_ahead 35 = .ok (.invokespecial 43, 3) := dk_183 0 43 (dk_at dksX11_ahead_1 12 rfl rfl)
theorem dX11_ahead_38 : decode cX11_ahead 38 = .ok (.athrow, 1) := dk_191 (dk_at dksX11_ahead_1 15 rfl rfl)
theorem dX11_ahead_39 : decode cX11_ahead 39 = .ok (.aload_n 0, 1) := dk_42 (dk_at dksX11_ahead_1 16 rfl rfl)
theorem dX11_ahead_40 : decode cX11_ahead 40 = .ok (.getfield 12, 3) := dk_180 0 12 (dk_at dksX11_ahead_1 17 rfl rfl)
theorem dX11_ahead_43 : decode cX11_ahead 43 = .ok (.iload_n 1, 1) := dk_27 (dk_at dksX11_ahead_1 20 rfl rfl)
theorem dX11_ahead_44 : decode cX11_ahead 44 = .ok (.ifCond .ne 15, 3) := dk_154 0 15 (dk_at dksX11_ahead_1 21 rfl rfl)
theorem dX11_ahead_47 : decode cX11_ahead 47 = .ok (.aload_n 0, 1) := dk_42 (dk_at dksX11_ahead_2 0 rfl rfl)
theorem dX11_ahead_48 : decode cX11_ahead 48 = .ok (.getfield 24, 3) := dk_180 0 24 (dk_at dksX11_ahead_2 1 rfl rfl)
theorem dX11_ahead_51 : decode cX11_ahead 51 = .ok (.invokeinterface 44 1, 5) := by decide +kernel
theorem dX11_ahead_56 : decode cX11_ahead 56 = .ok (.goto 12, 3) := dk_167 0 12 (dk_at dksX11_ahead_2 9 rfl rfl)
theorem dX11_ahead_59 : decode cX11_ahead 59 = .ok (.aload_n 0, 1) := dk_42 (dk_at dksX11_ahead_2 12 rfl rfl)
theorem dX11_ahead_60 : decode cX11_ahead 60 = .ok (.getfield 24, 3) := dk_180 0 24 (dk_at dksX11_ahead_2 13 rfl rfl)
theorem dX11_ahead_63 : decode cX11_ahead 63 = .ok (.invokeinterface 47 1, 5) := by decide +kernel
theorem dX11_ahead_68 : decode cX11_ahead 68 = .ok (.invokeinterface 50 2, 5) := by decide +kernel
theorem dX11_ahead_73 : decode cX11_ahead 73 = .ok (.areturn, 1) := dk_176 (dk_at dksX11_ahead_3 5 rfl rfl)
abbrev cX11_step : ByteArray := prog_12_method_4_code
def yX11_step : MethodName := ⟨RX11, "step", "(I)V"⟩
def dkwX11_step_1 : List UInt8 := [180, 0, 24, 185, 0, 58, 1, 0, 87, 167, 0, 13, 42, 180, 0, 24, 185, 0, 62, 1, 0, 87, 177]
abbrev dktX11_step_1 : List UInt8 := dkwX11_step_1 ++ []
def dkwX11_step_0 : List UInt8 := [42, 27, 4, 160, 0, 7, 4, 167, 0, 4, 3, 181, 0, 54, 42, 180, 0, 54, 153, 0, 16, 42]
abbrev dktX11_step_0 : List UInt8 := dkwX11_step_0 ++ dktX11_step_1
theorem dksX11_step_0 : cX11_step.data.toList.drop 0 = dktX11_step_0 := by decide +kernel
theorem dksX11_step_1 : cX11_step.data.toList.drop 22 = dktX11_step_1 := dk_seg dksX11_step_0 22 rfl rfl
theorem dX11_step_0 : decode cX11_step 0 = .ok (.aload_n 0, 1) := dk_42 (dk_at dksX11_step_0 0 rfl rfl)
theorem dX11_step_1 : decode cX11_step 1 = .ok (.iload_n 1, 1) := dk_27 (dk_at dksX11_step_0 1 rfl rfl)
theorem dX11_step_2 : decode cX11_step 2 = .ok (.iconst 1, 1) := dk_4 (dk_at dksX11_step_0 2 rfl rfl)
theorem dX11_step_3 : decode cX11_step 3 = .ok (.if_icmp .ne 7, 3) := dk_160 0 7 (dk_at dksX11_step_0 3 rfl rfl)
theorem dX11_step_6 : decode cX11_step 6 = .ok (.iconst 1, 1) := dk_4 (dk_at dksX11_step_0 6 rfl rfl)
theorem dX11_step_7 : decode cX11_step 7 = .ok (.goto 4, 3) := dk_167 0 4 (dk_at dksX11_step_0 7 rfl rfl)
theorem dX11_step_10 : decode cX11_step 10 = .ok (.iconst 0, 1) := dk_3 (dk_at dksX11_step_0 10 rfl rfl)
theorem dX11_step_11 : decode cX11_step 11 = .ok (.putfield 54, 3) := dk_181 0 54 (dk_at dksX11_step_0 11 rfl rfl)
theorem dX11_step_14 : decode cX11_step 14 = .ok (.aload_n 0, 1) := dk_42 (dk_at dksX11_step_0 14 rfl rfl)
theorem dX11_step_15 : decode cX11_step 15 = .ok (.getfield 54, 3) := dk_180 0 54 (dk_at dksX11_step_0 15 rfl rfl)
theorem dX11_step_18 : decode cX11_step 18 = .ok (.ifCond .eq 16, 3) := dk_153 0 16 (dk_at dksX11_step_0 18 rfl rfl)
theorem dX11_step_21 : decode cX11_step 21 = .ok (.aload_n 0, 1) := dk_42 (dk_at dksX11_step_0 21 rfl rfl)
theorem dX11_step_22 : decode cX11_step 22 = .ok (.getfield 24, 3) := dk_180 0 24 (dk_at dksX11_step_1 0 rfl rfl)
theorem dX11_step_25 : decode cX11_step 25 = .ok (.invokeinterface 58 1, 5) := by decide +kernel
theorem dX11_step_30 : decode cX11_step 30 = .ok (.pop, 1) := dk_87 (dk_at dksX11_step_1 8 rfl rfl)
theorem dX11_step_31 : decode cX11_step 31 = .ok (.goto 13, 3) := dk_167 0 13 (dk_at dksX11_step_1 9 rfl rfl)
theorem dX11_step_34 : decode cX11_step 34 = .ok (.aload_n 0, 1) := dk_42 (dk_at dksX11_step_1 12 rfl rfl)
theorem dX11_step_35 : decode cX11_step 35 = .ok (.getfield 24, 3) := dk_180 0 24 (dk_at dksX11_step_1 13 rfl rfl)
theorem dX11_step_38 : decode cX11_step 38 = .ok (.invokeinterface 62 1, 5) := by decide +kernel
theorem dX11_step_43 : decode cX11_step 43 = .ok (.pop, 1) := dk_87 (dk_at dksX11_step_1 21 rfl rfl)
theorem dX11_step_44 : decode cX11_step 44 = .ok (.return_, 1) := dk_177 (dk_at dksX11_step_1 22 rfl rfl)
abbrev cX11_add : ByteArray := prog_12_method_5_code
def yX11_add : MethodName := ⟨RX11, "add", "(Ljava/lang/Object;)I"⟩
def dkwX11_add_1 : List UInt8 := [182, 0, 65, 172]
abbrev dktX11_add_1 : List UInt8 := dkwX11_add_1 ++ []
def dkwX11_add_0 : List UInt8 := [42, 182, 0, 65, 16, 12, 160, 0, 6, 16, 241, 172, 42, 180, 0, 24, 43, 185, 0, 68, 2, 0, 42]
abbrev dktX11_add_0 : List UInt8 := dkwX11_add_0 ++ dktX11_add_1
theorem dksX11_add_0 : cX11_add.data.toList.drop 0 = dktX11_add_0 := by decide +kernel
theorem dksX11_add_1 : cX11_add.data.toList.drop 23 = dktX11_add_1 := dk_seg dksX11_add_0 23 rfl rfl
theorem dX11_add_0 : decode cX11_add 0 = .ok (.aload_n 0, 1) := dk_42 (dk_at dksX11_add_0 0 rfl rfl)
theorem dX11_add_1 : decode cX11_add 1 = .ok (.invokevirtual 65, 3) := dk_182 0 65 (dk_at dksX11_add_0 1 rfl rfl)
theorem dX11_add_4 : decode cX11_add 4 = .ok (.bipush 12, 2) := dk_16 12 (dk_at dksX11_add_0 4 rfl rfl)
theorem dX11_add_6 : decode cX11_add 6 = .ok (.if_icmp .ne 6, 3) := dk_160 0 6 (dk_at dksX11_add_0 6 rfl rfl)
theorem dX11_add_9 : decode cX11_add 9 = .ok (.bipush (-15), 2) := dk_16 241 (dk_at dksX11_add_0 9 rfl rfl)
theorem dX11_add_11 : decode cX11_add 11 = .ok (.ireturn, 1) := dk_172 (dk_at dksX11_add_0 11 rfl rfl)
theorem dX11_add_12 : decode cX11_add 12 = .ok (.aload_n 0, 1) := dk_42 (dk_at dksX11_add_0 12 rfl rfl)
theorem dX11_add_13 : decode cX11_add 13 = .ok (.getfield 24, 3) := dk_180 0 24 (dk_at dksX11_add_0 13 rfl rfl)
theorem dX11_add_16 : decode cX11_add 16 = .ok (.aload_n 1, 1) := dk_43 (dk_at dksX11_add_0 16 rfl rfl)
theorem dX11_add_17 : decode cX11_add 17 = .ok (.invokeinterface 68 2, 5) := by decide +kernel
theorem dX11_add_22 : decode cX11_add 22 = .ok (.aload_n 0, 1) := dk_42 (dk_at dksX11_add_0 22 rfl rfl)
theorem dX11_add_23 : decode cX11_add 23 = .ok (.invokevirtual 65, 3) := dk_182 0 65 (dk_at dksX11_add_1 0 rfl rfl)
theorem dX11_add_26 : decode cX11_add 26 = .ok (.ireturn, 1) := dk_172 (dk_at dksX11_add_1 3 rfl rfl)
abbrev cX11_many : ByteArray := prog_12_method_2_code
def yX11_many : MethodName := ⟨RX11, "many", "()I"⟩
def dkwX11_many_0 : List UInt8 := [42, 180, 0, 12, 185, 0, 28, 1, 0, 172]
abbrev dktX11_many_0 : List UInt8 := dkwX11_many_0 ++ []
theorem dksX11_many_0 : cX11_many.data.toList.drop 0 = dktX11_many_0 := by decide +kernel
theorem dX11_many_0 : decode cX11_many 0 = .ok (.aload_n 0, 1) := dk_42 (dk_at dksX11_many_0 0 rfl rfl)
theorem dX11_many_1 : decode cX11_many 1 = .ok (.getfield 12, 3) := dk_180 0 12 (dk_at dksX11_many_0 1 rfl rfl)
theorem dX11_many_4 : decode cX11_many 4 = .ok (.invokeinterface 28 1, 5) := by decide +kernel
theorem dX11_many_9 : decode cX11_many 9 = .ok (.ireturn, 1) := dk_172 (dk_at dksX11_many_0 9 rfl rfl)
abbrev cX11_set : ByteArray := prog_12_method_6_code
def yX11_set : MethodName := ⟨RX11, "set", "(Ljava/lang/Object;)I"⟩
def dkwX11_set_1 : List UInt8 := [185, 0, 44, 1, 0, 167, 0, 12, 42, 180, 0, 24, 185, 0, 47, 1, 0, 172]
abbrev dktX11_set_1 : List UInt8 := dkwX11_set_1 ++ []
def dkwX11_set_0 : List UInt8 := [42, 180, 0, 24, 43, 185, 0, 72, 2, 0, 42, 180, 0, 54, 153, 0, 15, 42, 180, 0, 24]
abbrev dktX11_set_0 : List UInt8 := dkwX11_set_0 ++ dktX11_set_1
theorem dksX11_set_0 : cX11_set.data.toList.drop 0 = dktX11_set_0 := by decide +kernel
theorem dksX11_set_1 : cX11_set.data.toList.drop 21 = dktX11_set_1 := dk_seg dksX11_set_0 21 rfl rfl
theorem dX11_set_0 : decode cX11_set 0 = .ok (.aload_n 0, 1) := dk_42 (dk_at dksX11_set_0 0 rfl rfl)
theorem dX11_set_1 : decode cX11_set 1 = .ok (.getfield 24, 3) := dk_180 0 24 (dk_at dksX11_set_0 1 rfl rfl)
theorem dX11_set_4 : decode cX11_set 4 = .ok (.aload_n 1, 1) := dk_43 (dk_at dksX11_set_0 4 rfl rfl)
theorem dX11_set_5 : decode cX11_set 5 = .ok (.invokeinterface 72 2, 5) := by decide +kernel
theorem dX11_set_10 : decode cX11_set 10 = .ok (.aload_n 0, 1) := dk_42 (dk_at dksX11_set_0 10 rfl rfl)
theorem dX11_set_11 : decode cX11_set 11 = .ok (.getfield 54, 3) := dk_180 0 54 (dk_at dksX11_set_0 11 rfl rfl)
theorem dX11_set_14 : decode cX11_set 14 = .ok (.ifCond .eq 15, 3) := dk_153 0 15 (dk_at dksX11_set_0 14 rfl rfl)
theorem dX11_set_17 : decode cX11_set 17 = .ok (.aload_n 0, 1) := dk_42 (dk_at dksX11_set_0 17 rfl rfl)
theorem dX11_set_18 : decode cX11_set 18 = .ok (.getfield 24, 3) := dk_180 0 24 (dk_at dksX11_set_0 18 rfl rfl)
theorem dX11_set_21 : decode cX11_set 21 = .ok (.invokeinterface 44 1, 5) := by decide +kernel
theorem dX11_set_26 : decode cX11_set 26 = .ok (.goto 12, 3) := dk_167 0 12 (dk_at dksX11_set_1 5 rfl rfl)
theorem dX11_set_29 : decode cX11_set 29 = .ok (.aload_n 0, 1) := dk_42 (dk_at dksX11_set_1 8 rfl rfl)
theorem dX11_set_30 : decode cX11_set 30 = .ok (.getfield 24, 3) := dk_180 0 24 (dk_at dksX11_set_1 9 rfl rfl)
theorem dX11_set_33 : decode cX11_set 33 = .ok (.invokeinterface 47 1, 5) := by decide +kernel
theorem dX11_set_38 : decode cX11_set 38 = .ok (.ireturn, 1) := dk_172 (dk_at dksX11_set_1 17 rfl rfl)
abbrev cX11_cut : ByteArray := prog_12_method_7_code
def yX11_cut : MethodName := ⟨RX11, "cut", "()I"⟩
def dkwX11_cut_0 : List UInt8 := [42, 180, 0, 24, 185, 0, 75, 1, 0, 42, 182, 0, 65, 172]
abbrev dktX11_cut_0 : List UInt8 := dkwX11_cut_0 ++ []
theorem dksX11_cut_0 : cX11_cut.data.toList.drop 0 = dktX11_cut_0 := by decide +kernel
theorem dX11_cut_0 : decode cX11_cut 0 = .ok (.aload_n 0, 1) := dk_42 (dk_at dksX11_cut_0 0 rfl rfl)
theorem dX11_cut_1 : decode cX11_cut 1 = .ok (.getfield 24, 3) := dk_180 0 24 (dk_at dksX11_cut_0 1 rfl rfl)
theorem dX11_cut_4 : decode cX11_cut 4 = .ok (.invokeinterface 75 1, 5) := by decide +kernel
theorem dX11_cut_9 : decode cX11_cut 9 = .ok (.aload_n 0, 1) := dk_42 (dk_at dksX11_cut_0 9 rfl rfl)
theorem dX11_cut_10 : decode cX11_cut 10 = .ok (.invokevirtual 65, 3) := dk_182 0 65 (dk_at dksX11_cut_0 10 rfl rfl)
theorem dX11_cut_13 : decode cX11_cut 13 = .ok (.ireturn, 1) := dk_172 (dk_at dksX11_cut_0 13 rfl rfl)
abbrev cX11_rewind : ByteArray := prog_12_method_8_code
def yX11_rewind : MethodName := ⟨RX11, "rewind", "()I"⟩
def dkwX11_rewind_1 : List UInt8 := [172]
abbrev dktX11_rewind_1 : List UInt8 := dkwX11_rewind_1 ++ []
def dkwX11_rewind_0 : List UInt8 := [42, 180, 0, 24, 185, 0, 44, 1, 0, 60, 42, 42, 180, 0, 12, 185, 0, 18, 1, 0, 181, 0, 24, 27]
abbrev dktX11_rewind_0 : List UInt8 := dkwX11_rewind_0 ++ dktX11_rewind_1
theorem dksX11_rewind_0 : cX11_rewind.data.toList.drop 0 = dktX11_rewind_0 := by decide +kernel
theorem dksX11_rewind_1 : cX11_rewind.data.toList.drop 24 = dktX11_rewind_1 := dk_seg dksX11_rewind_0 24 rfl rfl
theorem dX11_rewind_0 : decode cX11_rewind 0 = .ok (.aload_n 0, 1) := dk_42 (dk_at dksX11_rewind_0 0 rfl rfl)
theorem dX11_rewind_1 : decode cX11_rewind 1 = .ok (.getfield 24, 3) := dk_180 0 24 (dk_at dksX11_rewind_0 1 rfl rfl)
theorem dX11_rewind_4 : decode cX11_rewind 4 = .ok (.invokeinterface 44 1, 5) := by decide +kernel
theorem dX11_rewind_9 : decode cX11_rewind 9 = .ok (.istore_n 1, 1) := dk_60 (dk_at dksX11_rewind_0 9 rfl rfl)
theorem dX11_rewind_10 : decode cX11_rewind 10 = .ok (.aload_n 0, 1) := dk_42 (dk_at dksX11_rewind_0 10 rfl rfl)
theorem dX11_rewind_11 : decode cX11_rewind 11 = .ok (.aload_n 0, 1) := dk_42 (dk_at dksX11_rewind_0 11 rfl rfl)
theorem dX11_rewind_12 : decode cX11_rewind 12 = .ok (.getfield 12, 3) := dk_180 0 12 (dk_at dksX11_rewind_0 12 rfl rfl)
theorem dX11_rewind_15 : decode cX11_rewind 15 = .ok (.invokeinterface 18 1, 5) := by decide +kernel
theorem dX11_rewind_20 : decode cX11_rewind 20 = .ok (.putfield 24, 3) := dk_181 0 24 (dk_at dksX11_rewind_0 20 rfl rfl)
theorem dX11_rewind_23 : decode cX11_rewind 23 = .ok (.iload_n 1, 1) := dk_27 (dk_at dksX11_rewind_0 23 rfl rfl)
theorem dX11_rewind_24 : decode cX11_rewind 24 = .ok (.ireturn, 1) := dk_172 (dk_at dksX11_rewind_1 0 rfl rfl)
theorem q84 : (Jvm.Cond.initialized "NutCaches$Trail") ∈ lw_all := lw_g (lw_at lw_m1 36 rfl) rfl
theorem q618 : (Jvm.Cond.selects "NutCaches$Trail" ({ cls := "java/lang/Object", name := "equals", desc := "(Ljava/lang/Object;)Z" } : Jvm.MethodName) ({ cls := "java/lang/Object", name := "equals", desc := "(Ljava/lang/Object;)Z" } : Jvm.MethodName)) ∈ lw_all := lw_g (lw_at lw_m3 90 rfl) rfl
theorem q1121 : (Jvm.Cond.instantiable "NutCaches$Trail" (3 : Nat)) ∈ lw_all := lw_g (lw_at lw_m5 113 rfl) rfl
theorem q1123 : (Jvm.Cond.instanceMethod ({ cls := "NutCaches$Trail", name := "<init>", desc := "()V" } : Jvm.MethodName)) ∈ lw_all := lw_g (lw_at lw_m5 115 rfl) rfl
theorem q1124 : (Jvm.Cond.code ({ cls := "NutCaches$Trail", name := "<init>", desc := "()V" } : Jvm.MethodName) prog_12_method_1_code (1 : Nat) (Option.none : Option Jvm.ClassFile.FieldType)) ∈ lw_all := lw_g (lw_at lw_m5 116 rfl) rfl
theorem q1125 : (Jvm.Cond.methodLink "NutCaches$Trail" (3 : Nat) ({ cls := "java/lang/Object", name := "<init>", desc := "()V" } : Jvm.MethodName)) ∈ lw_all := lw_g (lw_at lw_m5 117 rfl) rfl
theorem q1126 : (Jvm.Cond.classLink "NutCaches$Trail" (9 : Nat) "java/util/ArrayList") ∈ lw_all := lw_g (lw_at lw_m5 118 rfl) rfl
theorem q1128 : (Jvm.Cond.methodLink "NutCaches$Trail" (11 : Nat) ({ cls := "java/util/ArrayList", name := "<init>", desc := "()V" } : Jvm.MethodName)) ∈ lw_all := lw_g (lw_at lw_m5 120 rfl) rfl
theorem q1145 : (Jvm.Cond.interfaceEntry "NutCaches$Trail" (18 : Nat)) ∈ lw_tbl := lw_at lw_m5 137 rfl
theorem q1146 : (Jvm.Cond.methodLink "NutCaches$Trail" (18 : Nat) ({ cls := "java/util/List", name := "listIterator", desc := "()Ljava/util/ListIterator;" } : Jvm.MethodName)) ∈ lw_all := lw_g (lw_at lw_m5 138 rfl) rfl
theorem q1246 : (Jvm.Cond.fieldLink "NutCaches$Trail" (12 : Nat) "NutCaches$Trail" "things" "Ljava/util/List;") ∈ lw_all := lw_g (lw_at lw_m5 238 rfl) rfl
theorem q1247 : (Jvm.Cond.fieldLink "NutCaches$Trail" (24 : Nat) "NutCaches$Trail" "hand" "Ljava/util/ListIterator;") ∈ lw_all := lw_g (lw_at lw_m5 239 rfl) rfl
theorem q1248 : (Jvm.Cond.fieldLink "NutCaches$Trail" (54 : Nat) "NutCaches$Trail" "isBack" "Z") ∈ lw_all := lw_g (lw_at lw_m6 0 rfl) rfl
theorem q1249 : (Jvm.Cond.laysFinal "NutCaches$Trail" "NutCaches$Trail" "things" "Ljava/util/List;") ∈ lw_all := lw_g (lw_at lw_m6 1 rfl) rfl
theorem q1250 : (Jvm.Cond.soleField "NutCaches$Trail" "things") ∈ lw_all := lw_g (lw_at lw_m6 2 rfl) rfl
theorem q1251 : (Jvm.Cond.lays "NutCaches$Trail" "NutCaches$Trail" "hand" "Ljava/util/ListIterator;") ∈ lw_all := lw_g (lw_at lw_m6 3 rfl) rfl
theorem q1252 : (Jvm.Cond.soleField "NutCaches$Trail" "hand") ∈ lw_all := lw_g (lw_at lw_m6 4 rfl) rfl
theorem q1253 : (Jvm.Cond.lays "NutCaches$Trail" "NutCaches$Trail" "isBack" "Z") ∈ lw_all := lw_g (lw_at lw_m6 5 rfl) rfl
theorem q1254 : (Jvm.Cond.soleField "NutCaches$Trail" "isBack") ∈ lw_all := lw_g (lw_at lw_m6 6 rfl) rfl
theorem q1255 : (Jvm.Cond.superclass "NutCaches$Trail" "java/lang/Object") ∈ lw_all := lw_g (lw_at lw_m6 7 rfl) rfl
theorem q1262 : (Jvm.Cond.instanceMethod ({ cls := "NutCaches$Trail", name := "ahead", desc := "(I)Ljava/lang/Object;" } : Jvm.MethodName)) ∈ lw_all := lw_g (lw_at lw_m6 14 rfl) rfl
theorem q1263 : (Jvm.Cond.selects "NutCaches$Trail" ({ cls := "NutCaches$Trail", name := "ahead", desc := "(I)Ljava/lang/Object;" } : Jvm.MethodName) ({ cls := "NutCaches$Trail", name := "ahead", desc := "(I)Ljava/lang/Object;" } : Jvm.MethodName)) ∈ lw_all := lw_g (lw_at lw_m6 15 rfl) rfl
theorem q1264 : (Jvm.Cond.code ({ cls := "NutCaches$Trail", name := "ahead", desc := "(I)Ljava/lang/Object;" } : Jvm.MethodName) prog_12_method_3_code (2 : Nat) (Option.some (Jvm.ClassFile.FieldType.object "java/lang/Object"))) ∈ lw_all := lw_g (lw_at lw_m6 16 rfl) rfl
theorem q1265 : (Jvm.Cond.interfaceEntry "NutCaches$Trail" (32 : Nat)) ∈ lw_tbl := lw_at lw_m6 17 rfl
theorem q1266 : (Jvm.Cond.methodLink "NutCaches$Trail" (32 : Nat) ({ cls := "java/util/ListIterator", name := "hasNext", desc := "()Z" } : Jvm.MethodName)) ∈ lw_all := lw_g (lw_at lw_m6 18 rfl) rfl
theorem q1282 : (Jvm.Cond.interfaceEntry "NutCaches$Trail" (38 : Nat)) ∈ lw_tbl := lw_at lw_m6 34 rfl
theorem q1283 : (Jvm.Cond.methodLink "NutCaches$Trail" (38 : Nat) ({ cls := "java/util/ListIterator", name := "hasPrevious", desc := "()Z" } : Jvm.MethodName)) ∈ lw_all := lw_g (lw_at lw_m6 35 rfl) rfl
theorem q1296 : (Jvm.Cond.classLink "NutCaches$Trail" (41 : Nat) "java/util/NoSuchElementException") ∈ lw_all := lw_g (lw_at lw_m6 48 rfl) rfl
theorem q1305 : (Jvm.Cond.methodLink "NutCaches$Trail" (43 : Nat) ({ cls := "java/util/NoSuchElementException", name := "<init>", desc := "()V" } : Jvm.MethodName)) ∈ lw_all := lw_g (lw_at lw_m6 57 rfl) rfl
theorem q1311 : (Jvm.Cond.interfaceEntry "NutCaches$Trail" (44 : Nat)) ∈ lw_tbl := lw_at lw_m6 63 rfl
theorem q1312 : (Jvm.Cond.methodLink "NutCaches$Trail" (44 : Nat) ({ cls := "java/util/ListIterator", name := "nextIndex", desc := "()I" } : Jvm.MethodName)) ∈ lw_all := lw_g (lw_at lw_m6 64 rfl) rfl
theorem q1325 : (Jvm.Cond.interfaceEntry "NutCaches$Trail" (47 : Nat)) ∈ lw_tbl := lw_at lw_m6 77 rfl
theorem q1326 : (Jvm.Cond.methodLink "NutCaches$Trail" (47 : Nat) ({ cls := "java/util/ListIterator", name := "previousIndex", desc := "()I" } : Jvm.MethodName)) ∈ lw_all := lw_g (lw_at lw_m6 78 rfl) rfl
theorem q1339 : (Jvm.Cond.interfaceEntry "NutCaches$Trail" (50 : Nat)) ∈ lw_tbl := lw_at lw_m6 91 rfl
theorem q1340 : (Jvm.Cond.methodLink "NutCaches$Trail" (50 : Nat) ({ cls := "java/util/List", name := "get", desc := "(I)Ljava/lang/Object;" } : Jvm.MethodName)) ∈ lw_all := lw_g (lw_at lw_m6 92 rfl) rfl
theorem q1373 : (Jvm.Cond.instanceMethod ({ cls := "NutCaches$Trail", name := "step", desc := "(I)V" } : Jvm.MethodName)) ∈ lw_all := lw_g (lw_at lw_m6 125 rfl) rfl
theorem q1374 : (Jvm.Cond.selects "NutCaches$Trail" ({ cls := "NutCaches$Trail", name := "step", desc := "(I)V" } : Jvm.MethodName) ({ cls := "NutCaches$Trail", name := "step", desc := "(I)V" } : Jvm.MethodName)) ∈ lw_all := lw_g (lw_at lw_m6 126 rfl) rfl
theorem q1375 : (Jvm.Cond.code ({ cls := "NutCaches$Trail", name := "step", desc := "(I)V" } : Jvm.MethodName) prog_12_method_4_code (2 : Nat) (Option.none : Option Jvm.ClassFile.FieldType)) ∈ lw_all := lw_g (lw_at lw_m6 127 rfl) rfl
theorem q1376 : (Jvm.Cond.interfaceEntry "NutCaches$Trail" (58 : Nat)) ∈ lw_tbl := lw_at lw_m6 128 rfl
theorem q1377 : (Jvm.Cond.methodLink "NutCaches$Trail" (58 : Nat) ({ cls := "java/util/ListIterator", name := "previous", desc := "()Ljava/lang/Object;" } : Jvm.MethodName)) ∈ lw_all := lw_g (lw_at lw_m6 129 rfl) rfl
theorem q1431 : (Jvm.Cond.selects "NutCaches$Trail" ({ cls := "java/lang/Object", name := "getClass", desc := "()Ljava/lang/Class;" } : Jvm.MethodName) ({ cls := "java/lang/Object", name := "getClass", desc := "()Ljava/lang/Class;" } : Jvm.MethodName)) ∈ lw_all := lw_g (lw_at lw_m6 183 rfl) rfl
theorem q1528 : (Jvm.Cond.interfaceEntry "NutCaches$Trail" (62 : Nat)) ∈ lw_tbl := lw_at lw_m7 40 rfl
theorem q1529 : (Jvm.Cond.methodLink "NutCaches$Trail" (62 : Nat) ({ cls := "java/util/ListIterator", name := "next", desc := "()Ljava/lang/Object;" } : Jvm.MethodName)) ∈ lw_all := lw_g (lw_at lw_m7 41 rfl) rfl
theorem q1592 : (Jvm.Cond.instanceMethod ({ cls := "NutCaches$Trail", name := "add", desc := "(Ljava/lang/Object;)I" } : Jvm.MethodName)) ∈ lw_all := lw_g (lw_at lw_m7 104 rfl) rfl
theorem q1593 : (Jvm.Cond.selects "NutCaches$Trail" ({ cls := "NutCaches$Trail", name := "add", desc := "(Ljava/lang/Object;)I" } : Jvm.MethodName) ({ cls := "NutCaches$Trail", name := "add", desc := "(Ljava/lang/Object;)I" } : Jvm.MethodName)) ∈ lw_all := lw_g (lw_at lw_m7 105 rfl) rfl
theorem q1594 : (Jvm.Cond.code ({ cls := "NutCaches$Trail", name := "add", desc := "(Ljava/lang/Object;)I" } : Jvm.MethodName) prog_12_method_5_code (2 : Nat) (Option.some Jvm.ClassFile.FieldType.int)) ∈ lw_all := lw_g (lw_at lw_m7 106 rfl) rfl
theorem q1595 : (Jvm.Cond.methodLink "NutCaches$Trail" (65 : Nat) ({ cls := "NutCaches$Trail", name := "many", desc := "()I" } : Jvm.MethodName)) ∈ lw_all := lw_g (lw_at lw_m7 107 rfl) rfl
theorem q1596 : (Jvm.Cond.instanceMethod ({ cls := "NutCaches$Trail", name := "many", desc := "()I" } : Jvm.MethodName)) ∈ lw_all := lw_g (lw_at lw_m7 108 rfl) rfl
theorem q1597 : (Jvm.Cond.selects "NutCaches$Trail" ({ cls := "NutCaches$Trail", name := "many", desc := "()I" } : Jvm.MethodName) ({ cls := "NutCaches$Trail", name := "many", desc := "()I" } : Jvm.MethodName)) ∈ lw_all := lw_g (lw_at lw_m7 109 rfl) rfl
theorem q1598 : (Jvm.Cond.code ({ cls := "NutCaches$Trail", name := "many", desc := "()I" } : Jvm.MethodName) prog_12_method_2_code (1 : Nat) (Option.some Jvm.ClassFile.FieldType.int)) ∈ lw_all := lw_g (lw_at lw_m7 110 rfl) rfl
theorem q1599 : (Jvm.Cond.interfaceEntry "NutCaches$Trail" (28 : Nat)) ∈ lw_tbl := lw_at lw_m7 111 rfl
theorem q1600 : (Jvm.Cond.methodLink "NutCaches$Trail" (28 : Nat) ({ cls := "java/util/List", name := "size", desc := "()I" } : Jvm.MethodName)) ∈ lw_all := lw_g (lw_at lw_m7 112 rfl) rfl
theorem q1609 : (Jvm.Cond.interfaceEntry "NutCaches$Trail" (68 : Nat)) ∈ lw_tbl := lw_at lw_m7 121 rfl
theorem q1610 : (Jvm.Cond.methodLink "NutCaches$Trail" (68 : Nat) ({ cls := "java/util/ListIterator", name := "add", desc := "(Ljava/lang/Object;)V" } : Jvm.MethodName)) ∈ lw_all := lw_g (lw_at lw_m7 122 rfl) rfl
theorem q1675 : (Jvm.Cond.instanceMethod ({ cls := "NutCaches$Trail", name := "set", desc := "(Ljava/lang/Object;)I" } : Jvm.MethodName)) ∈ lw_all := lw_g (lw_at lw_m7 187 rfl) rfl
theorem q1676 : (Jvm.Cond.selects "NutCaches$Trail" ({ cls := "NutCaches$Trail", name := "set", desc := "(Ljava/lang/Object;)I" } : Jvm.MethodName) ({ cls := "NutCaches$Trail", name := "set", desc := "(Ljava/lang/Object;)I" } : Jvm.MethodName)) ∈ lw_all := lw_g (lw_at lw_m7 188 rfl) rfl
theorem q1677 : (Jvm.Cond.code ({ cls := "NutCaches$Trail", name := "set", desc := "(Ljava/lang/Object;)I" } : Jvm.MethodName) prog_12_method_6_code (2 : Nat) (Option.some Jvm.ClassFile.FieldType.int)) ∈ lw_all := lw_g (lw_at lw_m7 189 rfl) rfl
theorem q1678 : (Jvm.Cond.interfaceEntry "NutCaches$Trail" (72 : Nat)) ∈ lw_tbl := lw_at lw_m7 190 rfl
theorem q1679 : (Jvm.Cond.methodLink "NutCaches$Trail" (72 : Nat) ({ cls := "java/util/ListIterator", name := "set", desc := "(Ljava/lang/Object;)V" } : Jvm.MethodName)) ∈ lw_all := lw_g (lw_at lw_m7 191 rfl) rfl
theorem q1725 : (Jvm.Cond.instanceMethod ({ cls := "NutCaches$Trail", name := "cut", desc := "()I" } : Jvm.MethodName)) ∈ lw_all := lw_g (lw_at lw_m7 237 rfl) rfl
theorem q1726 : (Jvm.Cond.selects "NutCaches$Trail" ({ cls := "NutCaches$Trail", name := "cut", desc := "()I" } : Jvm.MethodName) ({ cls := "NutCaches$Trail", name := "cut", desc := "()I" } : Jvm.MethodName)) ∈ lw_all := lw_g (lw_at lw_m7 238 rfl) rfl
theorem q1727 : (Jvm.Cond.code ({ cls := "NutCaches$Trail", name := "cut", desc := "()I" } : Jvm.MethodName) prog_12_method_7_code (1 : Nat) (Option.some Jvm.ClassFile.FieldType.int)) ∈ lw_all := lw_g (lw_at lw_m7 239 rfl) rfl
theorem q1728 : (Jvm.Cond.interfaceEntry "NutCaches$Trail" (75 : Nat)) ∈ lw_tbl := lw_at lw_m8 0 rfl
theorem q1729 : (Jvm.Cond.methodLink "NutCaches$Trail" (75 : Nat) ({ cls := "java/util/ListIterator", name := "remove", desc := "()V" } : Jvm.MethodName)) ∈ lw_all := lw_g (lw_at lw_m8 1 rfl) rfl
theorem q1768 : (Jvm.Cond.instanceMethod ({ cls := "NutCaches$Trail", name := "rewind", desc := "()I" } : Jvm.MethodName)) ∈ lw_all := lw_g (lw_at lw_m8 40 rfl) rfl
theorem q1769 : (Jvm.Cond.selects "NutCaches$Trail" ({ cls := "NutCaches$Trail", name := "rewind", desc := "()I" } : Jvm.MethodName) ({ cls := "NutCaches$Trail", name := "rewind", desc := "()I" } : Jvm.MethodName)) ∈ lw_all := lw_g (lw_at lw_m8 41 rfl) rfl
theorem q1770 : (Jvm.Cond.code ({ cls := "NutCaches$Trail", name := "rewind", desc := "()I" } : Jvm.MethodName) prog_12_method_8_code (2 : Nat) (Option.some Jvm.ClassFile.FieldType.int)) ∈ lw_all := lw_g (lw_at lw_m8 42 rfl) rfl
theorem q2205 : (Jvm.Cond.castable "NutCaches$Trail" "java/lang/Object") ∈ lw_tbl := lw_at lw_m9 237 rfl
theorem in_X11 : ∀ w ∈ wsX110, w ∈ lw_all := lw_in wsX110 [1249, 1251, 1253] (by decide +kernel) (by decide +kernel)
/-! NutCaches$Habit -/
set_option maxRecDepth 100000
def RX12 : String := "NutCaches$Habit"
abbrev cX12_wants : ByteArray := prog_5_method_3_code
def yX12_wants : MethodName := ⟨RX12, "wants", "(I)I"⟩
theorem dX12_wants_0 : decode cX12_wants 0 = .ok (.iload_n 1, 1) := by decide +kernel
theorem dX12_wants_1 : decode cX12_wants 1 = .ok (.ireturn, 1) := by decide +kernel
abbrev cX12_spies : ByteArray := prog_5_method_4_code
def yX12_spies : MethodName := ⟨RX12, "spies", "()Z"⟩
theorem dX12_spies_0 : decode cX12_spies 0 = .ok (.iconst 0, 1) := by decide +kernel
theorem dX12_spies_1 : decode cX12_spies 1 = .ok (.ireturn, 1) := by decide +kernel
abbrev cX12_wakes : ByteArray := prog_5_method_2_code
def yX12_wakes : MethodName := ⟨RX12, "wakes", "(I)Z"⟩
theorem dX12_wakes_0 : decode cX12_wakes 0 = .ok (.iconst 1, 1) := by decide +kernel
theorem dX12_wakes_1 : decode cX12_wakes 1 = .ok (.ireturn, 1) := by decide +kernel
theorem q871 : (Jvm.Cond.declares ({ cls := "NutCaches$Habit", name := "wants", desc := "(I)I" } : Jvm.MethodName)) ∈ lw_tbl := lw_at lw_m4 103 rfl
theorem q875 : (Jvm.Cond.instanceMethod ({ cls := "NutCaches$Habit", name := "wants", desc := "(I)I" } : Jvm.MethodName)) ∈ lw_all := lw_g (lw_at lw_m4 107 rfl) rfl
theorem q876 : (Jvm.Cond.code ({ cls := "NutCaches$Habit", name := "wants", desc := "(I)I" } : Jvm.MethodName) prog_5_method_3_code (2 : Nat) (Option.some Jvm.ClassFile.FieldType.int)) ∈ lw_all := lw_g (lw_at lw_m4 108 rfl) rfl
theorem q883 : (Jvm.Cond.publicMethod ({ cls := "NutCaches$Habit", name := "wants", desc := "(I)I" } : Jvm.MethodName)) ∈ lw_tbl := lw_at lw_m4 115 rfl
theorem q937 : (Jvm.Cond.declares ({ cls := "NutCaches$Habit", name := "spies", desc := "()Z" } : Jvm.MethodName)) ∈ lw_tbl := lw_at lw_m4 169 rfl
theorem q945 : (Jvm.Cond.instanceMethod ({ cls := "NutCaches$Habit", name := "spies", desc := "()Z" } : Jvm.MethodName)) ∈ lw_all := lw_g (lw_at lw_m4 177 rfl) rfl
theorem q946 : (Jvm.Cond.code ({ cls := "NutCaches$Habit", name := "spies", desc := "()Z" } : Jvm.MethodName) prog_5_method_4_code (1 : Nat) (Option.some Jvm.ClassFile.FieldType.boolean)) ∈ lw_all := lw_g (lw_at lw_m4 178 rfl) rfl
theorem q947 : (Jvm.Cond.publicMethod ({ cls := "NutCaches$Habit", name := "spies", desc := "()Z" } : Jvm.MethodName)) ∈ lw_tbl := lw_at lw_m4 179 rfl
theorem q959 : (Jvm.Cond.declares ({ cls := "NutCaches$Habit", name := "wakes", desc := "(I)Z" } : Jvm.MethodName)) ∈ lw_tbl := lw_at lw_m4 191 rfl
theorem q963 : (Jvm.Cond.instanceMethod ({ cls := "NutCaches$Habit", name := "wakes", desc := "(I)Z" } : Jvm.MethodName)) ∈ lw_all := lw_g (lw_at lw_m4 195 rfl) rfl
theorem q964 : (Jvm.Cond.code ({ cls := "NutCaches$Habit", name := "wakes", desc := "(I)Z" } : Jvm.MethodName) prog_5_method_2_code (2 : Nat) (Option.some Jvm.ClassFile.FieldType.boolean)) ∈ lw_all := lw_g (lw_at lw_m4 196 rfl) rfl
theorem q972 : (Jvm.Cond.publicMethod ({ cls := "NutCaches$Habit", name := "wakes", desc := "(I)Z" } : Jvm.MethodName)) ∈ lw_tbl := lw_at lw_m4 204 rfl
theorem q984 : (Jvm.Cond.declares ({ cls := "NutCaches$Habit", name := "rank", desc := "(IIII)I" } : Jvm.MethodName)) ∈ lw_tbl := lw_at lw_m4 216 rfl
theorem q2195 : (Jvm.Cond.initialized "NutCaches$Habit") ∈ lw_all := lw_g (lw_at lw_m9 227 rfl) rfl
/-! the law's own entry -/
set_option maxRecDepth 100000
abbrev cL_law : ByteArray := code
def dkwL_law_43 : List UInt8 := [182, 0, 157, 159, 0, 5, 3, 172, 132, 3, 5, 167, 251, 152, 4, 172]
abbrev dktL_law_43 : List UInt8 := dkwL_law_43 ++ []
def dkwL_law_42 : List UInt8 := [182, 0, 153, 159, 0, 28, 3, 172, 43, 42, 29, 4, 96, 46, 182, 0, 154, 44, 42, 29, 4, 96, 46]
abbrev dktL_law_42 : List UInt8 := dkwL_law_42 ++ dktL_law_43
def dkwL_law_41 : List UInt8 := [182, 0, 149, 159, 0, 51, 3, 172, 43, 42, 29, 4, 96, 46, 182, 0, 150, 44, 42, 29, 4, 96, 46]
abbrev dktL_law_41 : List UInt8 := dkwL_law_41 ++ dktL_law_42
def dkwL_law_40 : List UInt8 := [182, 0, 145, 159, 0, 74, 3, 172, 43, 42, 29, 4, 96, 46, 182, 0, 146, 44, 42, 29, 4, 96, 46]
abbrev dktL_law_40 : List UInt8 := dkwL_law_40 ++ dktL_law_41
def dkwL_law_39 : List UInt8 := [46, 182, 0, 141, 159, 0, 97, 3, 172, 43, 42, 29, 4, 96, 46, 182, 0, 142, 44, 42, 29, 4, 96, 46]
abbrev dktL_law_39 : List UInt8 := dkwL_law_39 ++ dktL_law_40
def dkwL_law_38 : List UInt8 := [46, 42, 29, 6, 96, 46, 182, 0, 138, 44, 42, 29, 4, 96, 46, 42, 29, 5, 96, 46, 42, 29, 6, 96]
abbrev dktL_law_38 : List UInt8 := dkwL_law_38 ++ dktL_law_39
def dkwL_law_37 : List UInt8 := [46, 42, 29, 6, 96, 46, 182, 0, 137, 159, 0, 140, 3, 172, 43, 42, 29, 4, 96, 46, 42, 29, 5, 96]
abbrev dktL_law_37 : List UInt8 := dkwL_law_37 ++ dktL_law_38
def dkwL_law_36 : List UInt8 := [46, 42, 29, 5, 96, 46, 42, 29, 6, 96, 46, 182, 0, 134, 44, 42, 29, 4, 96, 46, 42, 29, 5, 96]
abbrev dktL_law_36 : List UInt8 := dkwL_law_36 ++ dktL_law_37
def dkwL_law_35 : List UInt8 := [46, 42, 29, 5, 96, 46, 42, 29, 6, 96, 46, 182, 0, 133, 159, 0, 183, 3, 172, 43, 42, 29, 4, 96]
abbrev dktL_law_35 : List UInt8 := dkwL_law_35 ++ dktL_law_36
def dkwL_law_34 : List UInt8 := [43, 42, 29, 4, 96, 46, 42, 29, 5, 96, 46, 42, 29, 6, 96, 46, 182, 0, 130, 44, 42, 29, 4, 96]
abbrev dktL_law_34 : List UInt8 := dkwL_law_34 ++ dktL_law_35
def dkwL_law_33 : List UInt8 := [172, 43, 42, 29, 4, 96, 46, 182, 0, 126, 44, 42, 29, 4, 96, 46, 182, 0, 129, 159, 0, 226, 3, 172]
abbrev dktL_law_33 : List UInt8 := dkwL_law_33 ++ dktL_law_34
def dkwL_law_32 : List UInt8 := [182, 0, 118, 44, 182, 0, 121, 159, 1, 6, 3, 172, 43, 182, 0, 122, 44, 182, 0, 125, 159, 0, 249, 3]
abbrev dktL_law_32 : List UInt8 := dkwL_law_32 ++ dktL_law_33
def dkwL_law_31 : List UInt8 := [96, 46, 182, 0, 113, 159, 1, 32, 3, 172, 43, 182, 0, 114, 44, 182, 0, 117, 159, 1, 19, 3, 172, 43]
abbrev dktL_law_31 : List UInt8 := dkwL_law_31 ++ dktL_law_32
def dkwL_law_30 : List UInt8 := [96, 46, 182, 0, 109, 44, 42, 29, 4, 96, 46, 42, 29, 5, 96, 46, 42, 29, 6, 96, 46, 42, 29, 7]
abbrev dktL_law_30 : List UInt8 := dkwL_law_30 ++ dktL_law_31
def dkwL_law_29 : List UInt8 := [159, 1, 85, 3, 172, 43, 42, 29, 4, 96, 46, 42, 29, 5, 96, 46, 42, 29, 6, 96, 46, 42, 29, 7]
abbrev dktL_law_29 : List UInt8 := dkwL_law_29 ++ dktL_law_30
def dkwL_law_28 : List UInt8 := [182, 0, 105, 44, 42, 29, 4, 96, 46, 42, 29, 5, 96, 46, 42, 29, 6, 96, 46, 182, 0, 108]
abbrev dktL_law_28 : List UInt8 := dkwL_law_28 ++ dktL_law_29
def dkwL_law_27 : List UInt8 := [182, 0, 104, 159, 1, 128, 3, 172, 43, 42, 29, 4, 96, 46, 42, 29, 5, 96, 46, 42, 29, 6, 96, 46]
abbrev dktL_law_27 : List UInt8 := dkwL_law_27 ++ dktL_law_28
def dkwL_law_26 : List UInt8 := [182, 0, 100, 159, 1, 151, 3, 172, 43, 42, 29, 4, 96, 46, 182, 0, 101, 44, 42, 29, 4, 96, 46]
abbrev dktL_law_26 : List UInt8 := dkwL_law_26 ++ dktL_law_27
def dkwL_law_25 : List UInt8 := [29, 4, 96, 46, 42, 29, 5, 96, 46, 182, 0, 97, 44, 42, 29, 4, 96, 46, 42, 29, 5, 96, 46]
abbrev dktL_law_25 : List UInt8 := dkwL_law_25 ++ dktL_law_26
def dkwL_law_24 : List UInt8 := [182, 0, 93, 44, 42, 29, 4, 96, 46, 42, 29, 5, 96, 46, 182, 0, 96, 159, 1, 184, 3, 172, 43, 42]
abbrev dktL_law_24 : List UInt8 := dkwL_law_24 ++ dktL_law_25
def dkwL_law_23 : List UInt8 := [4, 96, 46, 182, 0, 92, 159, 1, 217, 3, 172, 43, 42, 29, 4, 96, 46, 42, 29, 5, 96, 46]
abbrev dktL_law_23 : List UInt8 := dkwL_law_23 ++ dktL_law_24
def dkwL_law_22 : List UInt8 := [29, 4, 96, 46, 182, 0, 88, 159, 1, 240, 3, 172, 43, 42, 29, 4, 96, 46, 182, 0, 89, 44, 42, 29]
abbrev dktL_law_22 : List UInt8 := dkwL_law_22 ++ dktL_law_23
def dkwL_law_21 : List UInt8 := [42, 29, 4, 96, 46, 182, 0, 84, 159, 2, 7, 3, 172, 43, 42, 29, 4, 96, 46, 182, 0, 85, 44, 42]
abbrev dktL_law_21 : List UInt8 := dkwL_law_21 ++ dktL_law_22
def dkwL_law_20 : List UInt8 := [46, 42, 29, 5, 96, 46, 182, 0, 80, 159, 2, 30, 3, 172, 43, 42, 29, 4, 96, 46, 182, 0, 81, 44]
abbrev dktL_law_20 : List UInt8 := dkwL_law_20 ++ dktL_law_21
def dkwL_law_19 : List UInt8 := [159, 2, 63, 3, 172, 43, 42, 29, 4, 96, 46, 42, 29, 5, 96, 46, 182, 0, 77, 44, 42, 29, 4, 96]
abbrev dktL_law_19 : List UInt8 := dkwL_law_19 ++ dktL_law_20
def dkwL_law_18 : List UInt8 := [96, 46, 182, 0, 72, 44, 42, 29, 4, 96, 46, 42, 29, 5, 96, 46, 42, 29, 6, 96, 46, 182, 0, 76]
abbrev dktL_law_18 : List UInt8 := dkwL_law_18 ++ dktL_law_19
def dkwL_law_17 : List UInt8 := [96, 46, 182, 0, 71, 159, 2, 106, 3, 172, 43, 42, 29, 4, 96, 46, 42, 29, 5, 96, 46, 42, 29, 6]
abbrev dktL_law_17 : List UInt8 := dkwL_law_17 ++ dktL_law_18
def dkwL_law_16 : List UInt8 := [4, 96, 46, 182, 0, 67, 159, 2, 129, 3, 172, 43, 42, 29, 4, 96, 46, 182, 0, 68, 44, 42, 29, 4]
abbrev dktL_law_16 : List UInt8 := dkwL_law_16 ++ dktL_law_17
def dkwL_law_15 : List UInt8 := [182, 0, 60, 44, 182, 0, 63, 159, 2, 152, 3, 172, 43, 42, 29, 4, 96, 46, 182, 0, 64, 44, 42, 29]
abbrev dktL_law_15 : List UInt8 := dkwL_law_15 ++ dktL_law_16
def dkwL_law_14 : List UInt8 := [182, 0, 56, 44, 42, 29, 4, 96, 46, 42, 29, 5, 96, 46, 182, 0, 59, 159, 2, 165, 3, 172, 43]
abbrev dktL_law_14 : List UInt8 := dkwL_law_14 ++ dktL_law_15
def dkwL_law_13 : List UInt8 := [5, 96, 46, 182, 0, 55, 159, 2, 198, 3, 172, 43, 42, 29, 4, 96, 46, 42, 29, 5, 96, 46]
abbrev dktL_law_13 : List UInt8 := dkwL_law_13 ++ dktL_law_14
def dkwL_law_12 : List UInt8 := [3, 172, 43, 42, 29, 4, 96, 46, 42, 29, 5, 96, 46, 182, 0, 52, 44, 42, 29, 4, 96, 46, 42, 29]
abbrev dktL_law_12 : List UInt8 := dkwL_law_12 ++ dktL_law_13
def dkwL_law_11 : List UInt8 := [29, 5, 96, 46, 182, 0, 48, 44, 42, 29, 4, 96, 46, 42, 29, 5, 96, 46, 182, 0, 51, 159, 2, 231]
abbrev dktL_law_11 : List UInt8 := dkwL_law_11 ++ dktL_law_12
def dkwL_law_10 : List UInt8 := [182, 0, 44, 44, 42, 29, 4, 96, 46, 182, 0, 47, 159, 3, 8, 3, 172, 43, 42, 29, 4, 96, 46, 42]
abbrev dktL_law_10 : List UInt8 := dkwL_law_10 ++ dktL_law_11
def dkwL_law_9 : List UInt8 := [29, 4, 96, 46, 42, 29, 5, 96, 46, 182, 0, 43, 159, 3, 31, 3, 172, 43, 42, 29, 4, 96, 46]
abbrev dktL_law_9 : List UInt8 := dkwL_law_9 ++ dktL_law_10
def dkwL_law_8 : List UInt8 := [182, 0, 39, 159, 3, 64, 3, 172, 43, 42, 29, 4, 96, 46, 42, 29, 5, 96, 46, 182, 0, 40, 44, 42]
abbrev dktL_law_8 : List UInt8 := dkwL_law_8 ++ dktL_law_9
def dkwL_law_7 : List UInt8 := [42, 29, 4, 96, 46, 42, 29, 5, 96, 46, 182, 0, 36, 44, 42, 29, 4, 96, 46, 42, 29, 5, 96, 46]
abbrev dktL_law_7 : List UInt8 := dkwL_law_7 ++ dktL_law_8
def dkwL_law_6 : List UInt8 := [46, 182, 0, 31, 44, 42, 29, 4, 96, 46, 42, 29, 5, 96, 46, 182, 0, 35, 159, 3, 97, 3, 172, 43]
abbrev dktL_law_6 : List UInt8 := dkwL_law_6 ++ dktL_law_7
def dkwL_law_5 : List UInt8 := [172, 43, 182, 0, 27, 44, 182, 0, 30, 159, 3, 130, 3, 172, 43, 42, 29, 4, 96, 46, 42, 29, 5, 96]
abbrev dktL_law_5 : List UInt8 := dkwL_law_5 ++ dktL_law_6
def dkwL_law_4 : List UInt8 := [182, 0, 18, 44, 182, 0, 22, 159, 3, 156, 3, 172, 43, 182, 0, 23, 44, 182, 0, 26, 159, 3, 143, 3]
abbrev dktL_law_4 : List UInt8 := dkwL_law_4 ++ dktL_law_5
def dkwL_law_3 : List UInt8 := [43, 42, 29, 4, 96, 46, 182, 0, 13, 44, 42, 29, 4, 96, 46, 182, 0, 17, 159, 3, 169, 3, 172, 43]
abbrev dktL_law_3 : List UInt8 := dkwL_law_3 ++ dktL_law_4
def dkwL_law_2 : List UInt8 := [170, 0, 0, 0, 0, 0, 4, 87, 0, 0, 0, 0, 0, 0, 0, 34, 0, 0, 0, 156, 0, 0, 0, 179, 0, 0, 0, 192, 0, 0, 0, 205, 0, 0, 0, 218, 0, 0, 0, 251, 0, 0, 1, 28, 0, 0, 1, 61, 0, 0, 1, 84, 0, 0, 1, 117, 0, 0, 1, 150, 0, 0, 1, 183, 0, 0, 1, 196, 0, 0, 1, 219, 0, 0, 1, 242, 0, 0, 2, 29, 0, 0, 2, 62, 0, 0, 2, 85, 0, 0, 2, 108, 0, 0, 2, 131, 0, 0, 2, 164, 0, 0, 2, 197, 0, 0, 2, 220, 0, 0, 3, 7, 0, 0, 3, 60, 0, 0, 3, 73, 0, 0, 3, 86, 0, 0, 3, 99, 0, 0, 3, 122, 0, 0, 3, 165, 0, 0, 3, 208, 0, 0, 3, 251, 0, 0, 4, 18, 0, 0, 4, 41, 0, 0, 4, 64]
abbrev dktL_law_2 : List UInt8 := dkwL_law_2 ++ dktL_law_3
def dkwL_law_1 : List UInt8 := [163, 4, 102, 42, 29, 46, 16, 63, 126]
abbrev dktL_law_1 : List UInt8 := dkwL_law_1 ++ dktL_law_2
def dkwL_law_0 : List UInt8 := [187, 0, 7, 89, 183, 0, 9, 76, 187, 0, 10, 89, 183, 0, 12, 77, 3, 62, 29, 42, 190, 8, 100]
abbrev dktL_law_0 : List UInt8 := dkwL_law_0 ++ dktL_law_1
theorem dksL_law_0 : cL_law.data.toList.drop 0 = dktL_law_0 := by decide +kernel
theorem dksL_law_1 : cL_law.data.toList.drop 23 = dktL_law_1 := dk_seg dksL_law_0 23 rfl rfl
theorem dksL_law_2 : cL_law.data.toList.drop 32 = dktL_law_2 := dk_seg dksL_law_1 9 rfl rfl
theorem dksL_law_3 : cL_law.data.toList.drop 188 = dktL_law_3 := dk_seg dksL_law_2 156 rfl rfl
theorem dksL_law_4 : cL_law.data.toList.drop 212 = dktL_law_4 := dk_seg dksL_law_3 24 rfl rfl
theorem dksL_law_5 : cL_law.data.toList.drop 236 = dktL_law_5 := dk_seg dksL_law_4 24 rfl rfl
theorem dksL_law_6 : cL_law.data.toList.drop 260 = dktL_law_6 := dk_seg dksL_law_5 24 rfl rfl
theorem dksL_law_7 : cL_law.data.toList.drop 284 = dktL_law_7 := dk_seg dksL_law_6 24 rfl rfl
theorem dksL_law_8 : cL_law.data.toList.drop 308 = dktL_law_8 := dk_seg dksL_law_7 24 rfl rfl
theorem dksL_law_9 : cL_law.data.toList.drop 332 = dktL_law_9 := dk_seg dksL_law_8 24 rfl rfl
theorem dksL_law_10 : cL_law.data.toList.drop 355 = dktL_law_10 := dk_seg dksL_law_9 23 rfl rfl
theorem dksL_law_11 : cL_law.data.toList.drop 379 = dktL_law_11 := dk_seg dksL_law_10 24 rfl rfl
theorem dksL_law_12 : cL_law.data.toList.drop 403 = dktL_law_12 := dk_seg dksL_law_11 24 rfl rfl
theorem dksL_law_13 : cL_law.data.toList.drop 427 = dktL_law_13 := dk_seg dksL_law_12 24 rfl rfl
theorem dksL_law_14 : cL_law.data.toList.drop 449 = dktL_law_14 := dk_seg dksL_law_13 22 rfl rfl
theorem dksL_law_15 : cL_law.data.toList.drop 472 = dktL_law_15 := dk_seg dksL_law_14 23 rfl rfl
theorem dksL_law_16 : cL_law.data.toList.drop 496 = dktL_law_16 := dk_seg dksL_law_15 24 rfl rfl
theorem dksL_law_17 : cL_law.data.toList.drop 520 = dktL_law_17 := dk_seg dksL_law_16 24 rfl rfl
theorem dksL_law_18 : cL_law.data.toList.drop 544 = dktL_law_18 := dk_seg dksL_law_17 24 rfl rfl
theorem dksL_law_19 : cL_law.data.toList.drop 568 = dktL_law_19 := dk_seg dksL_law_18 24 rfl rfl
theorem dksL_law_20 : cL_law.data.toList.drop 592 = dktL_law_20 := dk_seg dksL_law_19 24 rfl rfl
theorem dksL_law_21 : cL_law.data.toList.drop 616 = dktL_law_21 := dk_seg dksL_law_20 24 rfl rfl
theorem dksL_law_22 : cL_law.data.toList.drop 640 = dktL_law_22 := dk_seg dksL_law_21 24 rfl rfl
theorem dksL_law_23 : cL_law.data.toList.drop 664 = dktL_law_23 := dk_seg dksL_law_22 24 rfl rfl
theorem dksL_law_24 : cL_law.data.toList.drop 686 = dktL_law_24 := dk_seg dksL_law_23 22 rfl rfl
theorem dksL_law_25 : cL_law.data.toList.drop 710 = dktL_law_25 := dk_seg dksL_law_24 24 rfl rfl
theorem dksL_law_26 : cL_law.data.toList.drop 733 = dktL_law_26 := dk_seg dksL_law_25 23 rfl rfl
theorem dksL_law_27 : cL_law.data.toList.drop 756 = dktL_law_27 := dk_seg dksL_law_26 23 rfl rfl
theorem dksL_law_28 : cL_law.data.toList.drop 780 = dktL_law_28 := dk_seg dksL_law_27 24 rfl rfl
theorem dksL_law_29 : cL_law.data.toList.drop 802 = dktL_law_29 := dk_seg dksL_law_28 22 rfl rfl
theorem dksL_law_30 : cL_law.data.toList.drop 826 = dktL_law_30 := dk_seg dksL_law_29 24 rfl rfl
theorem dksL_law_31 : cL_law.data.toList.drop 850 = dktL_law_31 := dk_seg dksL_law_30 24 rfl rfl
theorem dksL_law_32 : cL_law.data.toList.drop 874 = dktL_law_32 := dk_seg dksL_law_31 24 rfl rfl
theorem dksL_law_33 : cL_law.data.toList.drop 898 = dktL_law_33 := dk_seg dksL_law_32 24 rfl rfl
theorem dksL_law_34 : cL_law.data.toList.drop 922 = dktL_law_34 := dk_seg dksL_law_33 24 rfl rfl
theorem dksL_law_35 : cL_law.data.toList.drop 946 = dktL_law_35 := dk_seg dksL_law_34 24 rfl rfl
theorem dksL_law_36 : cL_law.data.toList.drop 970 = dktL_law_36 := dk_seg dksL_law_35 24 rfl rfl
theorem dksL_law_37 : cL_law.data.toList.drop 994 = dktL_law_37 := dk_seg dksL_law_36 24 rfl rfl
theorem dksL_law_38 : cL_law.data.toList.drop 1018 = dktL_law_38 := dk_seg dksL_law_37 24 rfl rfl
theorem dksL_law_39 : cL_law.data.toList.drop 1042 = dktL_law_39 := dk_seg dksL_law_38 24 rfl rfl
theorem dksL_law_40 : cL_law.data.toList.drop 1066 = dktL_law_40 := dk_seg dksL_law_39 24 rfl rfl
theorem dksL_law_41 : cL_law.data.toList.drop 1089 = dktL_law_41 := dk_seg dksL_law_40 23 rfl rfl
theorem dksL_law_42 : cL_law.data.toList.drop 1112 = dktL_law_42 := dk_seg dksL_law_41 23 rfl rfl
theorem dksL_law_43 : cL_law.data.toList.drop 1135 = dktL_law_43 := dk_seg dksL_law_42 23 rfl rfl
theorem dL_law_0 : decode cL_law 0 = .ok (.new 7, 3) := dk_187 0 7 (dk_at dksL_law_0 0 rfl rfl)
theorem dL_law_3 : decode cL_law 3 = .ok (.dup, 1) := dk_89 (dk_at dksL_law_0 3 rfl rfl)
theorem dL_law_4 : decode cL_law 4 = .ok (.invokespecial 9, 3) := dk_183 0 9 (dk_at dksL_law_0 4 rfl rfl)
theorem dL_law_7 : decode cL_law 7 = .ok (.astore_n 1, 1) := dk_76 (dk_at dksL_law_0 7 rfl rfl)
theorem dL_law_8 : decode cL_law 8 = .ok (.new 10, 3) := dk_187 0 10 (dk_at dksL_law_0 8 rfl rfl)
theorem dL_law_11 : decode cL_law 11 = .ok (.dup, 1) := dk_89 (dk_at dksL_law_0 11 rfl rfl)
theorem dL_law_12 : decode cL_law 12 = .ok (.invokespecial 12, 3) := dk_183 0 12 (dk_at dksL_law_0 12 rfl rfl)
theorem dL_law_15 : decode cL_law 15 = .ok (.astore_n 2, 1) := dk_77 (dk_at dksL_law_0 15 rfl rfl)
theorem dL_law_16 : decode cL_law 16 = .ok (.iconst 0, 1) := dk_3 (dk_at dksL_law_0 16 rfl rfl)
theorem dL_law_17 : decode cL_law 17 = .ok (.istore_n 3, 1) := dk_62 (dk_at dksL_law_0 17 rfl rfl)
theorem dL_law_18 : decode cL_law 18 = .ok (.iload_n 3, 1) := dk_29 (dk_at dksL_law_0 18 rfl rfl)
theorem dL_law_19 : decode cL_law 19 = .ok (.aload_n 0, 1) := dk_42 (dk_at dksL_law_0 19 rfl rfl)
theorem dL_law_20 : decode cL_law 20 = .ok (.arraylength, 1) := dk_190 (dk_at dksL_law_0 20 rfl rfl)
theorem dL_law_21 : decode cL_law 21 = .ok (.iconst 5, 1) := dk_8 (dk_at dksL_law_0 21 rfl rfl)
theorem dL_law_22 : decode cL_law 22 = .ok (.isub, 1) := dk_100 (dk_at dksL_law_0 22 rfl rfl)
theorem dL_law_23 : decode cL_law 23 = .ok (.if_icmp .gt 1126, 3) := dk_163 4 102 (dk_at dksL_law_1 0 rfl rfl)
theorem dL_law_26 : decode cL_law 26 = .ok (.aload_n 0, 1) := dk_42 (dk_at dksL_law_1 3 rfl rfl)
theorem dL_law_27 : decode cL_law 27 = .ok (.iload_n 3, 1) := dk_29 (dk_at dksL_law_1 4 rfl rfl)
theorem dL_law_28 : decode cL_law 28 = .ok (.iaload, 1) := dk_46 (dk_at dksL_law_1 5 rfl rfl)
theorem dL_law_29 : decode cL_law 29 = .ok (.bipush 63, 2) := dk_16 63 (dk_at dksL_law_1 6 rfl rfl)
theorem dL_law_31 : decode cL_law 31 = .ok (.iand, 1) := dk_126 (dk_at dksL_law_1 8 rfl rfl)
theorem dL_law_32 : decode cL_law 32 = .ok (.tableswitch 1111 0 34 #[156, 179, 192, 205, 218, 251, 284, 317, 340, 373, 406, 439, 452, 475, 498, 541, 574, 597, 620, 643, 676, 709, 732, 775, 828, 841, 854, 867, 890, 933, 976, 1019, 1042, 1065, 1088], 156) := by decide +kernel
theorem dL_law_188 : decode cL_law 188 = .ok (.aload_n 1, 1) := dk_43 (dk_at dksL_law_3 0 rfl rfl)
theorem dL_law_189 : decode cL_law 189 = .ok (.aload_n 0, 1) := dk_42 (dk_at dksL_law_3 1 rfl rfl)
theorem dL_law_190 : decode cL_law 190 = .ok (.iload_n 3, 1) := dk_29 (dk_at dksL_law_3 2 rfl rfl)
theorem dL_law_191 : decode cL_law 191 = .ok (.iconst 1, 1) := dk_4 (dk_at dksL_law_3 3 rfl rfl)
theorem dL_law_192 : decode cL_law 192 = .ok (.iadd, 1) := dk_96 (dk_at dksL_law_3 4 rfl rfl)
theorem dL_law_193 : decode cL_law 193 = .ok (.iaload, 1) := dk_46 (dk_at dksL_law_3 5 rfl rfl)
theorem dL_law_194 : decode cL_law 194 = .ok (.invokevirtual 13, 3) := dk_182 0 13 (dk_at dksL_law_3 6 rfl rfl)
theorem dL_law_197 : decode cL_law 197 = .ok (.aload_n 2, 1) := dk_44 (dk_at dksL_law_3 9 rfl rfl)
theorem dL_law_198 : decode cL_law 198 = .ok (.aload_n 0, 1) := dk_42 (dk_at dksL_law_3 10 rfl rfl)
theorem dL_law_199 : decode cL_law 199 = .ok (.iload_n 3, 1) := dk_29 (dk_at dksL_law_3 11 rfl rfl)
theorem dL_law_200 : decode cL_law 200 = .ok (.iconst 1, 1) := dk_4 (dk_at dksL_law_3 12 rfl rfl)
theorem dL_law_201 : decode cL_law 201 = .ok (.iadd, 1) := dk_96 (dk_at dksL_law_3 13 rfl rfl)
theorem dL_law_202 : decode cL_law 202 = .ok (.iaload, 1) := dk_46 (dk_at dksL_law_3 14 rfl rfl)
theorem dL_law_203 : decode cL_law 203 = .ok (.invokevirtual 17, 3) := dk_182 0 17 (dk_at dksL_law_3 15 rfl rfl)
theorem dL_law_206 : decode cL_law 206 = .ok (.if_icmp .eq 937, 3) := dk_159 3 169 (dk_at dksL_law_3 18 rfl rfl)
theorem dL_law_209 : decode cL_law 209 = .ok (.iconst 0, 1) := dk_3 (dk_at dksL_law_3 21 rfl rfl)
theorem dL_law_210 : decode cL_law 210 = .ok (.ireturn, 1) := dk_172 (dk_at dksL_law_3 22 rfl rfl)
theorem dL_law_211 : decode cL_law 211 = .ok (.aload_n 1, 1) := dk_43 (dk_at dksL_law_3 23 rfl rfl)
theorem dL_law_212 : decode cL_law 212 = .ok (.invokevirtual 18, 3) := dk_182 0 18 (dk_at dksL_law_4 0 rfl rfl)
theorem dL_law_215 : decode cL_law 215 = .ok (.aload_n 2, 1) := dk_44 (dk_at dksL_law_4 3 rfl rfl)
theorem dL_law_216 : decode cL_law 216 = .ok (.invokevirtual 22, 3) := dk_182 0 22 (dk_at dksL_law_4 4 rfl rfl)
theorem dL_law_219 : decode cL_law 219 = .ok (.if_icmp .eq 924, 3) := dk_159 3 156 (dk_at dksL_law_4 7 rfl rfl)
theorem dL_law_222 : decode cL_law 222 = .ok (.iconst 0, 1) := dk_3 (dk_at dksL_law_4 10 rfl rfl)
theorem dL_law_223 : decode cL_law 223 = .ok (.ireturn, 1) := dk_172 (dk_at dksL_law_4 11 rfl rfl)
theorem dL_law_224 : decode cL_law 224 = .ok (.aload_n 1, 1) := dk_43 (dk_at dksL_law_4 12 rfl rfl)
theorem dL_law_225 : decode cL_law 225 = .ok (.invokevirtual 23, 3) := dk_182 0 23 (dk_at dksL_law_4 13 rfl rfl)
theorem dL_law_228 : decode cL_law 228 = .ok (.aload_n 2, 1) := dk_44 (dk_at dksL_law_4 16 rfl rfl)
theorem dL_law_229 : decode cL_law 229 = .ok (.invokevirtual 26, 3) := dk_182 0 26 (dk_at dksL_law_4 17 rfl rfl)
theorem dL_law_232 : decode cL_law 232 = .ok (.if_icmp .eq 911, 3) := dk_159 3 143 (dk_at dksL_law_4 20 rfl rfl)
theorem dL_law_235 : decode cL_law 235 = .ok (.iconst 0, 1) := dk_3 (dk_at dksL_law_4 23 rfl rfl)
theorem dL_law_236 : decode cL_law 236 = .ok (.ireturn, 1) := dk_172 (dk_at dksL_law_5 0 rfl rfl)
theorem dL_law_237 : decode cL_law 237 = .ok (.aload_n 1, 1) := dk_43 (dk_at dksL_law_5 1 rfl rfl)
theorem dL_law_238 : decode cL_law 238 = .ok (.invokevirtual 27, 3) := dk_182 0 27 (dk_at dksL_law_5 2 rfl rfl)
theorem dL_law_241 : decode cL_law 241 = .ok (.aload_n 2, 1) := dk_44 (dk_at dksL_law_5 5 rfl rfl)
theorem dL_law_242 : decode cL_law 242 = .ok (.invokevirtual 30, 3) := dk_182 0 30 (dk_at dksL_law_5 6 rfl rfl)
theorem dL_law_245 : decode cL_law 245 = .ok (.if_icmp .eq 898, 3) := dk_159 3 130 (dk_at dksL_law_5 9 rfl rfl)
theorem dL_law_248 : decode cL_law 248 = .ok (.iconst 0, 1) := dk_3 (dk_at dksL_law_5 12 rfl rfl)
theorem dL_law_249 : decode cL_law 249 = .ok (.ireturn, 1) := dk_172 (dk_at dksL_law_5 13 rfl rfl)
theorem dL_law_250 : decode cL_law 250 = .ok (.aload_n 1, 1) := dk_43 (dk_at dksL_law_5 14 rfl rfl)
theorem dL_law_251 : decode cL_law 251 = .ok (.aload_n 0, 1) := dk_42 (dk_at dksL_law_5 15 rfl rfl)
theorem dL_law_252 : decode cL_law 252 = .ok (.iload_n 3, 1) := dk_29 (dk_at dksL_law_5 16 rfl rfl)
theorem dL_law_253 : decode cL_law 253 = .ok (.iconst 1, 1) := dk_4 (dk_at dksL_law_5 17 rfl rfl)
theorem dL_law_254 : decode cL_law 254 = .ok (.iadd, 1) := dk_96 (dk_at dksL_law_5 18 rfl rfl)
theorem dL_law_255 : decode cL_law 255 = .ok (.iaload, 1) := dk_46 (dk_at dksL_law_5 19 rfl rfl)
theorem dL_law_256 : decode cL_law 256 = .ok (.aload_n 0, 1) := dk_42 (dk_at dksL_law_5 20 rfl rfl)
theorem dL_law_257 : decode cL_law 257 = .ok (.iload_n 3, 1) := dk_29 (dk_at dksL_law_5 21 rfl rfl)
theorem dL_law_258 : decode cL_law 258 = .ok (.iconst 2, 1) := dk_5 (dk_at dksL_law_5 22 rfl rfl)
theorem dL_law_259 : decode cL_law 259 = .ok (.iadd, 1) := dk_96 (dk_at dksL_law_5 23 rfl rfl)
theorem dL_law_260 : decode cL_law 260 = .ok (.iaload, 1) := dk_46 (dk_at dksL_law_6 0 rfl rfl)
theorem dL_law_261 : decode cL_law 261 = .ok (.invokevirtual 31, 3) := dk_182 0 31 (dk_at dksL_law_6 1 rfl rfl)
theorem dL_law_264 : decode cL_law 264 = .ok (.aload_n 2, 1) := dk_44 (dk_at dksL_law_6 4 rfl rfl)
theorem dL_law_265 : decode cL_law 265 = .ok (.aload_n 0, 1) := dk_42 (dk_at dksL_law_6 5 rfl rfl)
theorem dL_law_266 : decode cL_law 266 = .ok (.iload_n 3, 1) := dk_29 (dk_at dksL_law_6 6 rfl rfl)
theorem dL_law_267 : decode cL_law 267 = .ok (.iconst 1, 1) := dk_4 (dk_at dksL_law_6 7 rfl rfl)
theorem dL_law_268 : decode cL_law 268 = .ok (.iadd, 1) := dk_96 (dk_at dksL_law_6 8 rfl rfl)
theorem dL_law_269 : decode cL_law 269 = .ok (.iaload, 1) := dk_46 (dk_at dksL_law_6 9 rfl rfl)
theorem dL_law_270 : decode cL_law 270 = .ok (.aload_n 0, 1) := dk_42 (dk_at dksL_law_6 10 rfl rfl)
theorem dL_law_271 : decode cL_law 271 = .ok (.iload_n 3, 1) := dk_29 (dk_at dksL_law_6 11 rfl rfl)
theorem dL_law_272 : decode cL_law 272 = .ok (.iconst 2, 1) := dk_5 (dk_at dksL_law_6 12 rfl rfl)
theorem dL_law_273 : decode cL_law 273 = .ok (.iadd, 1) := dk_96 (dk_at dksL_law_6 13 rfl rfl)
theorem dL_law_274 : decode cL_law 274 = .ok (.iaload, 1) := dk_46 (dk_at dksL_law_6 14 rfl rfl)
theorem dL_law_275 : decode cL_law 275 = .ok (.invokevirtual 35, 3) := dk_182 0 35 (dk_at dksL_law_6 15 rfl rfl)
theorem dL_law_278 : decode cL_law 278 = .ok (.if_icmp .eq 865, 3) := dk_159 3 97 (dk_at dksL_law_6 18 rfl rfl)
theorem dL_law_281 : decode cL_law 281 = .ok (.iconst 0, 1) := dk_3 (dk_at dksL_law_6 21 rfl rfl)
theorem dL_law_282 : decode cL_law 282 = .ok (.ireturn, 1) := dk_172 (dk_at dksL_law_6 22 rfl rfl)
theorem dL_law_283 : decode cL_law 283 = .ok (.aload_n 1, 1) := dk_43 (dk_at dksL_law_6 23 rfl rfl)
theorem dL_law_284 : decode cL_law 284 = .ok (.aload_n 0, 1) := dk_42 (dk_at dksL_law_7 0 rfl rfl)
theorem dL_law_285 : decode cL_law 285 = .ok (.iload_n 3, 1) := dk_29 (dk_at dksL_law_7 1 rfl rfl)
theorem dL_law_286 : decode cL_law 286 = .ok (.iconst 1, 1) := dk_4 (dk_at dksL_law_7 2 rfl rfl)
theorem dL_law_287 : decode cL_law 287 = .ok (.iadd, 1) := dk_96 (dk_at dksL_law_7 3 rfl rfl)
theorem dL_law_288 : decode cL_law 288 = .ok (.iaload, 1) := dk_46 (dk_at dksL_law_7 4 rfl rfl)
theorem dL_law_289 : decode cL_law 289 = .ok (.aload_n 0, 1) := dk_42 (dk_at dksL_law_7 5 rfl rfl)
theorem dL_law_290 : decode cL_law 290 = .ok (.iload_n 3, 1) := dk_29 (dk_at dksL_law_7 6 rfl rfl)
theorem dL_law_291 : decode cL_law 291 = .ok (.iconst 2, 1) := dk_5 (dk_at dksL_law_7 7 rfl rfl)
theorem dL_law_292 : decode cL_law 292 = .ok (.iadd, 1) := dk_96 (dk_at dksL_law_7 8 rfl rfl)
theorem dL_law_293 : decode cL_law 293 = .ok (.iaload, 1) := dk_46 (dk_at dksL_law_7 9 rfl rfl)
theorem dL_law_294 : decode cL_law 294 = .ok (.invokevirtual 36, 3) := dk_182 0 36 (dk_at dksL_law_7 10 rfl rfl)
theorem dL_law_297 : decode cL_law 297 = .ok (.aload_n 2, 1) := dk_44 (dk_at dksL_law_7 13 rfl rfl)
theorem dL_law_298 : decode cL_law 298 = .ok (.aload_n 0, 1) := dk_42 (dk_at dksL_law_7 14 rfl rfl)
theorem dL_law_299 : decode cL_law 299 = .ok (.iload_n 3, 1) := dk_29 (dk_at dksL_law_7 15 rfl rfl)
theorem dL_law_300 : decode cL_law 300 = .ok (.iconst 1, 1) := dk_4 (dk_at dksL_law_7 16 rfl rfl)
theorem dL_law_301 : decode cL_law 301 = .ok (.iadd, 1) := dk_96 (dk_at dksL_law_7 17 rfl rfl)
theorem dL_law_302 : decode cL_law 302 = .ok (.iaload, 1) := dk_46 (dk_at dksL_law_7 18 rfl rfl)
theorem dL_law_303 : decode cL_law 303 = .ok (.aload_n 0, 1) := dk_42 (dk_at dksL_law_7 19 rfl rfl)
theorem dL_law_304 : decode cL_law 304 = .ok (.iload_n 3, 1) := dk_29 (dk_at dksL_law_7 20 rfl rfl)
theorem dL_law_305 : decode cL_law 305 = .ok (.iconst 2, 1) := dk_5 (dk_at dksL_law_7 21 rfl rfl)
theorem dL_law_306 : decode cL_law 306 = .ok (.iadd, 1) := dk_96 (dk_at dksL_law_7 22 rfl rfl)
theorem dL_law_307 : decode cL_law 307 = .ok (.iaload, 1) := dk_46 (dk_at dksL_law_7 23 rfl rfl)
theorem dL_law_308 : decode cL_law 308 = .ok (.invokevirtual 39, 3) := dk_182 0 39 (dk_at dksL_law_8 0 rfl rfl)
theorem dL_law_311 : decode cL_law 311 = .ok (.if_icmp .eq 832, 3) := dk_159 3 64 (dk_at dksL_law_8 3 rfl rfl)
theorem dL_law_314 : decode cL_law 314 = .ok (.iconst 0, 1) := dk_3 (dk_at dksL_law_8 6 rfl rfl)
theorem dL_law_315 : decode cL_law 315 = .ok (.ireturn, 1) := dk_172 (dk_at dksL_law_8 7 rfl rfl)
theorem dL_law_316 : decode cL_law 316 = .ok (.aload_n 1, 1) := dk_43 (dk_at dksL_law_8 8 rfl rfl)
theorem dL_law_317 : decode cL_law 317 = .ok (.aload_n 0, 1) := dk_42 (dk_at dksL_law_8 9 rfl rfl)
theorem dL_law_318 : decode cL_law 318 = .ok (.iload_n 3, 1) := dk_29 (dk_at dksL_law_8 10 rfl rfl)
theorem dL_law_319 : decode cL_law 319 = .ok (.iconst 1, 1) := dk_4 (dk_at dksL_law_8 11 rfl rfl)
theorem dL_law_320 : decode cL_law 320 = .ok (.iadd, 1) := dk_96 (dk_at dksL_law_8 12 rfl rfl)
theorem dL_law_321 : decode cL_law 321 = .ok (.iaload, 1) := dk_46 (dk_at dksL_law_8 13 rfl rfl)
theorem dL_law_322 : decode cL_law 322 = .ok (.aload_n 0, 1) := dk_42 (dk_at dksL_law_8 14 rfl rfl)
theorem dL_law_323 : decode cL_law 323 = .ok (.iload_n 3, 1) := dk_29 (dk_at dksL_law_8 15 rfl rfl)
theorem dL_law_324 : decode cL_law 324 = .ok (.iconst 2, 1) := dk_5 (dk_at dksL_law_8 16 rfl rfl)
theorem dL_law_325 : decode cL_law 325 = .ok (.iadd, 1) := dk_96 (dk_at dksL_law_8 17 rfl rfl)
theorem dL_law_326 : decode cL_law 326 = .ok (.iaload, 1) := dk_46 (dk_at dksL_law_8 18 rfl rfl)
theorem dL_law_327 : decode cL_law 327 = .ok (.invokevirtual 40, 3) := dk_182 0 40 (dk_at dksL_law_8 19 rfl rfl)
theorem dL_law_330 : decode cL_law 330 = .ok (.aload_n 2, 1) := dk_44 (dk_at dksL_law_8 22 rfl rfl)
theorem dL_law_331 : decode cL_law 331 = .ok (.aload_n 0, 1) := dk_42 (dk_at dksL_law_8 23 rfl rfl)
theorem dL_law_332 : decode cL_law 332 = .ok (.iload_n 3, 1) := dk_29 (dk_at dksL_law_9 0 rfl rfl)
theorem dL_law_333 : decode cL_law 333 = .ok (.iconst 1, 1) := dk_4 (dk_at dksL_law_9 1 rfl rfl)
theorem dL_law_334 : decode cL_law 334 = .ok (.iadd, 1) := dk_96 (dk_at dksL_law_9 2 rfl rfl)
theorem dL_law_335 : decode cL_law 335 = .ok (.iaload, 1) := dk_46 (dk_at dksL_law_9 3 rfl rfl)
theorem dL_law_336 : decode cL_law 336 = .ok (.aload_n 0, 1) := dk_42 (dk_at dksL_law_9 4 rfl rfl)
theorem dL_law_337 : decode cL_law 337 = .ok (.iload_n 3, 1) := dk_29 (dk_at dksL_law_9 5 rfl rfl)
theorem dL_law_338 : decode cL_law 338 = .ok (.iconst 2, 1) := dk_5 (dk_at dksL_law_9 6 rfl rfl)
theorem dL_law_339 : decode cL_law 339 = .ok (.iadd, 1) := dk_96 (dk_at dksL_law_9 7 rfl rfl)
theorem dL_law_340 : decode cL_law 340 = .ok (.iaload, 1) := dk_46 (dk_at dksL_law_9 8 rfl rfl)
theorem dL_law_341 : decode cL_law 341 = .ok (.invokevirtual 43, 3) := dk_182 0 43 (dk_at dksL_law_9 9 rfl rfl)
theorem dL_law_344 : decode cL_law 344 = .ok (.if_icmp .eq 799, 3) := dk_159 3 31 (dk_at dksL_law_9 12 rfl rfl)
theorem dL_law_347 : decode cL_law 347 = .ok (.iconst 0, 1) := dk_3 (dk_at dksL_law_9 15 rfl rfl)
theorem dL_law_348 : decode cL_law 348 = .ok (.ireturn, 1) := dk_172 (dk_at dksL_law_9 16 rfl rfl)
theorem dL_law_349 : decode cL_law 349 = .ok (.aload_n 1, 1) := dk_43 (dk_at dksL_law_9 17 rfl rfl)
theorem dL_law_350 : decode cL_law 350 = .ok (.aload_n 0, 1) := dk_42 (dk_at dksL_law_9 18 rfl rfl)
theorem dL_law_351 : decode cL_law 351 = .ok (.iload_n 3, 1) := dk_29 (dk_at dksL_law_9 19 rfl rfl)
theorem dL_law_352 : decode cL_law 352 = .ok (.iconst 1, 1) := dk_4 (dk_at dksL_law_9 20 rfl rfl)
theorem dL_law_353 : decode cL_law 353 = .ok (.iadd, 1) := dk_96 (dk_at dksL_law_9 21 rfl rfl)
theorem dL_law_354 : decode cL_law 354 = .ok (.iaload, 1) := dk_46 (dk_at dksL_law_9 22 rfl rfl)
theorem dL_law_355 : decode cL_law 355 = .ok (.invokevirtual 44, 3) := dk_182 0 44 (dk_at dksL_law_10 0 rfl rfl)
theorem dL_law_358 : decode cL_law 358 = .ok (.aload_n 2, 1) := dk_44 (dk_at dksL_law_10 3 rfl rfl)
theorem dL_law_359 : decode cL_law 359 = .ok (.aload_n 0, 1) := dk_42 (dk_at dksL_law_10 4 rfl rfl)
theorem dL_law_360 : decode cL_law 360 = .ok (.iload_n 3, 1) := dk_29 (dk_at dksL_law_10 5 rfl rfl)
theorem dL_law_361 : decode cL_law 361 = .ok (.iconst 1, 1) := dk_4 (dk_at dksL_law_10 6 rfl rfl)
theorem dL_law_362 : decode cL_law 362 = .ok (.iadd, 1) := dk_96 (dk_at dksL_law_10 7 rfl rfl)
theorem dL_law_363 : decode cL_law 363 = .ok (.iaload, 1) := dk_46 (dk_at dksL_law_10 8 rfl rfl)
theorem dL_law_364 : decode cL_law 364 = .ok (.invokevirtual 47, 3) := dk_182 0 47 (dk_at dksL_law_10 9 rfl rfl)
theorem dL_law_367 : decode cL_law 367 = .ok (.if_icmp .eq 776, 3) := dk_159 3 8 (dk_at dksL_law_10 12 rfl rfl)
theorem dL_law_370 : decode cL_law 370 = .ok (.iconst 0, 1) := dk_3 (dk_at dksL_law_10 15 rfl rfl)
theorem dL_law_371 : decode cL_law 371 = .ok (.ireturn, 1) := dk_172 (dk_at dksL_law_10 16 rfl rfl)
theorem dL_law_372 : decode cL_law 372 = .ok (.aload_n 1, 1) := dk_43 (dk_at dksL_law_10 17 rfl rfl)
theorem dL_law_373 : decode cL_law 373 = .ok (.aload_n 0, 1) := dk_42 (dk_at dksL_law_10 18 rfl rfl)
theorem dL_law_374 : decode cL_law 374 = .ok (.iload_n 3, 1) := dk_29 (dk_at dksL_law_10 19 rfl rfl)
theorem dL_law_375 : decode cL_law 375 = .ok (.iconst 1, 1) := dk_4 (dk_at dksL_law_10 20 rfl rfl)
theorem dL_law_376 : decode cL_law 376 = .ok (.iadd, 1) := dk_96 (dk_at dksL_law_10 21 rfl rfl)
theorem dL_law_377 : decode cL_law 377 = .ok (.iaload, 1) := dk_46 (dk_at dksL_law_10 22 rfl rfl)
theorem dL_law_378 : decode cL_law 378 = .ok (.aload_n 0, 1) := dk_42 (dk_at dksL_law_10 23 rfl rfl)
theorem dL_law_379 : decode cL_law 379 = .ok (.iload_n 3, 1) := dk_29 (dk_at dksL_law_11 0 rfl rfl)
theorem dL_law_380 : decode cL_law 380 = .ok (.iconst 2, 1) := dk_5 (dk_at dksL_law_11 1 rfl rfl)
theorem dL_law_381 : decode cL_law 381 = .ok (.iadd, 1) := dk_96 (dk_at dksL_law_11 2 rfl rfl)
theorem dL_law_382 : decode cL_law 382 = .ok (.iaload, 1) := dk_46 (dk_at dksL_law_11 3 rfl rfl)
theorem dL_law_383 : decode cL_law 383 = .ok (.invokevirtual 48, 3) := dk_182 0 48 (dk_at dksL_law_11 4 rfl rfl)
theorem dL_law_386 : decode cL_law 386 = .ok (.aload_n 2, 1) := dk_44 (dk_at dksL_law_11 7 rfl rfl)
theorem dL_law_387 : decode cL_law 387 = .ok (.aload_n 0, 1) := dk_42 (dk_at dksL_law_11 8 rfl rfl)
theorem dL_law_388 : decode cL_law 388 = .ok (.iload_n 3, 1) := dk_29 (dk_at dksL_law_11 9 rfl rfl)
theorem dL_law_389 : decode cL_law 389 = .ok (.iconst 1, 1) := dk_4 (dk_at dksL_law_11 10 rfl rfl)
theorem dL_law_390 : decode cL_law 390 = .ok (.iadd, 1) := dk_96 (dk_at dksL_law_11 11 rfl rfl)
theorem dL_law_391 : decode cL_law 391 = .ok (.iaload, 1) := dk_46 (dk_at dksL_law_11 12 rfl rfl)
theorem dL_law_392 : decode cL_law 392 = .ok (.aload_n 0, 1) := dk_42 (dk_at dksL_law_11 13 rfl rfl)
theorem dL_law_393 : decode cL_law 393 = .ok (.iload_n 3, 1) := dk_29 (dk_at dksL_law_11 14 rfl rfl)
theorem dL_law_394 : decode cL_law 394 = .ok (.iconst 2, 1) := dk_5 (dk_at dksL_law_11 15 rfl rfl)
theorem dL_law_395 : decode cL_law 395 = .ok (.iadd, 1) := dk_96 (dk_at dksL_law_11 16 rfl rfl)
theorem dL_law_396 : decode cL_law 396 = .ok (.iaload, 1) := dk_46 (dk_at dksL_law_11 17 rfl rfl)
theorem dL_law_397 : decode cL_law 397 = .ok (.invokevirtual 51, 3) := dk_182 0 51 (dk_at dksL_law_11 18 rfl rfl)
theorem dL_law_400 : decode cL_law 400 = .ok (.if_icmp .eq 743, 3) := dk_159 2 231 (dk_at dksL_law_11 21 rfl rfl)
theorem dL_law_403 : decode cL_law 403 = .ok (.iconst 0, 1) := dk_3 (dk_at dksL_law_12 0 rfl rfl)
theorem dL_law_404 : decode cL_law 404 = .ok (.ireturn, 1) := dk_172 (dk_at dksL_law_12 1 rfl rfl)
theorem dL_law_405 : decode cL_law 405 = .ok (.aload_n 1, 1) := dk_43 (dk_at dksL_law_12 2 rfl rfl)
theorem dL_law_406 : decode cL_law 406 = .ok (.aload_n 0, 1) := dk_42 (dk_at dksL_law_12 3 rfl rfl)
theorem dL_law_407 : decode cL_law 407 = .ok (.iload_n 3, 1) := dk_29 (dk_at dksL_law_12 4 rfl rfl)
theorem dL_law_408 : decode cL_law 408 = .ok (.iconst 1, 1) := dk_4 (dk_at dksL_law_12 5 rfl rfl)
theorem dL_law_409 : decode cL_law 409 = .ok (.iadd, 1) := dk_96 (dk_at dksL_law_12 6 rfl rfl)
theorem dL_law_410 : decode cL_law 410 = .ok (.iaload, 1) := dk_46 (dk_at dksL_law_12 7 rfl rfl)
theorem dL_law_411 : decode cL_law 411 = .ok (.aload_n 0, 1) := dk_42 (dk_at dksL_law_12 8 rfl rfl)
theorem dL_law_412 : decode cL_law 412 = .ok (.iload_n 3, 1) := dk_29 (dk_at dksL_law_12 9 rfl rfl)
theorem dL_law_413 : decode cL_law 413 = .ok (.iconst 2, 1) := dk_5 (dk_at dksL_law_12 10 rfl rfl)
theorem dL_law_414 : decode cL_law 414 = .ok (.iadd, 1) := dk_96 (dk_at dksL_law_12 11 rfl rfl)
theorem dL_law_415 : decode cL_law 415 = .ok (.iaload, 1) := dk_46 (dk_at dksL_law_12 12 rfl rfl)
theorem dL_law_416 : decode cL_law 416 = .ok (.invokevirtual 52, 3) := dk_182 0 52 (dk_at dksL_law_12 13 rfl rfl)
theorem dL_law_419 : decode cL_law 419 = .ok (.aload_n 2, 1) := dk_44 (dk_at dksL_law_12 16 rfl rfl)
theorem dL_law_420 : decode cL_law 420 = .ok (.aload_n 0, 1) := dk_42 (dk_at dksL_law_12 17 rfl rfl)
theorem dL_law_421 : decode cL_law 421 = .ok (.iload_n 3, 1) := dk_29 (dk_at dksL_law_12 18 rfl rfl)
theorem dL_law_422 : decode cL_law 422 = .ok (.iconst 1, 1) := dk_4 (dk_at dksL_law_12 19 rfl rfl)
theorem dL_law_423 : decode cL_law 423 = .ok (.iadd, 1) := dk_96 (dk_at dksL_law_12 20 rfl rfl)
theorem dL_law_424 : decode cL_law 424 = .ok (.iaload, 1) := dk_46 (dk_at dksL_law_12 21 rfl rfl)
theorem dL_law_425 : decode cL_law 425 = .ok (.aload_n 0, 1) := dk_42 (dk_at dksL_law_12 22 rfl rfl)
theorem dL_law_426 : decode cL_law 426 = .ok (.iload_n 3, 1) := dk_29 (dk_at dksL_law_12 23 rfl rfl)
theorem dL_law_427 : decode cL_law 427 = .ok (.iconst 2, 1) := dk_5 (dk_at dksL_law_13 0 rfl rfl)
theorem dL_law_428 : decode cL_law 428 = .ok (.iadd, 1) := dk_96 (dk_at dksL_law_13 1 rfl rfl)
theorem dL_law_429 : decode cL_law 429 = .ok (.iaload, 1) := dk_46 (dk_at dksL_law_13 2 rfl rfl)
theorem dL_law_430 : decode cL_law 430 = .ok (.invokevirtual 55, 3) := dk_182 0 55 (dk_at dksL_law_13 3 rfl rfl)
theorem dL_law_433 : decode cL_law 433 = .ok (.if_icmp .eq 710, 3) := dk_159 2 198 (dk_at dksL_law_13 6 rfl rfl)
theorem dL_law_436 : decode cL_law 436 = .ok (.iconst 0, 1) := dk_3 (dk_at dksL_law_13 9 rfl rfl)
theorem dL_law_437 : decode cL_law 437 = .ok (.ireturn, 1) := dk_172 (dk_at dksL_law_13 10 rfl rfl)
theorem dL_law_438 : decode cL_law 438 = .ok (.aload_n 1, 1) := dk_43 (dk_at dksL_law_13 11 rfl rfl)
theorem dL_law_439 : decode cL_law 439 = .ok (.aload_n 0, 1) := dk_42 (dk_at dksL_law_13 12 rfl rfl)
theorem dL_law_440 : decode cL_law 440 = .ok (.iload_n 3, 1) := dk_29 (dk_at dksL_law_13 13 rfl rfl)
theorem dL_law_441 : decode cL_law 441 = .ok (.iconst 1, 1) := dk_4 (dk_at dksL_law_13 14 rfl rfl)
theorem dL_law_442 : decode cL_law 442 = .ok (.iadd, 1) := dk_96 (dk_at dksL_law_13 15 rfl rfl)
theorem dL_law_443 : decode cL_law 443 = .ok (.iaload, 1) := dk_46 (dk_at dksL_law_13 16 rfl rfl)
theorem dL_law_444 : decode cL_law 444 = .ok (.aload_n 0, 1) := dk_42 (dk_at dksL_law_13 17 rfl rfl)
theorem dL_law_445 : decode cL_law 445 = .ok (.iload_n 3, 1) := dk_29 (dk_at dksL_law_13 18 rfl rfl)
theorem dL_law_446 : decode cL_law 446 = .ok (.iconst 2, 1) := dk_5 (dk_at dksL_law_13 19 rfl rfl)
theorem dL_law_447 : decode cL_law 447 = .ok (.iadd, 1) := dk_96 (dk_at dksL_law_13 20 rfl rfl)
theorem dL_law_448 : decode cL_law 448 = .ok (.iaload, 1) := dk_46 (dk_at dksL_law_13 21 rfl rfl)
theorem dL_law_449 : decode cL_law 449 = .ok (.invokevirtual 56, 3) := dk_182 0 56 (dk_at dksL_law_14 0 rfl rfl)
theorem dL_law_452 : decode cL_law 452 = .ok (.aload_n 2, 1) := dk_44 (dk_at dksL_law_14 3 rfl rfl)
theorem dL_law_453 : decode cL_law 453 = .ok (.aload_n 0, 1) := dk_42 (dk_at dksL_law_14 4 rfl rfl)
theorem dL_law_454 : decode cL_law 454 = .ok (.iload_n 3, 1) := dk_29 (dk_at dksL_law_14 5 rfl rfl)
theorem dL_law_455 : decode cL_law 455 = .ok (.iconst 1, 1) := dk_4 (dk_at dksL_law_14 6 rfl rfl)
theorem dL_law_456 : decode cL_law 456 = .ok (.iadd, 1) := dk_96 (dk_at dksL_law_14 7 rfl rfl)
theorem dL_law_457 : decode cL_law 457 = .ok (.iaload, 1) := dk_46 (dk_at dksL_law_14 8 rfl rfl)
theorem dL_law_458 : decode cL_law 458 = .ok (.aload_n 0, 1) := dk_42 (dk_at dksL_law_14 9 rfl rfl)
theorem dL_law_459 : decode cL_law 459 = .ok (.iload_n 3, 1) := dk_29 (dk_at dksL_law_14 10 rfl rfl)
theorem dL_law_460 : decode cL_law 460 = .ok (.iconst 2, 1) := dk_5 (dk_at dksL_law_14 11 rfl rfl)
theorem dL_law_461 : decode cL_law 461 = .ok (.iadd, 1) := dk_96 (dk_at dksL_law_14 12 rfl rfl)
theorem dL_law_462 : decode cL_law 462 = .ok (.iaload, 1) := dk_46 (dk_at dksL_law_14 13 rfl rfl)
theorem dL_law_463 : decode cL_law 463 = .ok (.invokevirtual 59, 3) := dk_182 0 59 (dk_at dksL_law_14 14 rfl rfl)
theorem dL_law_466 : decode cL_law 466 = .ok (.if_icmp .eq 677, 3) := dk_159 2 165 (dk_at dksL_law_14 17 rfl rfl)
theorem dL_law_469 : decode cL_law 469 = .ok (.iconst 0, 1) := dk_3 (dk_at dksL_law_14 20 rfl rfl)
theorem dL_law_470 : decode cL_law 470 = .ok (.ireturn, 1) := dk_172 (dk_at dksL_law_14 21 rfl rfl)
theorem dL_law_471 : decode cL_law 471 = .ok (.aload_n 1, 1) := dk_43 (dk_at dksL_law_14 22 rfl rfl)
theorem dL_law_472 : decode cL_law 472 = .ok (.invokevirtual 60, 3) := dk_182 0 60 (dk_at dksL_law_15 0 rfl rfl)
theorem dL_law_475 : decode cL_law 475 = .ok (.aload_n 2, 1) := dk_44 (dk_at dksL_law_15 3 rfl rfl)
theorem dL_law_476 : decode cL_law 476 = .ok (.invokevirtual 63, 3) := dk_182 0 63 (dk_at dksL_law_15 4 rfl rfl)
theorem dL_law_479 : decode cL_law 479 = .ok (.if_icmp .eq 664, 3) := dk_159 2 152 (dk_at dksL_law_15 7 rfl rfl)
theorem dL_law_482 : decode cL_law 482 = .ok (.iconst 0, 1) := dk_3 (dk_at dksL_law_15 10 rfl rfl)
theorem dL_law_483 : decode cL_law 483 = .ok (.ireturn, 1) := dk_172 (dk_at dksL_law_15 11 rfl rfl)
theorem dL_law_484 : decode cL_law 484 = .ok (.aload_n 1, 1) := dk_43 (dk_at dksL_law_15 12 rfl rfl)
theorem dL_law_485 : decode cL_law 485 = .ok (.aload_n 0, 1) := dk_42 (dk_at dksL_law_15 13 rfl rfl)
theorem dL_law_486 : decode cL_law 486 = .ok (.iload_n 3, 1) := dk_29 (dk_at dksL_law_15 14 rfl rfl)
theorem dL_law_487 : decode cL_law 487 = .ok (.iconst 1, 1) := dk_4 (dk_at dksL_law_15 15 rfl rfl)
theorem dL_law_488 : decode cL_law 488 = .ok (.iadd, 1) := dk_96 (dk_at dksL_law_15 16 rfl rfl)
theorem dL_law_489 : decode cL_law 489 = .ok (.iaload, 1) := dk_46 (dk_at dksL_law_15 17 rfl rfl)
theorem dL_law_490 : decode cL_law 490 = .ok (.invokevirtual 64, 3) := dk_182 0 64 (dk_at dksL_law_15 18 rfl rfl)
theorem dL_law_493 : decode cL_law 493 = .ok (.aload_n 2, 1) := dk_44 (dk_at dksL_law_15 21 rfl rfl)
theorem dL_law_494 : decode cL_law 494 = .ok (.aload_n 0, 1) := dk_42 (dk_at dksL_law_15 22 rfl rfl)
theorem dL_law_495 : decode cL_law 495 = .ok (.iload_n 3, 1) := dk_29 (dk_at dksL_law_15 23 rfl rfl)
theorem dL_law_496 : decode cL_law 496 = .ok (.iconst 1, 1) := dk_4 (dk_at dksL_law_16 0 rfl rfl)
theorem dL_law_497 : decode cL_law 497 = .ok (.iadd, 1) := dk_96 (dk_at dksL_law_16 1 rfl rfl)
theorem dL_law_498 : decode cL_law 498 = .ok (.iaload, 1) := dk_46 (dk_at dksL_law_16 2 rfl rfl)
theorem dL_law_499 : decode cL_law 499 = .ok (.invokevirtual 67, 3) := dk_182 0 67 (dk_at dksL_law_16 3 rfl rfl)
theorem dL_law_502 : decode cL_law 502 = .ok (.if_icmp .eq 641, 3) := dk_159 2 129 (dk_at dksL_law_16 6 rfl rfl)
theorem dL_law_505 : decode cL_law 505 = .ok (.iconst 0, 1) := dk_3 (dk_at dksL_law_16 9 rfl rfl)
theorem dL_law_506 : decode cL_law 506 = .ok (.ireturn, 1) := dk_172 (dk_at dksL_law_16 10 rfl rfl)
theorem dL_law_507 : decode cL_law 507 = .ok (.aload_n 1, 1) := dk_43 (dk_at dksL_law_16 11 rfl rfl)
theorem dL_law_508 : decode cL_law 508 = .ok (.aload_n 0, 1) := dk_42 (dk_at dksL_law_16 12 rfl rfl)
theorem dL_law_509 : decode cL_law 509 = .ok (.iload_n 3, 1) := dk_29 (dk_at dksL_law_16 13 rfl rfl)
theorem dL_law_510 : decode cL_law 510 = .ok (.iconst 1, 1) := dk_4 (dk_at dksL_law_16 14 rfl rfl)
theorem dL_law_511 : decode cL_law 511 = .ok (.iadd, 1) := dk_96 (dk_at dksL_law_16 15 rfl rfl)
theorem dL_law_512 : decode cL_law 512 = .ok (.iaload, 1) := dk_46 (dk_at dksL_law_16 16 rfl rfl)
theorem dL_law_513 : decode cL_law 513 = .ok (.invokevirtual 68, 3) := dk_182 0 68 (dk_at dksL_law_16 17 rfl rfl)
theorem dL_law_516 : decode cL_law 516 = .ok (.aload_n 2, 1) := dk_44 (dk_at dksL_law_16 20 rfl rfl)
theorem dL_law_517 : decode cL_law 517 = .ok (.aload_n 0, 1) := dk_42 (dk_at dksL_law_16 21 rfl rfl)
theorem dL_law_518 : decode cL_law 518 = .ok (.iload_n 3, 1) := dk_29 (dk_at dksL_law_16 22 rfl rfl)
theorem dL_law_519 : decode cL_law 519 = .ok (.iconst 1, 1) := dk_4 (dk_at dksL_law_16 23 rfl rfl)
theorem dL_law_520 : decode cL_law 520 = .ok (.iadd, 1) := dk_96 (dk_at dksL_law_17 0 rfl rfl)
theorem dL_law_521 : decode cL_law 521 = .ok (.iaload, 1) := dk_46 (dk_at dksL_law_17 1 rfl rfl)
theorem dL_law_522 : decode cL_law 522 = .ok (.invokevirtual 71, 3) := dk_182 0 71 (dk_at dksL_law_17 2 rfl rfl)
theorem dL_law_525 : decode cL_law 525 = .ok (.if_icmp .eq 618, 3) := dk_159 2 106 (dk_at dksL_law_17 5 rfl rfl)
theorem dL_law_528 : decode cL_law 528 = .ok (.iconst 0, 1) := dk_3 (dk_at dksL_law_17 8 rfl rfl)
theorem dL_law_529 : decode cL_law 529 = .ok (.ireturn, 1) := dk_172 (dk_at dksL_law_17 9 rfl rfl)
theorem dL_law_530 : decode cL_law 530 = .ok (.aload_n 1, 1) := dk_43 (dk_at dksL_law_17 10 rfl rfl)
theorem dL_law_531 : decode cL_law 531 = .ok (.aload_n 0, 1) := dk_42 (dk_at dksL_law_17 11 rfl rfl)
theorem dL_law_532 : decode cL_law 532 = .ok (.iload_n 3, 1) := dk_29 (dk_at dksL_law_17 12 rfl rfl)
theorem dL_law_533 : decode cL_law 533 = .ok (.iconst 1, 1) := dk_4 (dk_at dksL_law_17 13 rfl rfl)
theorem dL_law_534 : decode cL_law 534 = .ok (.iadd, 1) := dk_96 (dk_at dksL_law_17 14 rfl rfl)
theorem dL_law_535 : decode cL_law 535 = .ok (.iaload, 1) := dk_46 (dk_at dksL_law_17 15 rfl rfl)
theorem dL_law_536 : decode cL_law 536 = .ok (.aload_n 0, 1) := dk_42 (dk_at dksL_law_17 16 rfl rfl)
theorem dL_law_537 : decode cL_law 537 = .ok (.iload_n 3, 1) := dk_29 (dk_at dksL_law_17 17 rfl rfl)
theorem dL_law_538 : decode cL_law 538 = .ok (.iconst 2, 1) := dk_5 (dk_at dksL_law_17 18 rfl rfl)
theorem dL_law_539 : decode cL_law 539 = .ok (.iadd, 1) := dk_96 (dk_at dksL_law_17 19 rfl rfl)
theorem dL_law_540 : decode cL_law 540 = .ok (.iaload, 1) := dk_46 (dk_at dksL_law_17 20 rfl rfl)
theorem dL_law_541 : decode cL_law 541 = .ok (.aload_n 0, 1) := dk_42 (dk_at dksL_law_17 21 rfl rfl)
theorem dL_law_542 : decode cL_law 542 = .ok (.iload_n 3, 1) := dk_29 (dk_at dksL_law_17 22 rfl rfl)
theorem dL_law_543 : decode cL_law 543 = .ok (.iconst 3, 1) := dk_6 (dk_at dksL_law_17 23 rfl rfl)
theorem dL_law_544 : decode cL_law 544 = .ok (.iadd, 1) := dk_96 (dk_at dksL_law_18 0 rfl rfl)
theorem dL_law_545 : decode cL_law 545 = .ok (.iaload, 1) := dk_46 (dk_at dksL_law_18 1 rfl rfl)
theorem dL_law_546 : decode cL_law 546 = .ok (.invokevirtual 72, 3) := dk_182 0 72 (dk_at dksL_law_18 2 rfl rfl)
theorem dL_law_549 : decode cL_law 549 = .ok (.aload_n 2, 1) := dk_44 (dk_at dksL_law_18 5 rfl rfl)
theorem dL_law_550 : decode cL_law 550 = .ok (.aload_n 0, 1) := dk_42 (dk_at dksL_law_18 6 rfl rfl)
theorem dL_law_551 : decode cL_law 551 = .ok (.iload_n 3, 1) := dk_29 (dk_at dksL_law_18 7 rfl rfl)
theorem dL_law_552 : decode cL_law 552 = .ok (.iconst 1, 1) := dk_4 (dk_at dksL_law_18 8 rfl rfl)
theorem dL_law_553 : decode cL_law 553 = .ok (.iadd, 1) := dk_96 (dk_at dksL_law_18 9 rfl rfl)
theorem dL_law_554 : decode cL_law 554 = .ok (.iaload, 1) := dk_46 (dk_at dksL_law_18 10 rfl rfl)
theorem dL_law_555 : decode cL_law 555 = .ok (.aload_n 0, 1) := dk_42 (dk_at dksL_law_18 11 rfl rfl)
theorem dL_law_556 : decode cL_law 556 = .ok (.iload_n 3, 1) := dk_29 (dk_at dksL_law_18 12 rfl rfl)
theorem dL_law_557 : decode cL_law 557 = .ok (.iconst 2, 1) := dk_5 (dk_at dksL_law_18 13 rfl rfl)
theorem dL_law_558 : decode cL_law 558 = .ok (.iadd, 1) := dk_96 (dk_at dksL_law_18 14 rfl rfl)
theorem dL_law_559 : decode cL_law 559 = .ok (.iaload, 1) := dk_46 (dk_at dksL_law_18 15 rfl rfl)
theorem dL_law_560 : decode cL_law 560 = .ok (.aload_n 0, 1) := dk_42 (dk_at dksL_law_18 16 rfl rfl)
theorem dL_law_561 : decode cL_law 561 = .ok (.iload_n 3, 1) := dk_29 (dk_at dksL_law_18 17 rfl rfl)
theorem dL_law_562 : decode cL_law 562 = .ok (.iconst 3, 1) := dk_6 (dk_at dksL_law_18 18 rfl rfl)
theorem dL_law_563 : decode cL_law 563 = .ok (.iadd, 1) := dk_96 (dk_at dksL_law_18 19 rfl rfl)
theorem dL_law_564 : decode cL_law 564 = .ok (.iaload, 1) := dk_46 (dk_at dksL_law_18 20 rfl rfl)
theorem dL_law_565 : decode cL_law 565 = .ok (.invokevirtual 76, 3) := dk_182 0 76 (dk_at dksL_law_18 21 rfl rfl)
theorem dL_law_568 : decode cL_law 568 = .ok (.if_icmp .eq 575, 3) := dk_159 2 63 (dk_at dksL_law_19 0 rfl rfl)
theorem dL_law_571 : decode cL_law 571 = .ok (.iconst 0, 1) := dk_3 (dk_at dksL_law_19 3 rfl rfl)
theorem dL_law_572 : decode cL_law 572 = .ok (.ireturn, 1) := dk_172 (dk_at dksL_law_19 4 rfl rfl)
theorem dL_law_573 : decode cL_law 573 = .ok (.aload_n 1, 1) := dk_43 (dk_at dksL_law_19 5 rfl rfl)
theorem dL_law_574 : decode cL_law 574 = .ok (.aload_n 0, 1) := dk_42 (dk_at dksL_law_19 6 rfl rfl)
theorem dL_law_575 : decode cL_law 575 = .ok (.iload_n 3, 1) := dk_29 (dk_at dksL_law_19 7 rfl rfl)
theorem dL_law_576 : decode cL_law 576 = .ok (.iconst 1, 1) := dk_4 (dk_at dksL_law_19 8 rfl rfl)
theorem dL_law_577 : decode cL_law 577 = .ok (.iadd, 1) := dk_96 (dk_at dksL_law_19 9 rfl rfl)
theorem dL_law_578 : decode cL_law 578 = .ok (.iaload, 1) := dk_46 (dk_at dksL_law_19 10 rfl rfl)
theorem dL_law_579 : decode cL_law 579 = .ok (.aload_n 0, 1) := dk_42 (dk_at dksL_law_19 11 rfl rfl)
theorem dL_law_580 : decode cL_law 580 = .ok (.iload_n 3, 1) := dk_29 (dk_at dksL_law_19 12 rfl rfl)
theorem dL_law_581 : decode cL_law 581 = .ok (.iconst 2, 1) := dk_5 (dk_at dksL_law_19 13 rfl rfl)
theorem dL_law_582 : decode cL_law 582 = .ok (.iadd, 1) := dk_96 (dk_at dksL_law_19 14 rfl rfl)
theorem dL_law_583 : decode cL_law 583 = .ok (.iaload, 1) := dk_46 (dk_at dksL_law_19 15 rfl rfl)
theorem dL_law_584 : decode cL_law 584 = .ok (.invokevirtual 77, 3) := dk_182 0 77 (dk_at dksL_law_19 16 rfl rfl)
theorem dL_law_587 : decode cL_law 587 = .ok (.aload_n 2, 1) := dk_44 (dk_at dksL_law_19 19 rfl rfl)
theorem dL_law_588 : decode cL_law 588 = .ok (.aload_n 0, 1) := dk_42 (dk_at dksL_law_19 20 rfl rfl)
theorem dL_law_589 : decode cL_law 589 = .ok (.iload_n 3, 1) := dk_29 (dk_at dksL_law_19 21 rfl rfl)
theorem dL_law_590 : decode cL_law 590 = .ok (.iconst 1, 1) := dk_4 (dk_at dksL_law_19 22 rfl rfl)
theorem dL_law_591 : decode cL_law 591 = .ok (.iadd, 1) := dk_96 (dk_at dksL_law_19 23 rfl rfl)
theorem dL_law_592 : decode cL_law 592 = .ok (.iaload, 1) := dk_46 (dk_at dksL_law_20 0 rfl rfl)
theorem dL_law_593 : decode cL_law 593 = .ok (.aload_n 0, 1) := dk_42 (dk_at dksL_law_20 1 rfl rfl)
theorem dL_law_594 : decode cL_law 594 = .ok (.iload_n 3, 1) := dk_29 (dk_at dksL_law_20 2 rfl rfl)
theorem dL_law_595 : decode cL_law 595 = .ok (.iconst 2, 1) := dk_5 (dk_at dksL_law_20 3 rfl rfl)
theorem dL_law_596 : decode cL_law 596 = .ok (.iadd, 1) := dk_96 (dk_at dksL_law_20 4 rfl rfl)
theorem dL_law_597 : decode cL_law 597 = .ok (.iaload, 1) := dk_46 (dk_at dksL_law_20 5 rfl rfl)
theorem dL_law_598 : decode cL_law 598 = .ok (.invokevirtual 80, 3) := dk_182 0 80 (dk_at dksL_law_20 6 rfl rfl)
theorem dL_law_601 : decode cL_law 601 = .ok (.if_icmp .eq 542, 3) := dk_159 2 30 (dk_at dksL_law_20 9 rfl rfl)
theorem dL_law_604 : decode cL_law 604 = .ok (.iconst 0, 1) := dk_3 (dk_at dksL_law_20 12 rfl rfl)
theorem dL_law_605 : decode cL_law 605 = .ok (.ireturn, 1) := dk_172 (dk_at dksL_law_20 13 rfl rfl)
theorem dL_law_606 : decode cL_law 606 = .ok (.aload_n 1, 1) := dk_43 (dk_at dksL_law_20 14 rfl rfl)
theorem dL_law_607 : decode cL_law 607 = .ok (.aload_n 0, 1) := dk_42 (dk_at dksL_law_20 15 rfl rfl)
theorem dL_law_608 : decode cL_law 608 = .ok (.iload_n 3, 1) := dk_29 (dk_at dksL_law_20 16 rfl rfl)
theorem dL_law_609 : decode cL_law 609 = .ok (.iconst 1, 1) := dk_4 (dk_at dksL_law_20 17 rfl rfl)
theorem dL_law_610 : decode cL_law 610 = .ok (.iadd, 1) := dk_96 (dk_at dksL_law_20 18 rfl rfl)
theorem dL_law_611 : decode cL_law 611 = .ok (.iaload, 1) := dk_46 (dk_at dksL_law_20 19 rfl rfl)
theorem dL_law_612 : decode cL_law 612 = .ok (.invokevirtual 81, 3) := dk_182 0 81 (dk_at dksL_law_20 20 rfl rfl)
theorem dL_law_615 : decode cL_law 615 = .ok (.aload_n 2, 1) := dk_44 (dk_at dksL_law_20 23 rfl rfl)
theorem dL_law_616 : decode cL_law 616 = .ok (.aload_n 0, 1) := dk_42 (dk_at dksL_law_21 0 rfl rfl)
theorem dL_law_617 : decode cL_law 617 = .ok (.iload_n 3, 1) := dk_29 (dk_at dksL_law_21 1 rfl rfl)
theorem dL_law_618 : decode cL_law 618 = .ok (.iconst 1, 1) := dk_4 (dk_at dksL_law_21 2 rfl rfl)
theorem dL_law_619 : decode cL_law 619 = .ok (.iadd, 1) := dk_96 (dk_at dksL_law_21 3 rfl rfl)
theorem dL_law_620 : decode cL_law 620 = .ok (.iaload, 1) := dk_46 (dk_at dksL_law_21 4 rfl rfl)
theorem dL_law_621 : decode cL_law 621 = .ok (.invokevirtual 84, 3) := dk_182 0 84 (dk_at dksL_law_21 5 rfl rfl)
theorem dL_law_624 : decode cL_law 624 = .ok (.if_icmp .eq 519, 3) := dk_159 2 7 (dk_at dksL_law_21 8 rfl rfl)
theorem dL_law_627 : decode cL_law 627 = .ok (.iconst 0, 1) := dk_3 (dk_at dksL_law_21 11 rfl rfl)
theorem dL_law_628 : decode cL_law 628 = .ok (.ireturn, 1) := dk_172 (dk_at dksL_law_21 12 rfl rfl)
theorem dL_law_629 : decode cL_law 629 = .ok (.aload_n 1, 1) := dk_43 (dk_at dksL_law_21 13 rfl rfl)
theorem dL_law_630 : decode cL_law 630 = .ok (.aload_n 0, 1) := dk_42 (dk_at dksL_law_21 14 rfl rfl)
theorem dL_law_631 : decode cL_law 631 = .ok (.iload_n 3, 1) := dk_29 (dk_at dksL_law_21 15 rfl rfl)
theorem dL_law_632 : decode cL_law 632 = .ok (.iconst 1, 1) := dk_4 (dk_at dksL_law_21 16 rfl rfl)
theorem dL_law_633 : decode cL_law 633 = .ok (.iadd, 1) := dk_96 (dk_at dksL_law_21 17 rfl rfl)
theorem dL_law_634 : decode cL_law 634 = .ok (.iaload, 1) := dk_46 (dk_at dksL_law_21 18 rfl rfl)
theorem dL_law_635 : decode cL_law 635 = .ok (.invokevirtual 85, 3) := dk_182 0 85 (dk_at dksL_law_21 19 rfl rfl)
theorem dL_law_638 : decode cL_law 638 = .ok (.aload_n 2, 1) := dk_44 (dk_at dksL_law_21 22 rfl rfl)
theorem dL_law_639 : decode cL_law 639 = .ok (.aload_n 0, 1) := dk_42 (dk_at dksL_law_21 23 rfl rfl)
theorem dL_law_640 : decode cL_law 640 = .ok (.iload_n 3, 1) := dk_29 (dk_at dksL_law_22 0 rfl rfl)
theorem dL_law_641 : decode cL_law 641 = .ok (.iconst 1, 1) := dk_4 (dk_at dksL_law_22 1 rfl rfl)
theorem dL_law_642 : decode cL_law 642 = .ok (.iadd, 1) := dk_96 (dk_at dksL_law_22 2 rfl rfl)
theorem dL_law_643 : decode cL_law 643 = .ok (.iaload, 1) := dk_46 (dk_at dksL_law_22 3 rfl rfl)
theorem dL_law_644 : decode cL_law 644 = .ok (.invokevirtual 88, 3) := dk_182 0 88 (dk_at dksL_law_22 4 rfl rfl)
theorem dL_law_647 : decode cL_law 647 = .ok (.if_icmp .eq 496, 3) := dk_159 1 240 (dk_at dksL_law_22 7 rfl rfl)
theorem dL_law_650 : decode cL_law 650 = .ok (.iconst 0, 1) := dk_3 (dk_at dksL_law_22 10 rfl rfl)
theorem dL_law_651 : decode cL_law 651 = .ok (.ireturn, 1) := dk_172 (dk_at dksL_law_22 11 rfl rfl)
theorem dL_law_652 : decode cL_law 652 = .ok (.aload_n 1, 1) := dk_43 (dk_at dksL_law_22 12 rfl rfl)
theorem dL_law_653 : decode cL_law 653 = .ok (.aload_n 0, 1) := dk_42 (dk_at dksL_law_22 13 rfl rfl)
theorem dL_law_654 : decode cL_law 654 = .ok (.iload_n 3, 1) := dk_29 (dk_at dksL_law_22 14 rfl rfl)
theorem dL_law_655 : decode cL_law 655 = .ok (.iconst 1, 1) := dk_4 (dk_at dksL_law_22 15 rfl rfl)
theorem dL_law_656 : decode cL_law 656 = .ok (.iadd, 1) := dk_96 (dk_at dksL_law_22 16 rfl rfl)
theorem dL_law_657 : decode cL_law 657 = .ok (.iaload, 1) := dk_46 (dk_at dksL_law_22 17 rfl rfl)
theorem dL_law_658 : decode cL_law 658 = .ok (.invokevirtual 89, 3) := dk_182 0 89 (dk_at dksL_law_22 18 rfl rfl)
theorem dL_law_661 : decode cL_law 661 = .ok (.aload_n 2, 1) := dk_44 (dk_at dksL_law_22 21 rfl rfl)
theorem dL_law_662 : decode cL_law 662 = .ok (.aload_n 0, 1) := dk_42 (dk_at dksL_law_22 22 rfl rfl)
theorem dL_law_663 : decode cL_law 663 = .ok (.iload_n 3, 1) := dk_29 (dk_at dksL_law_22 23 rfl rfl)
theorem dL_law_664 : decode cL_law 664 = .ok (.iconst 1, 1) := dk_4 (dk_at dksL_law_23 0 rfl rfl)
theorem dL_law_665 : decode cL_law 665 = .ok (.iadd, 1) := dk_96 (dk_at dksL_law_23 1 rfl rfl)
theorem dL_law_666 : decode cL_law 666 = .ok (.iaload, 1) := dk_46 (dk_at dksL_law_23 2 rfl rfl)
theorem dL_law_667 : decode cL_law 667 = .ok (.invokevirtual 92, 3) := dk_182 0 92 (dk_at dksL_law_23 3 rfl rfl)
theorem dL_law_670 : decode cL_law 670 = .ok (.if_icmp .eq 473, 3) := dk_159 1 217 (dk_at dksL_law_23 6 rfl rfl)
theorem dL_law_673 : decode cL_law 673 = .ok (.iconst 0, 1) := dk_3 (dk_at dksL_law_23 9 rfl rfl)
theorem dL_law_674 : decode cL_law 674 = .ok (.ireturn, 1) := dk_172 (dk_at dksL_law_23 10 rfl rfl)
theorem dL_law_675 : decode cL_law 675 = .ok (.aload_n 1, 1) := dk_43 (dk_at dksL_law_23 11 rfl rfl)
theorem dL_law_676 : decode cL_law 676 = .ok (.aload_n 0, 1) := dk_42 (dk_at dksL_law_23 12 rfl rfl)
theorem dL_law_677 : decode cL_law 677 = .ok (.iload_n 3, 1) := dk_29 (dk_at dksL_law_23 13 rfl rfl)
theorem dL_law_678 : decode cL_law 678 = .ok (.iconst 1, 1) := dk_4 (dk_at dksL_law_23 14 rfl rfl)
theorem dL_law_679 : decode cL_law 679 = .ok (.iadd, 1) := dk_96 (dk_at dksL_law_23 15 rfl rfl)
theorem dL_law_680 : decode cL_law 680 = .ok (.iaload, 1) := dk_46 (dk_at dksL_law_23 16 rfl rfl)
theorem dL_law_681 : decode cL_law 681 = .ok (.aload_n 0, 1) := dk_42 (dk_at dksL_law_23 17 rfl rfl)
theorem dL_law_682 : decode cL_law 682 = .ok (.iload_n 3, 1) := dk_29 (dk_at dksL_law_23 18 rfl rfl)
theorem dL_law_683 : decode cL_law 683 = .ok (.iconst 2, 1) := dk_5 (dk_at dksL_law_23 19 rfl rfl)
theorem dL_law_684 : decode cL_law 684 = .ok (.iadd, 1) := dk_96 (dk_at dksL_law_23 20 rfl rfl)
theorem dL_law_685 : decode cL_law 685 = .ok (.iaload, 1) := dk_46 (dk_at dksL_law_23 21 rfl rfl)
theorem dL_law_686 : decode cL_law 686 = .ok (.invokevirtual 93, 3) := dk_182 0 93 (dk_at dksL_law_24 0 rfl rfl)
theorem dL_law_689 : decode cL_law 689 = .ok (.aload_n 2, 1) := dk_44 (dk_at dksL_law_24 3 rfl rfl)
theorem dL_law_690 : decode cL_law 690 = .ok (.aload_n 0, 1) := dk_42 (dk_at dksL_law_24 4 rfl rfl)
theorem dL_law_691 : decode cL_law 691 = .ok (.iload_n 3, 1) := dk_29 (dk_at dksL_law_24 5 rfl rfl)
theorem dL_law_692 : decode cL_law 692 = .ok (.iconst 1, 1) := dk_4 (dk_at dksL_law_24 6 rfl rfl)
theorem dL_law_693 : decode cL_law 693 = .ok (.iadd, 1) := dk_96 (dk_at dksL_law_24 7 rfl rfl)
theorem dL_law_694 : decode cL_law 694 = .ok (.iaload, 1) := dk_46 (dk_at dksL_law_24 8 rfl rfl)
theorem dL_law_695 : decode cL_law 695 = .ok (.aload_n 0, 1) := dk_42 (dk_at dksL_law_24 9 rfl rfl)
theorem dL_law_696 : decode cL_law 696 = .ok (.iload_n 3, 1) := dk_29 (dk_at dksL_law_24 10 rfl rfl)
theorem dL_law_697 : decode cL_law 697 = .ok (.iconst 2, 1) := dk_5 (dk_at dksL_law_24 11 rfl rfl)
theorem dL_law_698 : decode cL_law 698 = .ok (.iadd, 1) := dk_96 (dk_at dksL_law_24 12 rfl rfl)
theorem dL_law_699 : decode cL_law 699 = .ok (.iaload, 1) := dk_46 (dk_at dksL_law_24 13 rfl rfl)
theorem dL_law_700 : decode cL_law 700 = .ok (.invokevirtual 96, 3) := dk_182 0 96 (dk_at dksL_law_24 14 rfl rfl)
theorem dL_law_703 : decode cL_law 703 = .ok (.if_icmp .eq 440, 3) := dk_159 1 184 (dk_at dksL_law_24 17 rfl rfl)
theorem dL_law_706 : decode cL_law 706 = .ok (.iconst 0, 1) := dk_3 (dk_at dksL_law_24 20 rfl rfl)
theorem dL_law_707 : decode cL_law 707 = .ok (.ireturn, 1) := dk_172 (dk_at dksL_law_24 21 rfl rfl)
theorem dL_law_708 : decode cL_law 708 = .ok (.aload_n 1, 1) := dk_43 (dk_at dksL_law_24 22 rfl rfl)
theorem dL_law_709 : decode cL_law 709 = .ok (.aload_n 0, 1) := dk_42 (dk_at dksL_law_24 23 rfl rfl)
theorem dL_law_710 : decode cL_law 710 = .ok (.iload_n 3, 1) := dk_29 (dk_at dksL_law_25 0 rfl rfl)
theorem dL_law_711 : decode cL_law 711 = .ok (.iconst 1, 1) := dk_4 (dk_at dksL_law_25 1 rfl rfl)
theorem dL_law_712 : decode cL_law 712 = .ok (.iadd, 1) := dk_96 (dk_at dksL_law_25 2 rfl rfl)
theorem dL_law_713 : decode cL_law 713 = .ok (.iaload, 1) := dk_46 (dk_at dksL_law_25 3 rfl rfl)
theorem dL_law_714 : decode cL_law 714 = .ok (.aload_n 0, 1) := dk_42 (dk_at dksL_law_25 4 rfl rfl)
theorem dL_law_715 : decode cL_law 715 = .ok (.iload_n 3, 1) := dk_29 (dk_at dksL_law_25 5 rfl rfl)
theorem dL_law_716 : decode cL_law 716 = .ok (.iconst 2, 1) := dk_5 (dk_at dksL_law_25 6 rfl rfl)
theorem dL_law_717 : decode cL_law 717 = .ok (.iadd, 1) := dk_96 (dk_at dksL_law_25 7 rfl rfl)
theorem dL_law_718 : decode cL_law 718 = .ok (.iaload, 1) := dk_46 (dk_at dksL_law_25 8 rfl rfl)
theorem dL_law_719 : decode cL_law 719 = .ok (.invokevirtual 97, 3) := dk_182 0 97 (dk_at dksL_law_25 9 rfl rfl)
theorem dL_law_722 : decode cL_law 722 = .ok (.aload_n 2, 1) := dk_44 (dk_at dksL_law_25 12 rfl rfl)
theorem dL_law_723 : decode cL_law 723 = .ok (.aload_n 0, 1) := dk_42 (dk_at dksL_law_25 13 rfl rfl)
theorem dL_law_724 : decode cL_law 724 = .ok (.iload_n 3, 1) := dk_29 (dk_at dksL_law_25 14 rfl rfl)
theorem dL_law_725 : decode cL_law 725 = .ok (.iconst 1, 1) := dk_4 (dk_at dksL_law_25 15 rfl rfl)
theorem dL_law_726 : decode cL_law 726 = .ok (.iadd, 1) := dk_96 (dk_at dksL_law_25 16 rfl rfl)
theorem dL_law_727 : decode cL_law 727 = .ok (.iaload, 1) := dk_46 (dk_at dksL_law_25 17 rfl rfl)
theorem dL_law_728 : decode cL_law 728 = .ok (.aload_n 0, 1) := dk_42 (dk_at dksL_law_25 18 rfl rfl)
theorem dL_law_729 : decode cL_law 729 = .ok (.iload_n 3, 1) := dk_29 (dk_at dksL_law_25 19 rfl rfl)
theorem dL_law_730 : decode cL_law 730 = .ok (.iconst 2, 1) := dk_5 (dk_at dksL_law_25 20 rfl rfl)
theorem dL_law_731 : decode cL_law 731 = .ok (.iadd, 1) := dk_96 (dk_at dksL_law_25 21 rfl rfl)
theorem dL_law_732 : decode cL_law 732 = .ok (.iaload, 1) := dk_46 (dk_at dksL_law_25 22 rfl rfl)
theorem dL_law_733 : decode cL_law 733 = .ok (.invokevirtual 100, 3) := dk_182 0 100 (dk_at dksL_law_26 0 rfl rfl)
theorem dL_law_736 : decode cL_law 736 = .ok (.if_icmp .eq 407, 3) := dk_159 1 151 (dk_at dksL_law_26 3 rfl rfl)
theorem dL_law_739 : decode cL_law 739 = .ok (.iconst 0, 1) := dk_3 (dk_at dksL_law_26 6 rfl rfl)
theorem dL_law_740 : decode cL_law 740 = .ok (.ireturn, 1) := dk_172 (dk_at dksL_law_26 7 rfl rfl)
theorem dL_law_741 : decode cL_law 741 = .ok (.aload_n 1, 1) := dk_43 (dk_at dksL_law_26 8 rfl rfl)
theorem dL_law_742 : decode cL_law 742 = .ok (.aload_n 0, 1) := dk_42 (dk_at dksL_law_26 9 rfl rfl)
theorem dL_law_743 : decode cL_law 743 = .ok (.iload_n 3, 1) := dk_29 (dk_at dksL_law_26 10 rfl rfl)
theorem dL_law_744 : decode cL_law 744 = .ok (.iconst 1, 1) := dk_4 (dk_at dksL_law_26 11 rfl rfl)
theorem dL_law_745 : decode cL_law 745 = .ok (.iadd, 1) := dk_96 (dk_at dksL_law_26 12 rfl rfl)
theorem dL_law_746 : decode cL_law 746 = .ok (.iaload, 1) := dk_46 (dk_at dksL_law_26 13 rfl rfl)
theorem dL_law_747 : decode cL_law 747 = .ok (.invokevirtual 101, 3) := dk_182 0 101 (dk_at dksL_law_26 14 rfl rfl)
theorem dL_law_750 : decode cL_law 750 = .ok (.aload_n 2, 1) := dk_44 (dk_at dksL_law_26 17 rfl rfl)
theorem dL_law_751 : decode cL_law 751 = .ok (.aload_n 0, 1) := dk_42 (dk_at dksL_law_26 18 rfl rfl)
theorem dL_law_752 : decode cL_law 752 = .ok (.iload_n 3, 1) := dk_29 (dk_at dksL_law_26 19 rfl rfl)
theorem dL_law_753 : decode cL_law 753 = .ok (.iconst 1, 1) := dk_4 (dk_at dksL_law_26 20 rfl rfl)
theorem dL_law_754 : decode cL_law 754 = .ok (.iadd, 1) := dk_96 (dk_at dksL_law_26 21 rfl rfl)
theorem dL_law_755 : decode cL_law 755 = .ok (.iaload, 1) := dk_46 (dk_at dksL_law_26 22 rfl rfl)
theorem dL_law_756 : decode cL_law 756 = .ok (.invokevirtual 104, 3) := dk_182 0 104 (dk_at dksL_law_27 0 rfl rfl)
theorem dL_law_759 : decode cL_law 759 = .ok (.if_icmp .eq 384, 3) := dk_159 1 128 (dk_at dksL_law_27 3 rfl rfl)
theorem dL_law_762 : decode cL_law 762 = .ok (.iconst 0, 1) := dk_3 (dk_at dksL_law_27 6 rfl rfl)
theorem dL_law_763 : decode cL_law 763 = .ok (.ireturn, 1) := dk_172 (dk_at dksL_law_27 7 rfl rfl)
theorem dL_law_764 : decode cL_law 764 = .ok (.aload_n 1, 1) := dk_43 (dk_at dksL_law_27 8 rfl rfl)
theorem dL_law_765 : decode cL_law 765 = .ok (.aload_n 0, 1) := dk_42 (dk_at dksL_law_27 9 rfl rfl)
theorem dL_law_766 : decode cL_law 766 = .ok (.iload_n 3, 1) := dk_29 (dk_at dksL_law_27 10 rfl rfl)
theorem dL_law_767 : decode cL_law 767 = .ok (.iconst 1, 1) := dk_4 (dk_at dksL_law_27 11 rfl rfl)
theorem dL_law_768 : decode cL_law 768 = .ok (.iadd, 1) := dk_96 (dk_at dksL_law_27 12 rfl rfl)
theorem dL_law_769 : decode cL_law 769 = .ok (.iaload, 1) := dk_46 (dk_at dksL_law_27 13 rfl rfl)
theorem dL_law_770 : decode cL_law 770 = .ok (.aload_n 0, 1) := dk_42 (dk_at dksL_law_27 14 rfl rfl)
theorem dL_law_771 : decode cL_law 771 = .ok (.iload_n 3, 1) := dk_29 (dk_at dksL_law_27 15 rfl rfl)
theorem dL_law_772 : decode cL_law 772 = .ok (.iconst 2, 1) := dk_5 (dk_at dksL_law_27 16 rfl rfl)
theorem dL_law_773 : decode cL_law 773 = .ok (.iadd, 1) := dk_96 (dk_at dksL_law_27 17 rfl rfl)
theorem dL_law_774 : decode cL_law 774 = .ok (.iaload, 1) := dk_46 (dk_at dksL_law_27 18 rfl rfl)
theorem dL_law_775 : decode cL_law 775 = .ok (.aload_n 0, 1) := dk_42 (dk_at dksL_law_27 19 rfl rfl)
theorem dL_law_776 : decode cL_law 776 = .ok (.iload_n 3, 1) := dk_29 (dk_at dksL_law_27 20 rfl rfl)
theorem dL_law_777 : decode cL_law 777 = .ok (.iconst 3, 1) := dk_6 (dk_at dksL_law_27 21 rfl rfl)
theorem dL_law_778 : decode cL_law 778 = .ok (.iadd, 1) := dk_96 (dk_at dksL_law_27 22 rfl rfl)
theorem dL_law_779 : decode cL_law 779 = .ok (.iaload, 1) := dk_46 (dk_at dksL_law_27 23 rfl rfl)
theorem dL_law_780 : decode cL_law 780 = .ok (.invokevirtual 105, 3) := dk_182 0 105 (dk_at dksL_law_28 0 rfl rfl)
theorem dL_law_783 : decode cL_law 783 = .ok (.aload_n 2, 1) := dk_44 (dk_at dksL_law_28 3 rfl rfl)
theorem dL_law_784 : decode cL_law 784 = .ok (.aload_n 0, 1) := dk_42 (dk_at dksL_law_28 4 rfl rfl)
theorem dL_law_785 : decode cL_law 785 = .ok (.iload_n 3, 1) := dk_29 (dk_at dksL_law_28 5 rfl rfl)
theorem dL_law_786 : decode cL_law 786 = .ok (.iconst 1, 1) := dk_4 (dk_at dksL_law_28 6 rfl rfl)
theorem dL_law_787 : decode cL_law 787 = .ok (.iadd, 1) := dk_96 (dk_at dksL_law_28 7 rfl rfl)
theorem dL_law_788 : decode cL_law 788 = .ok (.iaload, 1) := dk_46 (dk_at dksL_law_28 8 rfl rfl)
theorem dL_law_789 : decode cL_law 789 = .ok (.aload_n 0, 1) := dk_42 (dk_at dksL_law_28 9 rfl rfl)
theorem dL_law_790 : decode cL_law 790 = .ok (.iload_n 3, 1) := dk_29 (dk_at dksL_law_28 10 rfl rfl)
theorem dL_law_791 : decode cL_law 791 = .ok (.iconst 2, 1) := dk_5 (dk_at dksL_law_28 11 rfl rfl)
theorem dL_law_792 : decode cL_law 792 = .ok (.iadd, 1) := dk_96 (dk_at dksL_law_28 12 rfl rfl)
theorem dL_law_793 : decode cL_law 793 = .ok (.iaload, 1) := dk_46 (dk_at dksL_law_28 13 rfl rfl)
theorem dL_law_794 : decode cL_law 794 = .ok (.aload_n 0, 1) := dk_42 (dk_at dksL_law_28 14 rfl rfl)
theorem dL_law_795 : decode cL_law 795 = .ok (.iload_n 3, 1) := dk_29 (dk_at dksL_law_28 15 rfl rfl)
theorem dL_law_796 : decode cL_law 796 = .ok (.iconst 3, 1) := dk_6 (dk_at dksL_law_28 16 rfl rfl)
theorem dL_law_797 : decode cL_law 797 = .ok (.iadd, 1) := dk_96 (dk_at dksL_law_28 17 rfl rfl)
theorem dL_law_798 : decode cL_law 798 = .ok (.iaload, 1) := dk_46 (dk_at dksL_law_28 18 rfl rfl)
theorem dL_law_799 : decode cL_law 799 = .ok (.invokevirtual 108, 3) := dk_182 0 108 (dk_at dksL_law_28 19 rfl rfl)
theorem dL_law_802 : decode cL_law 802 = .ok (.if_icmp .eq 341, 3) := dk_159 1 85 (dk_at dksL_law_29 0 rfl rfl)
theorem dL_law_805 : decode cL_law 805 = .ok (.iconst 0, 1) := dk_3 (dk_at dksL_law_29 3 rfl rfl)
theorem dL_law_806 : decode cL_law 806 = .ok (.ireturn, 1) := dk_172 (dk_at dksL_law_29 4 rfl rfl)
theorem dL_law_807 : decode cL_law 807 = .ok (.aload_n 1, 1) := dk_43 (dk_at dksL_law_29 5 rfl rfl)
theorem dL_law_808 : decode cL_law 808 = .ok (.aload_n 0, 1) := dk_42 (dk_at dksL_law_29 6 rfl rfl)
theorem dL_law_809 : decode cL_law 809 = .ok (.iload_n 3, 1) := dk_29 (dk_at dksL_law_29 7 rfl rfl)
theorem dL_law_810 : decode cL_law 810 = .ok (.iconst 1, 1) := dk_4 (dk_at dksL_law_29 8 rfl rfl)
theorem dL_law_811 : decode cL_law 811 = .ok (.iadd, 1) := dk_96 (dk_at dksL_law_29 9 rfl rfl)
theorem dL_law_812 : decode cL_law 812 = .ok (.iaload, 1) := dk_46 (dk_at dksL_law_29 10 rfl rfl)
theorem dL_law_813 : decode cL_law 813 = .ok (.aload_n 0, 1) := dk_42 (dk_at dksL_law_29 11 rfl rfl)
theorem dL_law_814 : decode cL_law 814 = .ok (.iload_n 3, 1) := dk_29 (dk_at dksL_law_29 12 rfl rfl)
theorem dL_law_815 : decode cL_law 815 = .ok (.iconst 2, 1) := dk_5 (dk_at dksL_law_29 13 rfl rfl)
theorem dL_law_816 : decode cL_law 816 = .ok (.iadd, 1) := dk_96 (dk_at dksL_law_29 14 rfl rfl)
theorem dL_law_817 : decode cL_law 817 = .ok (.iaload, 1) := dk_46 (dk_at dksL_law_29 15 rfl rfl)
theorem dL_law_818 : decode cL_law 818 = .ok (.aload_n 0, 1) := dk_42 (dk_at dksL_law_29 16 rfl rfl)
theorem dL_law_819 : decode cL_law 819 = .ok (.iload_n 3, 1) := dk_29 (dk_at dksL_law_29 17 rfl rfl)
theorem dL_law_820 : decode cL_law 820 = .ok (.iconst 3, 1) := dk_6 (dk_at dksL_law_29 18 rfl rfl)
theorem dL_law_821 : decode cL_law 821 = .ok (.iadd, 1) := dk_96 (dk_at dksL_law_29 19 rfl rfl)
theorem dL_law_822 : decode cL_law 822 = .ok (.iaload, 1) := dk_46 (dk_at dksL_law_29 20 rfl rfl)
theorem dL_law_823 : decode cL_law 823 = .ok (.aload_n 0, 1) := dk_42 (dk_at dksL_law_29 21 rfl rfl)
theorem dL_law_824 : decode cL_law 824 = .ok (.iload_n 3, 1) := dk_29 (dk_at dksL_law_29 22 rfl rfl)
theorem dL_law_825 : decode cL_law 825 = .ok (.iconst 4, 1) := dk_7 (dk_at dksL_law_29 23 rfl rfl)
theorem dL_law_826 : decode cL_law 826 = .ok (.iadd, 1) := dk_96 (dk_at dksL_law_30 0 rfl rfl)
theorem dL_law_827 : decode cL_law 827 = .ok (.iaload, 1) := dk_46 (dk_at dksL_law_30 1 rfl rfl)
theorem dL_law_828 : decode cL_law 828 = .ok (.invokevirtual 109, 3) := dk_182 0 109 (dk_at dksL_law_30 2 rfl rfl)
theorem dL_law_831 : decode cL_law 831 = .ok (.aload_n 2, 1) := dk_44 (dk_at dksL_law_30 5 rfl rfl)
theorem dL_law_832 : decode cL_law 832 = .ok (.aload_n 0, 1) := dk_42 (dk_at dksL_law_30 6 rfl rfl)
theorem dL_law_833 : decode cL_law 833 = .ok (.iload_n 3, 1) := dk_29 (dk_at dksL_law_30 7 rfl rfl)
theorem dL_law_834 : decode cL_law 834 = .ok (.iconst 1, 1) := dk_4 (dk_at dksL_law_30 8 rfl rfl)
theorem dL_law_835 : decode cL_law 835 = .ok (.iadd, 1) := dk_96 (dk_at dksL_law_30 9 rfl rfl)
theorem dL_law_836 : decode cL_law 836 = .ok (.iaload, 1) := dk_46 (dk_at dksL_law_30 10 rfl rfl)
theorem dL_law_837 : decode cL_law 837 = .ok (.aload_n 0, 1) := dk_42 (dk_at dksL_law_30 11 rfl rfl)
theorem dL_law_838 : decode cL_law 838 = .ok (.iload_n 3, 1) := dk_29 (dk_at dksL_law_30 12 rfl rfl)
theorem dL_law_839 : decode cL_law 839 = .ok (.iconst 2, 1) := dk_5 (dk_at dksL_law_30 13 rfl rfl)
theorem dL_law_840 : decode cL_law 840 = .ok (.iadd, 1) := dk_96 (dk_at dksL_law_30 14 rfl rfl)
theorem dL_law_841 : decode cL_law 841 = .ok (.iaload, 1) := dk_46 (dk_at dksL_law_30 15 rfl rfl)
theorem dL_law_842 : decode cL_law 842 = .ok (.aload_n 0, 1) := dk_42 (dk_at dksL_law_30 16 rfl rfl)
theorem dL_law_843 : decode cL_law 843 = .ok (.iload_n 3, 1) := dk_29 (dk_at dksL_law_30 17 rfl rfl)
theorem dL_law_844 : decode cL_law 844 = .ok (.iconst 3, 1) := dk_6 (dk_at dksL_law_30 18 rfl rfl)
theorem dL_law_845 : decode cL_law 845 = .ok (.iadd, 1) := dk_96 (dk_at dksL_law_30 19 rfl rfl)
theorem dL_law_846 : decode cL_law 846 = .ok (.iaload, 1) := dk_46 (dk_at dksL_law_30 20 rfl rfl)
theorem dL_law_847 : decode cL_law 847 = .ok (.aload_n 0, 1) := dk_42 (dk_at dksL_law_30 21 rfl rfl)
theorem dL_law_848 : decode cL_law 848 = .ok (.iload_n 3, 1) := dk_29 (dk_at dksL_law_30 22 rfl rfl)
theorem dL_law_849 : decode cL_law 849 = .ok (.iconst 4, 1) := dk_7 (dk_at dksL_law_30 23 rfl rfl)
theorem dL_law_850 : decode cL_law 850 = .ok (.iadd, 1) := dk_96 (dk_at dksL_law_31 0 rfl rfl)
theorem dL_law_851 : decode cL_law 851 = .ok (.iaload, 1) := dk_46 (dk_at dksL_law_31 1 rfl rfl)
theorem dL_law_852 : decode cL_law 852 = .ok (.invokevirtual 113, 3) := dk_182 0 113 (dk_at dksL_law_31 2 rfl rfl)
theorem dL_law_855 : decode cL_law 855 = .ok (.if_icmp .eq 288, 3) := dk_159 1 32 (dk_at dksL_law_31 5 rfl rfl)
theorem dL_law_858 : decode cL_law 858 = .ok (.iconst 0, 1) := dk_3 (dk_at dksL_law_31 8 rfl rfl)
theorem dL_law_859 : decode cL_law 859 = .ok (.ireturn, 1) := dk_172 (dk_at dksL_law_31 9 rfl rfl)
theorem dL_law_860 : decode cL_law 860 = .ok (.aload_n 1, 1) := dk_43 (dk_at dksL_law_31 10 rfl rfl)
theorem dL_law_861 : decode cL_law 861 = .ok (.invokevirtual 114, 3) := dk_182 0 114 (dk_at dksL_law_31 11 rfl rfl)
theorem dL_law_864 : decode cL_law 864 = .ok (.aload_n 2, 1) := dk_44 (dk_at dksL_law_31 14 rfl rfl)
theorem dL_law_865 : decode cL_law 865 = .ok (.invokevirtual 117, 3) := dk_182 0 117 (dk_at dksL_law_31 15 rfl rfl)
theorem dL_law_868 : decode cL_law 868 = .ok (.if_icmp .eq 275, 3) := dk_159 1 19 (dk_at dksL_law_31 18 rfl rfl)
theorem dL_law_871 : decode cL_law 871 = .ok (.iconst 0, 1) := dk_3 (dk_at dksL_law_31 21 rfl rfl)
theorem dL_law_872 : decode cL_law 872 = .ok (.ireturn, 1) := dk_172 (dk_at dksL_law_31 22 rfl rfl)
theorem dL_law_873 : decode cL_law 873 = .ok (.aload_n 1, 1) := dk_43 (dk_at dksL_law_31 23 rfl rfl)
theorem dL_law_874 : decode cL_law 874 = .ok (.invokevirtual 118, 3) := dk_182 0 118 (dk_at dksL_law_32 0 rfl rfl)
theorem dL_law_877 : decode cL_law 877 = .ok (.aload_n 2, 1) := dk_44 (dk_at dksL_law_32 3 rfl rfl)
theorem dL_law_878 : decode cL_law 878 = .ok (.invokevirtual 121, 3) := dk_182 0 121 (dk_at dksL_law_32 4 rfl rfl)
theorem dL_law_881 : decode cL_law 881 = .ok (.if_icmp .eq 262, 3) := dk_159 1 6 (dk_at dksL_law_32 7 rfl rfl)
theorem dL_law_884 : decode cL_law 884 = .ok (.iconst 0, 1) := dk_3 (dk_at dksL_law_32 10 rfl rfl)
theorem dL_law_885 : decode cL_law 885 = .ok (.ireturn, 1) := dk_172 (dk_at dksL_law_32 11 rfl rfl)
theorem dL_law_886 : decode cL_law 886 = .ok (.aload_n 1, 1) := dk_43 (dk_at dksL_law_32 12 rfl rfl)
theorem dL_law_887 : decode cL_law 887 = .ok (.invokevirtual 122, 3) := dk_182 0 122 (dk_at dksL_law_32 13 rfl rfl)
theorem dL_law_890 : decode cL_law 890 = .ok (.aload_n 2, 1) := dk_44 (dk_at dksL_law_32 16 rfl rfl)
theorem dL_law_891 : decode cL_law 891 = .ok (.invokevirtual 125, 3) := dk_182 0 125 (dk_at dksL_law_32 17 rfl rfl)
theorem dL_law_894 : decode cL_law 894 = .ok (.if_icmp .eq 249, 3) := dk_159 0 249 (dk_at dksL_law_32 20 rfl rfl)
theorem dL_law_897 : decode cL_law 897 = .ok (.iconst 0, 1) := dk_3 (dk_at dksL_law_32 23 rfl rfl)
theorem dL_law_898 : decode cL_law 898 = .ok (.ireturn, 1) := dk_172 (dk_at dksL_law_33 0 rfl rfl)
theorem dL_law_899 : decode cL_law 899 = .ok (.aload_n 1, 1) := dk_43 (dk_at dksL_law_33 1 rfl rfl)
theorem dL_law_900 : decode cL_law 900 = .ok (.aload_n 0, 1) := dk_42 (dk_at dksL_law_33 2 rfl rfl)
theorem dL_law_901 : decode cL_law 901 = .ok (.iload_n 3, 1) := dk_29 (dk_at dksL_law_33 3 rfl rfl)
theorem dL_law_902 : decode cL_law 902 = .ok (.iconst 1, 1) := dk_4 (dk_at dksL_law_33 4 rfl rfl)
theorem dL_law_903 : decode cL_law 903 = .ok (.iadd, 1) := dk_96 (dk_at dksL_law_33 5 rfl rfl)
theorem dL_law_904 : decode cL_law 904 = .ok (.iaload, 1) := dk_46 (dk_at dksL_law_33 6 rfl rfl)
theorem dL_law_905 : decode cL_law 905 = .ok (.invokevirtual 126, 3) := dk_182 0 126 (dk_at dksL_law_33 7 rfl rfl)
theorem dL_law_908 : decode cL_law 908 = .ok (.aload_n 2, 1) := dk_44 (dk_at dksL_law_33 10 rfl rfl)
theorem dL_law_909 : decode cL_law 909 = .ok (.aload_n 0, 1) := dk_42 (dk_at dksL_law_33 11 rfl rfl)
theorem dL_law_910 : decode cL_law 910 = .ok (.iload_n 3, 1) := dk_29 (dk_at dksL_law_33 12 rfl rfl)
theorem dL_law_911 : decode cL_law 911 = .ok (.iconst 1, 1) := dk_4 (dk_at dksL_law_33 13 rfl rfl)
theorem dL_law_912 : decode cL_law 912 = .ok (.iadd, 1) := dk_96 (dk_at dksL_law_33 14 rfl rfl)
theorem dL_law_913 : decode cL_law 913 = .ok (.iaload, 1) := dk_46 (dk_at dksL_law_33 15 rfl rfl)
theorem dL_law_914 : decode cL_law 914 = .ok (.invokevirtual 129, 3) := dk_182 0 129 (dk_at dksL_law_33 16 rfl rfl)
theorem dL_law_917 : decode cL_law 917 = .ok (.if_icmp .eq 226, 3) := dk_159 0 226 (dk_at dksL_law_33 19 rfl rfl)
theorem dL_law_920 : decode cL_law 920 = .ok (.iconst 0, 1) := dk_3 (dk_at dksL_law_33 22 rfl rfl)
theorem dL_law_921 : decode cL_law 921 = .ok (.ireturn, 1) := dk_172 (dk_at dksL_law_33 23 rfl rfl)
theorem dL_law_922 : decode cL_law 922 = .ok (.aload_n 1, 1) := dk_43 (dk_at dksL_law_34 0 rfl rfl)
theorem dL_law_923 : decode cL_law 923 = .ok (.aload_n 0, 1) := dk_42 (dk_at dksL_law_34 1 rfl rfl)
theorem dL_law_924 : decode cL_law 924 = .ok (.iload_n 3, 1) := dk_29 (dk_at dksL_law_34 2 rfl rfl)
theorem dL_law_925 : decode cL_law 925 = .ok (.iconst 1, 1) := dk_4 (dk_at dksL_law_34 3 rfl rfl)
theorem dL_law_926 : decode cL_law 926 = .ok (.iadd, 1) := dk_96 (dk_at dksL_law_34 4 rfl rfl)
theorem dL_law_927 : decode cL_law 927 = .ok (.iaload, 1) := dk_46 (dk_at dksL_law_34 5 rfl rfl)
theorem dL_law_928 : decode cL_law 928 = .ok (.aload_n 0, 1) := dk_42 (dk_at dksL_law_34 6 rfl rfl)
theorem dL_law_929 : decode cL_law 929 = .ok (.iload_n 3, 1) := dk_29 (dk_at dksL_law_34 7 rfl rfl)
theorem dL_law_930 : decode cL_law 930 = .ok (.iconst 2, 1) := dk_5 (dk_at dksL_law_34 8 rfl rfl)
theorem dL_law_931 : decode cL_law 931 = .ok (.iadd, 1) := dk_96 (dk_at dksL_law_34 9 rfl rfl)
theorem dL_law_932 : decode cL_law 932 = .ok (.iaload, 1) := dk_46 (dk_at dksL_law_34 10 rfl rfl)
theorem dL_law_933 : decode cL_law 933 = .ok (.aload_n 0, 1) := dk_42 (dk_at dksL_law_34 11 rfl rfl)
theorem dL_law_934 : decode cL_law 934 = .ok (.iload_n 3, 1) := dk_29 (dk_at dksL_law_34 12 rfl rfl)
theorem dL_law_935 : decode cL_law 935 = .ok (.iconst 3, 1) := dk_6 (dk_at dksL_law_34 13 rfl rfl)
theorem dL_law_936 : decode cL_law 936 = .ok (.iadd, 1) := dk_96 (dk_at dksL_law_34 14 rfl rfl)
theorem dL_law_937 : decode cL_law 937 = .ok (.iaload, 1) := dk_46 (dk_at dksL_law_34 15 rfl rfl)
theorem dL_law_938 : decode cL_law 938 = .ok (.invokevirtual 130, 3) := dk_182 0 130 (dk_at dksL_law_34 16 rfl rfl)
theorem dL_law_941 : decode cL_law 941 = .ok (.aload_n 2, 1) := dk_44 (dk_at dksL_law_34 19 rfl rfl)
theorem dL_law_942 : decode cL_law 942 = .ok (.aload_n 0, 1) := dk_42 (dk_at dksL_law_34 20 rfl rfl)
theorem dL_law_943 : decode cL_law 943 = .ok (.iload_n 3, 1) := dk_29 (dk_at dksL_law_34 21 rfl rfl)
theorem dL_law_944 : decode cL_law 944 = .ok (.iconst 1, 1) := dk_4 (dk_at dksL_law_34 22 rfl rfl)
theorem dL_law_945 : decode cL_law 945 = .ok (.iadd, 1) := dk_96 (dk_at dksL_law_34 23 rfl rfl)
theorem dL_law_946 : decode cL_law 946 = .ok (.iaload, 1) := dk_46 (dk_at dksL_law_35 0 rfl rfl)
theorem dL_law_947 : decode cL_law 947 = .ok (.aload_n 0, 1) := dk_42 (dk_at dksL_law_35 1 rfl rfl)
theorem dL_law_948 : decode cL_law 948 = .ok (.iload_n 3, 1) := dk_29 (dk_at dksL_law_35 2 rfl rfl)
theorem dL_law_949 : decode cL_law 949 = .ok (.iconst 2, 1) := dk_5 (dk_at dksL_law_35 3 rfl rfl)
theorem dL_law_950 : decode cL_law 950 = .ok (.iadd, 1) := dk_96 (dk_at dksL_law_35 4 rfl rfl)
theorem dL_law_951 : decode cL_law 951 = .ok (.iaload, 1) := dk_46 (dk_at dksL_law_35 5 rfl rfl)
theorem dL_law_952 : decode cL_law 952 = .ok (.aload_n 0, 1) := dk_42 (dk_at dksL_law_35 6 rfl rfl)
theorem dL_law_953 : decode cL_law 953 = .ok (.iload_n 3, 1) := dk_29 (dk_at dksL_law_35 7 rfl rfl)
theorem dL_law_954 : decode cL_law 954 = .ok (.iconst 3, 1) := dk_6 (dk_at dksL_law_35 8 rfl rfl)
theorem dL_law_955 : decode cL_law 955 = .ok (.iadd, 1) := dk_96 (dk_at dksL_law_35 9 rfl rfl)
theorem dL_law_956 : decode cL_law 956 = .ok (.iaload, 1) := dk_46 (dk_at dksL_law_35 10 rfl rfl)
theorem dL_law_957 : decode cL_law 957 = .ok (.invokevirtual 133, 3) := dk_182 0 133 (dk_at dksL_law_35 11 rfl rfl)
theorem dL_law_960 : decode cL_law 960 = .ok (.if_icmp .eq 183, 3) := dk_159 0 183 (dk_at dksL_law_35 14 rfl rfl)
theorem dL_law_963 : decode cL_law 963 = .ok (.iconst 0, 1) := dk_3 (dk_at dksL_law_35 17 rfl rfl)
theorem dL_law_964 : decode cL_law 964 = .ok (.ireturn, 1) := dk_172 (dk_at dksL_law_35 18 rfl rfl)
theorem dL_law_965 : decode cL_law 965 = .ok (.aload_n 1, 1) := dk_43 (dk_at dksL_law_35 19 rfl rfl)
theorem dL_law_966 : decode cL_law 966 = .ok (.aload_n 0, 1) := dk_42 (dk_at dksL_law_35 20 rfl rfl)
theorem dL_law_967 : decode cL_law 967 = .ok (.iload_n 3, 1) := dk_29 (dk_at dksL_law_35 21 rfl rfl)
theorem dL_law_968 : decode cL_law 968 = .ok (.iconst 1, 1) := dk_4 (dk_at dksL_law_35 22 rfl rfl)
theorem dL_law_969 : decode cL_law 969 = .ok (.iadd, 1) := dk_96 (dk_at dksL_law_35 23 rfl rfl)
theorem dL_law_970 : decode cL_law 970 = .ok (.iaload, 1) := dk_46 (dk_at dksL_law_36 0 rfl rfl)
theorem dL_law_971 : decode cL_law 971 = .ok (.aload_n 0, 1) := dk_42 (dk_at dksL_law_36 1 rfl rfl)
theorem dL_law_972 : decode cL_law 972 = .ok (.iload_n 3, 1) := dk_29 (dk_at dksL_law_36 2 rfl rfl)
theorem dL_law_973 : decode cL_law 973 = .ok (.iconst 2, 1) := dk_5 (dk_at dksL_law_36 3 rfl rfl)
theorem dL_law_974 : decode cL_law 974 = .ok (.iadd, 1) := dk_96 (dk_at dksL_law_36 4 rfl rfl)
theorem dL_law_975 : decode cL_law 975 = .ok (.iaload, 1) := dk_46 (dk_at dksL_law_36 5 rfl rfl)
theorem dL_law_976 : decode cL_law 976 = .ok (.aload_n 0, 1) := dk_42 (dk_at dksL_law_36 6 rfl rfl)
theorem dL_law_977 : decode cL_law 977 = .ok (.iload_n 3, 1) := dk_29 (dk_at dksL_law_36 7 rfl rfl)
theorem dL_law_978 : decode cL_law 978 = .ok (.iconst 3, 1) := dk_6 (dk_at dksL_law_36 8 rfl rfl)
theorem dL_law_979 : decode cL_law 979 = .ok (.iadd, 1) := dk_96 (dk_at dksL_law_36 9 rfl rfl)
theorem dL_law_980 : decode cL_law 980 = .ok (.iaload, 1) := dk_46 (dk_at dksL_law_36 10 rfl rfl)
theorem dL_law_981 : decode cL_law 981 = .ok (.invokevirtual 134, 3) := dk_182 0 134 (dk_at dksL_law_36 11 rfl rfl)
theorem dL_law_984 : decode cL_law 984 = .ok (.aload_n 2, 1) := dk_44 (dk_at dksL_law_36 14 rfl rfl)
theorem dL_law_985 : decode cL_law 985 = .ok (.aload_n 0, 1) := dk_42 (dk_at dksL_law_36 15 rfl rfl)
theorem dL_law_986 : decode cL_law 986 = .ok (.iload_n 3, 1) := dk_29 (dk_at dksL_law_36 16 rfl rfl)
theorem dL_law_987 : decode cL_law 987 = .ok (.iconst 1, 1) := dk_4 (dk_at dksL_law_36 17 rfl rfl)
theorem dL_law_988 : decode cL_law 988 = .ok (.iadd, 1) := dk_96 (dk_at dksL_law_36 18 rfl rfl)
theorem dL_law_989 : decode cL_law 989 = .ok (.iaload, 1) := dk_46 (dk_at dksL_law_36 19 rfl rfl)
theorem dL_law_990 : decode cL_law 990 = .ok (.aload_n 0, 1) := dk_42 (dk_at dksL_law_36 20 rfl rfl)
theorem dL_law_991 : decode cL_law 991 = .ok (.iload_n 3, 1) := dk_29 (dk_at dksL_law_36 21 rfl rfl)
theorem dL_law_992 : decode cL_law 992 = .ok (.iconst 2, 1) := dk_5 (dk_at dksL_law_36 22 rfl rfl)
theorem dL_law_993 : decode cL_law 993 = .ok (.iadd, 1) := dk_96 (dk_at dksL_law_36 23 rfl rfl)
theorem dL_law_994 : decode cL_law 994 = .ok (.iaload, 1) := dk_46 (dk_at dksL_law_37 0 rfl rfl)
theorem dL_law_995 : decode cL_law 995 = .ok (.aload_n 0, 1) := dk_42 (dk_at dksL_law_37 1 rfl rfl)
theorem dL_law_996 : decode cL_law 996 = .ok (.iload_n 3, 1) := dk_29 (dk_at dksL_law_37 2 rfl rfl)
theorem dL_law_997 : decode cL_law 997 = .ok (.iconst 3, 1) := dk_6 (dk_at dksL_law_37 3 rfl rfl)
theorem dL_law_998 : decode cL_law 998 = .ok (.iadd, 1) := dk_96 (dk_at dksL_law_37 4 rfl rfl)
theorem dL_law_999 : decode cL_law 999 = .ok (.iaload, 1) := dk_46 (dk_at dksL_law_37 5 rfl rfl)
theorem dL_law_1000 : decode cL_law 1000 = .ok (.invokevirtual 137, 3) := dk_182 0 137 (dk_at dksL_law_37 6 rfl rfl)
theorem dL_law_1003 : decode cL_law 1003 = .ok (.if_icmp .eq 140, 3) := dk_159 0 140 (dk_at dksL_law_37 9 rfl rfl)
theorem dL_law_1006 : decode cL_law 1006 = .ok (.iconst 0, 1) := dk_3 (dk_at dksL_law_37 12 rfl rfl)
theorem dL_law_1007 : decode cL_law 1007 = .ok (.ireturn, 1) := dk_172 (dk_at dksL_law_37 13 rfl rfl)
theorem dL_law_1008 : decode cL_law 1008 = .ok (.aload_n 1, 1) := dk_43 (dk_at dksL_law_37 14 rfl rfl)
theorem dL_law_1009 : decode cL_law 1009 = .ok (.aload_n 0, 1) := dk_42 (dk_at dksL_law_37 15 rfl rfl)
theorem dL_law_1010 : decode cL_law 1010 = .ok (.iload_n 3, 1) := dk_29 (dk_at dksL_law_37 16 rfl rfl)
theorem dL_law_1011 : decode cL_law 1011 = .ok (.iconst 1, 1) := dk_4 (dk_at dksL_law_37 17 rfl rfl)
theorem dL_law_1012 : decode cL_law 1012 = .ok (.iadd, 1) := dk_96 (dk_at dksL_law_37 18 rfl rfl)
theorem dL_law_1013 : decode cL_law 1013 = .ok (.iaload, 1) := dk_46 (dk_at dksL_law_37 19 rfl rfl)
theorem dL_law_1014 : decode cL_law 1014 = .ok (.aload_n 0, 1) := dk_42 (dk_at dksL_law_37 20 rfl rfl)
theorem dL_law_1015 : decode cL_law 1015 = .ok (.iload_n 3, 1) := dk_29 (dk_at dksL_law_37 21 rfl rfl)
theorem dL_law_1016 : decode cL_law 1016 = .ok (.iconst 2, 1) := dk_5 (dk_at dksL_law_37 22 rfl rfl)
theorem dL_law_1017 : decode cL_law 1017 = .ok (.iadd, 1) := dk_96 (dk_at dksL_law_37 23 rfl rfl)
theorem dL_law_1018 : decode cL_law 1018 = .ok (.iaload, 1) := dk_46 (dk_at dksL_law_38 0 rfl rfl)
theorem dL_law_1019 : decode cL_law 1019 = .ok (.aload_n 0, 1) := dk_42 (dk_at dksL_law_38 1 rfl rfl)
theorem dL_law_1020 : decode cL_law 1020 = .ok (.iload_n 3, 1) := dk_29 (dk_at dksL_law_38 2 rfl rfl)
theorem dL_law_1021 : decode cL_law 1021 = .ok (.iconst 3, 1) := dk_6 (dk_at dksL_law_38 3 rfl rfl)
theorem dL_law_1022 : decode cL_law 1022 = .ok (.iadd, 1) := dk_96 (dk_at dksL_law_38 4 rfl rfl)
theorem dL_law_1023 : decode cL_law 1023 = .ok (.iaload, 1) := dk_46 (dk_at dksL_law_38 5 rfl rfl)
theorem dL_law_1024 : decode cL_law 1024 = .ok (.invokevirtual 138, 3) := dk_182 0 138 (dk_at dksL_law_38 6 rfl rfl)
theorem dL_law_1027 : decode cL_law 1027 = .ok (.aload_n 2, 1) := dk_44 (dk_at dksL_law_38 9 rfl rfl)
theorem dL_law_1028 : decode cL_law 1028 = .ok (.aload_n 0, 1) := dk_42 (dk_at dksL_law_38 10 rfl rfl)
theorem dL_law_1029 : decode cL_law 1029 = .ok (.iload_n 3, 1) := dk_29 (dk_at dksL_law_38 11 rfl rfl)
theorem dL_law_1030 : decode cL_law 1030 = .ok (.iconst 1, 1) := dk_4 (dk_at dksL_law_38 12 rfl rfl)
theorem dL_law_1031 : decode cL_law 1031 = .ok (.iadd, 1) := dk_96 (dk_at dksL_law_38 13 rfl rfl)
theorem dL_law_1032 : decode cL_law 1032 = .ok (.iaload, 1) := dk_46 (dk_at dksL_law_38 14 rfl rfl)
theorem dL_law_1033 : decode cL_law 1033 = .ok (.aload_n 0, 1) := dk_42 (dk_at dksL_law_38 15 rfl rfl)
theorem dL_law_1034 : decode cL_law 1034 = .ok (.iload_n 3, 1) := dk_29 (dk_at dksL_law_38 16 rfl rfl)
theorem dL_law_1035 : decode cL_law 1035 = .ok (.iconst 2, 1) := dk_5 (dk_at dksL_law_38 17 rfl rfl)
theorem dL_law_1036 : decode cL_law 1036 = .ok (.iadd, 1) := dk_96 (dk_at dksL_law_38 18 rfl rfl)
theorem dL_law_1037 : decode cL_law 1037 = .ok (.iaload, 1) := dk_46 (dk_at dksL_law_38 19 rfl rfl)
theorem dL_law_1038 : decode cL_law 1038 = .ok (.aload_n 0, 1) := dk_42 (dk_at dksL_law_38 20 rfl rfl)
theorem dL_law_1039 : decode cL_law 1039 = .ok (.iload_n 3, 1) := dk_29 (dk_at dksL_law_38 21 rfl rfl)
theorem dL_law_1040 : decode cL_law 1040 = .ok (.iconst 3, 1) := dk_6 (dk_at dksL_law_38 22 rfl rfl)
theorem dL_law_1041 : decode cL_law 1041 = .ok (.iadd, 1) := dk_96 (dk_at dksL_law_38 23 rfl rfl)
theorem dL_law_1042 : decode cL_law 1042 = .ok (.iaload, 1) := dk_46 (dk_at dksL_law_39 0 rfl rfl)
theorem dL_law_1043 : decode cL_law 1043 = .ok (.invokevirtual 141, 3) := dk_182 0 141 (dk_at dksL_law_39 1 rfl rfl)
theorem dL_law_1046 : decode cL_law 1046 = .ok (.if_icmp .eq 97, 3) := dk_159 0 97 (dk_at dksL_law_39 4 rfl rfl)
theorem dL_law_1049 : decode cL_law 1049 = .ok (.iconst 0, 1) := dk_3 (dk_at dksL_law_39 7 rfl rfl)
theorem dL_law_1050 : decode cL_law 1050 = .ok (.ireturn, 1) := dk_172 (dk_at dksL_law_39 8 rfl rfl)
theorem dL_law_1051 : decode cL_law 1051 = .ok (.aload_n 1, 1) := dk_43 (dk_at dksL_law_39 9 rfl rfl)
theorem dL_law_1052 : decode cL_law 1052 = .ok (.aload_n 0, 1) := dk_42 (dk_at dksL_law_39 10 rfl rfl)
theorem dL_law_1053 : decode cL_law 1053 = .ok (.iload_n 3, 1) := dk_29 (dk_at dksL_law_39 11 rfl rfl)
theorem dL_law_1054 : decode cL_law 1054 = .ok (.iconst 1, 1) := dk_4 (dk_at dksL_law_39 12 rfl rfl)
theorem dL_law_1055 : decode cL_law 1055 = .ok (.iadd, 1) := dk_96 (dk_at dksL_law_39 13 rfl rfl)
theorem dL_law_1056 : decode cL_law 1056 = .ok (.iaload, 1) := dk_46 (dk_at dksL_law_39 14 rfl rfl)
theorem dL_law_1057 : decode cL_law 1057 = .ok (.invokevirtual 142, 3) := dk_182 0 142 (dk_at dksL_law_39 15 rfl rfl)
theorem dL_law_1060 : decode cL_law 1060 = .ok (.aload_n 2, 1) := dk_44 (dk_at dksL_law_39 18 rfl rfl)
theorem dL_law_1061 : decode cL_law 1061 = .ok (.aload_n 0, 1) := dk_42 (dk_at dksL_law_39 19 rfl rfl)
theorem dL_law_1062 : decode cL_law 1062 = .ok (.iload_n 3, 1) := dk_29 (dk_at dksL_law_39 20 rfl rfl)
theorem dL_law_1063 : decode cL_law 1063 = .ok (.iconst 1, 1) := dk_4 (dk_at dksL_law_39 21 rfl rfl)
theorem dL_law_1064 : decode cL_law 1064 = .ok (.iadd, 1) := dk_96 (dk_at dksL_law_39 22 rfl rfl)
theorem dL_law_1065 : decode cL_law 1065 = .ok (.iaload, 1) := dk_46 (dk_at dksL_law_39 23 rfl rfl)
theorem dL_law_1066 : decode cL_law 1066 = .ok (.invokevirtual 145, 3) := dk_182 0 145 (dk_at dksL_law_40 0 rfl rfl)
theorem dL_law_1069 : decode cL_law 1069 = .ok (.if_icmp .eq 74, 3) := dk_159 0 74 (dk_at dksL_law_40 3 rfl rfl)
theorem dL_law_1072 : decode cL_law 1072 = .ok (.iconst 0, 1) := dk_3 (dk_at dksL_law_40 6 rfl rfl)
theorem dL_law_1073 : decode cL_law 1073 = .ok (.ireturn, 1) := dk_172 (dk_at dksL_law_40 7 rfl rfl)
theorem dL_law_1074 : decode cL_law 1074 = .ok (.aload_n 1, 1) := dk_43 (dk_at dksL_law_40 8 rfl rfl)
theorem dL_law_1075 : decode cL_law 1075 = .ok (.aload_n 0, 1) := dk_42 (dk_at dksL_law_40 9 rfl rfl)
theorem dL_law_1076 : decode cL_law 1076 = .ok (.iload_n 3, 1) := dk_29 (dk_at dksL_law_40 10 rfl rfl)
theorem dL_law_1077 : decode cL_law 1077 = .ok (.iconst 1, 1) := dk_4 (dk_at dksL_law_40 11 rfl rfl)
theorem dL_law_1078 : decode cL_law 1078 = .ok (.iadd, 1) := dk_96 (dk_at dksL_law_40 12 rfl rfl)
theorem dL_law_1079 : decode cL_law 1079 = .ok (.iaload, 1) := dk_46 (dk_at dksL_law_40 13 rfl rfl)
theorem dL_law_1080 : decode cL_law 1080 = .ok (.invokevirtual 146, 3) := dk_182 0 146 (dk_at dksL_law_40 14 rfl rfl)
theorem dL_law_1083 : decode cL_law 1083 = .ok (.aload_n 2, 1) := dk_44 (dk_at dksL_law_40 17 rfl rfl)
theorem dL_law_1084 : decode cL_law 1084 = .ok (.aload_n 0, 1) := dk_42 (dk_at dksL_law_40 18 rfl rfl)
theorem dL_law_1085 : decode cL_law 1085 = .ok (.iload_n 3, 1) := dk_29 (dk_at dksL_law_40 19 rfl rfl)
theorem dL_law_1086 : decode cL_law 1086 = .ok (.iconst 1, 1) := dk_4 (dk_at dksL_law_40 20 rfl rfl)
theorem dL_law_1087 : decode cL_law 1087 = .ok (.iadd, 1) := dk_96 (dk_at dksL_law_40 21 rfl rfl)
theorem dL_law_1088 : decode cL_law 1088 = .ok (.iaload, 1) := dk_46 (dk_at dksL_law_40 22 rfl rfl)
theorem dL_law_1089 : decode cL_law 1089 = .ok (.invokevirtual 149, 3) := dk_182 0 149 (dk_at dksL_law_41 0 rfl rfl)
theorem dL_law_1092 : decode cL_law 1092 = .ok (.if_icmp .eq 51, 3) := dk_159 0 51 (dk_at dksL_law_41 3 rfl rfl)
theorem dL_law_1095 : decode cL_law 1095 = .ok (.iconst 0, 1) := dk_3 (dk_at dksL_law_41 6 rfl rfl)
theorem dL_law_1096 : decode cL_law 1096 = .ok (.ireturn, 1) := dk_172 (dk_at dksL_law_41 7 rfl rfl)
theorem dL_law_1097 : decode cL_law 1097 = .ok (.aload_n 1, 1) := dk_43 (dk_at dksL_law_41 8 rfl rfl)
theorem dL_law_1098 : decode cL_law 1098 = .ok (.aload_n 0, 1) := dk_42 (dk_at dksL_law_41 9 rfl rfl)
theorem dL_law_1099 : decode cL_law 1099 = .ok (.iload_n 3, 1) := dk_29 (dk_at dksL_law_41 10 rfl rfl)
theorem dL_law_1100 : decode cL_law 1100 = .ok (.iconst 1, 1) := dk_4 (dk_at dksL_law_41 11 rfl rfl)
theorem dL_law_1101 : decode cL_law 1101 = .ok (.iadd, 1) := dk_96 (dk_at dksL_law_41 12 rfl rfl)
theorem dL_law_1102 : decode cL_law 1102 = .ok (.iaload, 1) := dk_46 (dk_at dksL_law_41 13 rfl rfl)
theorem dL_law_1103 : decode cL_law 1103 = .ok (.invokevirtual 150, 3) := dk_182 0 150 (dk_at dksL_law_41 14 rfl rfl)
theorem dL_law_1106 : decode cL_law 1106 = .ok (.aload_n 2, 1) := dk_44 (dk_at dksL_law_41 17 rfl rfl)
theorem dL_law_1107 : decode cL_law 1107 = .ok (.aload_n 0, 1) := dk_42 (dk_at dksL_law_41 18 rfl rfl)
theorem dL_law_1108 : decode cL_law 1108 = .ok (.iload_n 3, 1) := dk_29 (dk_at dksL_law_41 19 rfl rfl)
theorem dL_law_1109 : decode cL_law 1109 = .ok (.iconst 1, 1) := dk_4 (dk_at dksL_law_41 20 rfl rfl)
theorem dL_law_1110 : decode cL_law 1110 = .ok (.iadd, 1) := dk_96 (dk_at dksL_law_41 21 rfl rfl)
theorem dL_law_1111 : decode cL_law 1111 = .ok (.iaload, 1) := dk_46 (dk_at dksL_law_41 22 rfl rfl)
theorem dL_law_1112 : decode cL_law 1112 = .ok (.invokevirtual 153, 3) := dk_182 0 153 (dk_at dksL_law_42 0 rfl rfl)
theorem dL_law_1115 : decode cL_law 1115 = .ok (.if_icmp .eq 28, 3) := dk_159 0 28 (dk_at dksL_law_42 3 rfl rfl)
theorem dL_law_1118 : decode cL_law 1118 = .ok (.iconst 0, 1) := dk_3 (dk_at dksL_law_42 6 rfl rfl)
theorem dL_law_1119 : decode cL_law 1119 = .ok (.ireturn, 1) := dk_172 (dk_at dksL_law_42 7 rfl rfl)
theorem dL_law_1120 : decode cL_law 1120 = .ok (.aload_n 1, 1) := dk_43 (dk_at dksL_law_42 8 rfl rfl)
theorem dL_law_1121 : decode cL_law 1121 = .ok (.aload_n 0, 1) := dk_42 (dk_at dksL_law_42 9 rfl rfl)
theorem dL_law_1122 : decode cL_law 1122 = .ok (.iload_n 3, 1) := dk_29 (dk_at dksL_law_42 10 rfl rfl)
theorem dL_law_1123 : decode cL_law 1123 = .ok (.iconst 1, 1) := dk_4 (dk_at dksL_law_42 11 rfl rfl)
theorem dL_law_1124 : decode cL_law 1124 = .ok (.iadd, 1) := dk_96 (dk_at dksL_law_42 12 rfl rfl)
theorem dL_law_1125 : decode cL_law 1125 = .ok (.iaload, 1) := dk_46 (dk_at dksL_law_42 13 rfl rfl)
theorem dL_law_1126 : decode cL_law 1126 = .ok (.invokevirtual 154, 3) := dk_182 0 154 (dk_at dksL_law_42 14 rfl rfl)
theorem dL_law_1129 : decode cL_law 1129 = .ok (.aload_n 2, 1) := dk_44 (dk_at dksL_law_42 17 rfl rfl)
theorem dL_law_1130 : decode cL_law 1130 = .ok (.aload_n 0, 1) := dk_42 (dk_at dksL_law_42 18 rfl rfl)
theorem dL_law_1131 : decode cL_law 1131 = .ok (.iload_n 3, 1) := dk_29 (dk_at dksL_law_42 19 rfl rfl)
theorem dL_law_1132 : decode cL_law 1132 = .ok (.iconst 1, 1) := dk_4 (dk_at dksL_law_42 20 rfl rfl)
theorem dL_law_1133 : decode cL_law 1133 = .ok (.iadd, 1) := dk_96 (dk_at dksL_law_42 21 rfl rfl)
theorem dL_law_1134 : decode cL_law 1134 = .ok (.iaload, 1) := dk_46 (dk_at dksL_law_42 22 rfl rfl)
theorem dL_law_1135 : decode cL_law 1135 = .ok (.invokevirtual 157, 3) := dk_182 0 157 (dk_at dksL_law_43 0 rfl rfl)
theorem dL_law_1138 : decode cL_law 1138 = .ok (.if_icmp .eq 5, 3) := dk_159 0 5 (dk_at dksL_law_43 3 rfl rfl)
theorem dL_law_1141 : decode cL_law 1141 = .ok (.iconst 0, 1) := dk_3 (dk_at dksL_law_43 6 rfl rfl)
theorem dL_law_1142 : decode cL_law 1142 = .ok (.ireturn, 1) := dk_172 (dk_at dksL_law_43 7 rfl rfl)
theorem dL_law_1143 : decode cL_law 1143 = .ok (.iinc 3 5, 3) := dk_132 3 5 (dk_at dksL_law_43 8 rfl rfl)
theorem dL_law_1146 : decode cL_law 1146 = .ok (.goto (-1128), 3) := dk_167 251 152 (dk_at dksL_law_43 11 rfl rfl)
theorem dL_law_1149 : decode cL_law 1149 = .ok (.iconst 1, 1) := dk_4 (dk_at dksL_law_43 14 rfl rfl)
theorem dL_law_1150 : decode cL_law 1150 = .ok (.ireturn, 1) := dk_172 (dk_at dksL_law_43 15 rfl rfl)
