/-! NutCaches -/
set_option maxRecDepth 100000
def RX0 : String := "NutCaches"
def TX0 : u_T := fun k => match k with
  | 0 => ("NutCaches", "squirrels", "[Ljava/lang/Object;", true)
  | 1 => ("NutCaches", "many", "I", false)
  | 2 => ("NutCaches", "told", "LNutCaches$State;", true)
  | 3 => ("NutCaches", "now", "LNutCaches$State;", true)
  | 4 => ("NutCaches", "tried", "LNutCaches$State;", true)
  | 5 => ("NutCaches", "kept", "[LNutCaches$State;", true)
  | 6 => ("NutCaches", "backs", "[LNutCaches$State;", true)
  | 7 => ("NutCaches", "backMany", "I", false)
  | 8 => ("NutCaches", "sights", "[[I", true)
  | 9 => ("NutCaches", "sightMany", "I", false)
  | 10 => ("NutCaches", "trails", "[LNutCaches$Trail;", true)
  | 11 => ("NutCaches", "text", "[B", true)
  | _ => ("NutCaches", "letters", "I", false)
def tyX0 : Nat → FieldType := fun k => match k with
  | 0 => .array (.object "java/lang/Object")
  | 1 => .int
  | 2 => .object "NutCaches$State"
  | 3 => .object "NutCaches$State"
  | 4 => .object "NutCaches$State"
  | 5 => .array (.object "NutCaches$State")
  | 6 => .array (.object "NutCaches$State")
  | 7 => .int
  | 8 => .array (.array .int)
  | 9 => .int
  | 10 => .array (.object "NutCaches$Trail")
  | 11 => .array .byte
  | _ => .int
abbrev wsX00 : List Cond := u_ws RX0 TX0 13
set_option maxRecDepth 100000 in
theorem nmX0 : ∀ a, a < 13 → ∀ b, b < 13 → a ≠ b → (TX0 a).2.1 ≠ (TX0 b).2.1 := by decide +kernel
set_option maxRecDepth 100000 in
theorem tyX0_ok : ∀ k, k < 13 → parseFieldDescriptor (TX0 k).2.2.1 = some (tyX0 k) := by decide +kernel
abbrev cX0_init : ByteArray := prog_1_method_10_code
def yX0_init : MethodName := ⟨RX0, "<init>", "()V"⟩
def dkwX0_init_4 : List UInt8 := [177]
abbrev dktX0_init_4 : List UInt8 := dkwX0_init_4 ++ []
def dkwX0_init_3 : List UInt8 := [181, 0, 114, 42, 6, 189, 0, 118, 181, 0, 57, 42, 17, 0, 200, 188, 8, 181, 0, 120, 42, 182, 0, 123]
abbrev dktX0_init_3 : List UInt8 := dkwX0_init_3 ++ dktX0_init_4
def dkwX0_init_2 : List UInt8 := [42, 5, 189, 0, 35, 181, 0, 47, 42, 16, 8, 189, 0, 35, 181, 0, 61, 42, 16, 6, 189, 0, 112]
abbrev dktX0_init_2 : List UInt8 := dkwX0_init_2 ++ dktX0_init_3
def dkwX0_init_1 : List UInt8 := [42, 187, 0, 35, 89, 42, 183, 0, 70, 181, 0, 27, 42, 187, 0, 35, 89, 42, 183, 0, 70, 181, 0, 109]
abbrev dktX0_init_1 : List UInt8 := dkwX0_init_1 ++ dktX0_init_2
def dkwX0_init_0 : List UInt8 := [42, 183, 0, 104, 42, 8, 189, 0, 105, 181, 0, 21, 42, 187, 0, 35, 89, 42, 183, 0, 70, 181, 0, 31]
abbrev dktX0_init_0 : List UInt8 := dkwX0_init_0 ++ dktX0_init_1
theorem dksX0_init_0 : cX0_init.data.toList.drop 0 = dktX0_init_0 := by decide +kernel
theorem dksX0_init_1 : cX0_init.data.toList.drop 24 = dktX0_init_1 := dk_seg dksX0_init_0 24 rfl rfl
theorem dksX0_init_2 : cX0_init.data.toList.drop 48 = dktX0_init_2 := dk_seg dksX0_init_1 24 rfl rfl
theorem dksX0_init_3 : cX0_init.data.toList.drop 71 = dktX0_init_3 := dk_seg dksX0_init_2 23 rfl rfl
theorem dksX0_init_4 : cX0_init.data.toList.drop 95 = dktX0_init_4 := dk_seg dksX0_init_3 24 rfl rfl
theorem dX0_init_0 : decode cX0_init 0 = .ok (.aload_n 0, 1) := dk_42 (dk_at dksX0_init_0 0 rfl rfl)
theorem dX0_init_1 : decode cX0_init 1 = .ok (.invokespecial 104, 3) := dk_183 0 104 (dk_at dksX0_init_0 1 rfl rfl)
theorem dX0_init_4 : decode cX0_init 4 = .ok (.aload_n 0, 1) := dk_42 (dk_at dksX0_init_0 4 rfl rfl)
theorem dX0_init_5 : decode cX0_init 5 = .ok (.iconst 5, 1) := dk_8 (dk_at dksX0_init_0 5 rfl rfl)
theorem dX0_init_6 : decode cX0_init 6 = .ok (.anewarray 105, 3) := dk_189 0 105 (dk_at dksX0_init_0 6 rfl rfl)
theorem dX0_init_9 : decode cX0_init 9 = .ok (.putfield 21, 3) := dk_181 0 21 (dk_at dksX0_init_0 9 rfl rfl)
theorem dX0_init_12 : decode cX0_init 12 = .ok (.aload_n 0, 1) := dk_42 (dk_at dksX0_init_0 12 rfl rfl)
theorem dX0_init_13 : decode cX0_init 13 = .ok (.new 35, 3) := dk_187 0 35 (dk_at dksX0_init_0 13 rfl rfl)
theorem dX0_init_16 : decode cX0_init 16 = .ok (.dup, 1) := dk_89 (dk_at dksX0_init_0 16 rfl rfl)
theorem dX0_init_17 : decode cX0_init 17 = .ok (.aload_n 0, 1) := dk_42 (dk_at dksX0_init_0 17 rfl rfl)
theorem dX0_init_18 : decode cX0_init 18 = .ok (.invokespecial 70, 3) := dk_183 0 70 (dk_at dksX0_init_0 18 rfl rfl)
theorem dX0_init_21 : decode cX0_init 21 = .ok (.putfield 31, 3) := dk_181 0 31 (dk_at dksX0_init_0 21 rfl rfl)
theorem dX0_init_24 : decode cX0_init 24 = .ok (.aload_n 0, 1) := dk_42 (dk_at dksX0_init_1 0 rfl rfl)
theorem dX0_init_25 : decode cX0_init 25 = .ok (.new 35, 3) := dk_187 0 35 (dk_at dksX0_init_1 1 rfl rfl)
theorem dX0_init_28 : decode cX0_init 28 = .ok (.dup, 1) := dk_89 (dk_at dksX0_init_1 4 rfl rfl)
theorem dX0_init_29 : decode cX0_init 29 = .ok (.aload_n 0, 1) := dk_42 (dk_at dksX0_init_1 5 rfl rfl)
theorem dX0_init_30 : decode cX0_init 30 = .ok (.invokespecial 70, 3) := dk_183 0 70 (dk_at dksX0_init_1 6 rfl rfl)
theorem dX0_init_33 : decode cX0_init 33 = .ok (.putfield 27, 3) := dk_181 0 27 (dk_at dksX0_init_1 9 rfl rfl)
theorem dX0_init_36 : decode cX0_init 36 = .ok (.aload_n 0, 1) := dk_42 (dk_at dksX0_init_1 12 rfl rfl)
theorem dX0_init_37 : decode cX0_init 37 = .ok (.new 35, 3) := dk_187 0 35 (dk_at dksX0_init_1 13 rfl rfl)
theorem dX0_init_40 : decode cX0_init 40 = .ok (.dup, 1) := dk_89 (dk_at dksX0_init_1 16 rfl rfl)
theorem dX0_init_41 : decode cX0_init 41 = .ok (.aload_n 0, 1) := dk_42 (dk_at dksX0_init_1 17 rfl rfl)
theorem dX0_init_42 : decode cX0_init 42 = .ok (.invokespecial 70, 3) := dk_183 0 70 (dk_at dksX0_init_1 18 rfl rfl)
theorem dX0_init_45 : decode cX0_init 45 = .ok (.putfield 109, 3) := dk_181 0 109 (dk_at dksX0_init_1 21 rfl rfl)
theorem dX0_init_48 : decode cX0_init 48 = .ok (.aload_n 0, 1) := dk_42 (dk_at dksX0_init_2 0 rfl rfl)
theorem dX0_init_49 : decode cX0_init 49 = .ok (.iconst 2, 1) := dk_5 (dk_at dksX0_init_2 1 rfl rfl)
theorem dX0_init_50 : decode cX0_init 50 = .ok (.anewarray 35, 3) := dk_189 0 35 (dk_at dksX0_init_2 2 rfl rfl)
theorem dX0_init_53 : decode cX0_init 53 = .ok (.putfield 47, 3) := dk_181 0 47 (dk_at dksX0_init_2 5 rfl rfl)
theorem dX0_init_56 : decode cX0_init 56 = .ok (.aload_n 0, 1) := dk_42 (dk_at dksX0_init_2 8 rfl rfl)
theorem dX0_init_57 : decode cX0_init 57 = .ok (.bipush 8, 2) := dk_16 8 (dk_at dksX0_init_2 9 rfl rfl)
theorem dX0_init_59 : decode cX0_init 59 = .ok (.anewarray 35, 3) := dk_189 0 35 (dk_at dksX0_init_2 11 rfl rfl)
theorem dX0_init_62 : decode cX0_init 62 = .ok (.putfield 61, 3) := dk_181 0 61 (dk_at dksX0_init_2 14 rfl rfl)
theorem dX0_init_65 : decode cX0_init 65 = .ok (.aload_n 0, 1) := dk_42 (dk_at dksX0_init_2 17 rfl rfl)
theorem dX0_init_66 : decode cX0_init 66 = .ok (.bipush 6, 2) := dk_16 6 (dk_at dksX0_init_2 18 rfl rfl)
theorem dX0_init_68 : decode cX0_init 68 = .ok (.anewarray 112, 3) := dk_189 0 112 (dk_at dksX0_init_2 20 rfl rfl)
theorem dX0_init_71 : decode cX0_init 71 = .ok (.putfield 114, 3) := dk_181 0 114 (dk_at dksX0_init_3 0 rfl rfl)
theorem dX0_init_74 : decode cX0_init 74 = .ok (.aload_n 0, 1) := dk_42 (dk_at dksX0_init_3 3 rfl rfl)
theorem dX0_init_75 : decode cX0_init 75 = .ok (.iconst 3, 1) := dk_6 (dk_at dksX0_init_3 4 rfl rfl)
theorem dX0_init_76 : decode cX0_init 76 = .ok (.anewarray 118, 3) := dk_189 0 118 (dk_at dksX0_init_3 5 rfl rfl)
theorem dX0_init_79 : decode cX0_init 79 = .ok (.putfield 57, 3) := dk_181 0 57 (dk_at dksX0_init_3 8 rfl rfl)
theorem dX0_init_82 : decode cX0_init 82 = .ok (.aload_n 0, 1) := dk_42 (dk_at dksX0_init_3 11 rfl rfl)
theorem dX0_init_83 : decode cX0_init 83 = .ok (.sipush 200, 3) := dk_17 0 200 (dk_at dksX0_init_3 12 rfl rfl)
theorem dX0_init_86 : decode cX0_init 86 = .ok (.newarray .byte, 2) := dk_188_8 (dk_at dksX0_init_3 15 rfl rfl)
theorem dX0_init_88 : decode cX0_init 88 = .ok (.putfield 120, 3) := dk_181 0 120 (dk_at dksX0_init_3 17 rfl rfl)
theorem dX0_init_91 : decode cX0_init 91 = .ok (.aload_n 0, 1) := dk_42 (dk_at dksX0_init_3 20 rfl rfl)
theorem dX0_init_92 : decode cX0_init 92 = .ok (.invokevirtual 123, 3) := dk_182 0 123 (dk_at dksX0_init_3 21 rfl rfl)
theorem dX0_init_95 : decode cX0_init 95 = .ok (.return_, 1) := dk_177 (dk_at dksX0_init_4 0 rfl rfl)
abbrev cX0_begin : ByteArray := prog_1_method_6_code
def yX0_begin : MethodName := ⟨RX0, "begin", "()V"⟩
def dkwX0_begin_1 : List UInt8 := [180, 0, 47, 1, 184, 0, 51, 42, 180, 0, 57, 1, 184, 0, 51, 177]
abbrev dktX0_begin_1 : List UInt8 := dkwX0_begin_1 ++ []
def dkwX0_begin_0 : List UInt8 := [42, 180, 0, 27, 42, 180, 0, 31, 182, 0, 34, 87, 42, 3, 181, 0, 40, 42, 3, 181, 0, 44, 42]
abbrev dktX0_begin_0 : List UInt8 := dkwX0_begin_0 ++ dktX0_begin_1
theorem dksX0_begin_0 : cX0_begin.data.toList.drop 0 = dktX0_begin_0 := by decide +kernel
theorem dksX0_begin_1 : cX0_begin.data.toList.drop 23 = dktX0_begin_1 := dk_seg dksX0_begin_0 23 rfl rfl
theorem dX0_begin_0 : decode cX0_begin 0 = .ok (.aload_n 0, 1) := dk_42 (dk_at dksX0_begin_0 0 rfl rfl)
theorem dX0_begin_1 : decode cX0_begin 1 = .ok (.getfield 27, 3) := dk_180 0 27 (dk_at dksX0_begin_0 1 rfl rfl)
theorem dX0_begin_4 : decode cX0_begin 4 = .ok (.aload_n 0, 1) := dk_42 (dk_at dksX0_begin_0 4 rfl rfl)
theorem dX0_begin_5 : decode cX0_begin 5 = .ok (.getfield 31, 3) := dk_180 0 31 (dk_at dksX0_begin_0 5 rfl rfl)
theorem dX0_begin_8 : decode cX0_begin 8 = .ok (.invokevirtual 34, 3) := dk_182 0 34 (dk_at dksX0_begin_0 8 rfl rfl)
theorem dX0_begin_11 : decode cX0_begin 11 = .ok (.pop, 1) := dk_87 (dk_at dksX0_begin_0 11 rfl rfl)
theorem dX0_begin_12 : decode cX0_begin 12 = .ok (.aload_n 0, 1) := dk_42 (dk_at dksX0_begin_0 12 rfl rfl)
theorem dX0_begin_13 : decode cX0_begin 13 = .ok (.iconst 0, 1) := dk_3 (dk_at dksX0_begin_0 13 rfl rfl)
theorem dX0_begin_14 : decode cX0_begin 14 = .ok (.putfield 40, 3) := dk_181 0 40 (dk_at dksX0_begin_0 14 rfl rfl)
theorem dX0_begin_17 : decode cX0_begin 17 = .ok (.aload_n 0, 1) := dk_42 (dk_at dksX0_begin_0 17 rfl rfl)
theorem dX0_begin_18 : decode cX0_begin 18 = .ok (.iconst 0, 1) := dk_3 (dk_at dksX0_begin_0 18 rfl rfl)
theorem dX0_begin_19 : decode cX0_begin 19 = .ok (.putfield 44, 3) := dk_181 0 44 (dk_at dksX0_begin_0 19 rfl rfl)
theorem dX0_begin_22 : decode cX0_begin 22 = .ok (.aload_n 0, 1) := dk_42 (dk_at dksX0_begin_0 22 rfl rfl)
theorem dX0_begin_23 : decode cX0_begin 23 = .ok (.getfield 47, 3) := dk_180 0 47 (dk_at dksX0_begin_1 0 rfl rfl)
theorem dX0_begin_26 : decode cX0_begin 26 = .ok (.aconst_null, 1) := dk_1 (dk_at dksX0_begin_1 3 rfl rfl)
theorem dX0_begin_27 : decode cX0_begin 27 = .ok (.invokestatic 51, 3) := dk_184 0 51 (dk_at dksX0_begin_1 4 rfl rfl)
theorem dX0_begin_30 : decode cX0_begin 30 = .ok (.aload_n 0, 1) := dk_42 (dk_at dksX0_begin_1 7 rfl rfl)
theorem dX0_begin_31 : decode cX0_begin 31 = .ok (.getfield 57, 3) := dk_180 0 57 (dk_at dksX0_begin_1 8 rfl rfl)
theorem dX0_begin_34 : decode cX0_begin 34 = .ok (.aconst_null, 1) := dk_1 (dk_at dksX0_begin_1 11 rfl rfl)
theorem dX0_begin_35 : decode cX0_begin 35 = .ok (.invokestatic 51, 3) := dk_184 0 51 (dk_at dksX0_begin_1 12 rfl rfl)
theorem dX0_begin_38 : decode cX0_begin 38 = .ok (.return_, 1) := dk_177 (dk_at dksX0_begin_1 15 rfl rfl)
abbrev cX0_write : ByteArray := prog_1_method_13_code
def yX0_write : MethodName := ⟨RX0, "write", "(I)I"⟩
def dkwX0_write_2 : List UInt8 := [42, 180, 0, 132, 172]
abbrev dktX0_write_2 : List UInt8 := dkwX0_write_2 ++ []
def dkwX0_write_1 : List UInt8 := [160, 0, 6, 16, 251, 172, 42, 180, 0, 120, 42, 89, 180, 0, 132, 90, 4, 96, 181, 0, 132, 27, 145, 84]
abbrev dktX0_write_1 : List UInt8 := dkwX0_write_1 ++ dktX0_write_2
def dkwX0_write_0 : List UInt8 := [27, 133, 9, 20, 0, 130, 184, 0, 126, 154, 0, 6, 16, 253, 172, 42, 180, 0, 132, 42, 180, 0, 120, 190]
abbrev dktX0_write_0 : List UInt8 := dkwX0_write_0 ++ dktX0_write_1
theorem dksX0_write_0 : cX0_write.data.toList.drop 0 = dktX0_write_0 := by decide +kernel
theorem dksX0_write_1 : cX0_write.data.toList.drop 24 = dktX0_write_1 := dk_seg dksX0_write_0 24 rfl rfl
theorem dksX0_write_2 : cX0_write.data.toList.drop 48 = dktX0_write_2 := dk_seg dksX0_write_1 24 rfl rfl
theorem dX0_write_0 : decode cX0_write 0 = .ok (.iload_n 1, 1) := dk_27 (dk_at dksX0_write_0 0 rfl rfl)
theorem dX0_write_1 : decode cX0_write 1 = .ok (.i2l, 1) := dk_133 (dk_at dksX0_write_0 1 rfl rfl)
theorem dX0_write_2 : decode cX0_write 2 = .ok (.lconst 0, 1) := dk_9 (dk_at dksX0_write_0 2 rfl rfl)
theorem dX0_write_3 : decode cX0_write 3 = .ok (.ldc2_w 130, 3) := dk_20 0 130 (dk_at dksX0_write_0 3 rfl rfl)
theorem dX0_write_6 : decode cX0_write 6 = .ok (.invokestatic 126, 3) := dk_184 0 126 (dk_at dksX0_write_0 6 rfl rfl)
theorem dX0_write_9 : decode cX0_write 9 = .ok (.ifCond .ne 6, 3) := dk_154 0 6 (dk_at dksX0_write_0 9 rfl rfl)
theorem dX0_write_12 : decode cX0_write 12 = .ok (.bipush (-3), 2) := dk_16 253 (dk_at dksX0_write_0 12 rfl rfl)
theorem dX0_write_14 : decode cX0_write 14 = .ok (.ireturn, 1) := dk_172 (dk_at dksX0_write_0 14 rfl rfl)
theorem dX0_write_15 : decode cX0_write 15 = .ok (.aload_n 0, 1) := dk_42 (dk_at dksX0_write_0 15 rfl rfl)
theorem dX0_write_16 : decode cX0_write 16 = .ok (.getfield 132, 3) := dk_180 0 132 (dk_at dksX0_write_0 16 rfl rfl)
theorem dX0_write_19 : decode cX0_write 19 = .ok (.aload_n 0, 1) := dk_42 (dk_at dksX0_write_0 19 rfl rfl)
theorem dX0_write_20 : decode cX0_write 20 = .ok (.getfield 120, 3) := dk_180 0 120 (dk_at dksX0_write_0 20 rfl rfl)
theorem dX0_write_23 : decode cX0_write 23 = .ok (.arraylength, 1) := dk_190 (dk_at dksX0_write_0 23 rfl rfl)
theorem dX0_write_24 : decode cX0_write 24 = .ok (.if_icmp .ne 6, 3) := dk_160 0 6 (dk_at dksX0_write_1 0 rfl rfl)
theorem dX0_write_27 : decode cX0_write 27 = .ok (.bipush (-5), 2) := dk_16 251 (dk_at dksX0_write_1 3 rfl rfl)
theorem dX0_write_29 : decode cX0_write 29 = .ok (.ireturn, 1) := dk_172 (dk_at dksX0_write_1 5 rfl rfl)
theorem dX0_write_30 : decode cX0_write 30 = .ok (.aload_n 0, 1) := dk_42 (dk_at dksX0_write_1 6 rfl rfl)
theorem dX0_write_31 : decode cX0_write 31 = .ok (.getfield 120, 3) := dk_180 0 120 (dk_at dksX0_write_1 7 rfl rfl)
theorem dX0_write_34 : decode cX0_write 34 = .ok (.aload_n 0, 1) := dk_42 (dk_at dksX0_write_1 10 rfl rfl)
theorem dX0_write_35 : decode cX0_write 35 = .ok (.dup, 1) := dk_89 (dk_at dksX0_write_1 11 rfl rfl)
theorem dX0_write_36 : decode cX0_write 36 = .ok (.getfield 132, 3) := dk_180 0 132 (dk_at dksX0_write_1 12 rfl rfl)
theorem dX0_write_39 : decode cX0_write 39 = .ok (.dup_x1, 1) := dk_90 (dk_at dksX0_write_1 15 rfl rfl)
theorem dX0_write_40 : decode cX0_write 40 = .ok (.iconst 1, 1) := dk_4 (dk_at dksX0_write_1 16 rfl rfl)
theorem dX0_write_41 : decode cX0_write 41 = .ok (.iadd, 1) := dk_96 (dk_at dksX0_write_1 17 rfl rfl)
theorem dX0_write_42 : decode cX0_write 42 = .ok (.putfield 132, 3) := dk_181 0 132 (dk_at dksX0_write_1 18 rfl rfl)
theorem dX0_write_45 : decode cX0_write 45 = .ok (.iload_n 1, 1) := dk_27 (dk_at dksX0_write_1 21 rfl rfl)
theorem dX0_write_46 : decode cX0_write 46 = .ok (.i2b, 1) := dk_145 (dk_at dksX0_write_1 22 rfl rfl)
theorem dX0_write_47 : decode cX0_write 47 = .ok (.bastore, 1) := dk_84 (dk_at dksX0_write_1 23 rfl rfl)
theorem dX0_write_48 : decode cX0_write 48 = .ok (.aload_n 0, 1) := dk_42 (dk_at dksX0_write_2 0 rfl rfl)
theorem dX0_write_49 : decode cX0_write 49 = .ok (.getfield 132, 3) := dk_180 0 132 (dk_at dksX0_write_2 1 rfl rfl)
theorem dX0_write_52 : decode cX0_write 52 = .ok (.ireturn, 1) := dk_172 (dk_at dksX0_write_2 4 rfl rfl)
abbrev cX0_in : ByteArray := prog_1_method_1_code
def yX0_in : MethodName := ⟨RX0, "in", "(JJJ)Z"⟩
def dkwX0_in_0 : List UInt8 := [30, 32, 148, 155, 0, 14, 30, 22, 4, 148, 157, 0, 7, 4, 167, 0, 4, 3, 172]
abbrev dktX0_in_0 : List UInt8 := dkwX0_in_0 ++ []
theorem dksX0_in_0 : cX0_in.data.toList.drop 0 = dktX0_in_0 := by decide +kernel
theorem dX0_in_0 : decode cX0_in 0 = .ok (.lload_n 0, 1) := dk_30 (dk_at dksX0_in_0 0 rfl rfl)
theorem dX0_in_1 : decode cX0_in 1 = .ok (.lload_n 2, 1) := dk_32 (dk_at dksX0_in_0 1 rfl rfl)
theorem dX0_in_2 : decode cX0_in 2 = .ok (.lcmp, 1) := dk_148 (dk_at dksX0_in_0 2 rfl rfl)
theorem dX0_in_3 : decode cX0_in 3 = .ok (.ifCond .lt 14, 3) := dk_155 0 14 (dk_at dksX0_in_0 3 rfl rfl)
theorem dX0_in_6 : decode cX0_in 6 = .ok (.lload_n 0, 1) := dk_30 (dk_at dksX0_in_0 6 rfl rfl)
theorem dX0_in_7 : decode cX0_in 7 = .ok (.lload 4, 2) := dk_22 4 (dk_at dksX0_in_0 7 rfl rfl)
theorem dX0_in_9 : decode cX0_in 9 = .ok (.lcmp, 1) := dk_148 (dk_at dksX0_in_0 9 rfl rfl)
theorem dX0_in_10 : decode cX0_in 10 = .ok (.ifCond .gt 7, 3) := dk_157 0 7 (dk_at dksX0_in_0 10 rfl rfl)
theorem dX0_in_13 : decode cX0_in 13 = .ok (.iconst 1, 1) := dk_4 (dk_at dksX0_in_0 13 rfl rfl)
theorem dX0_in_14 : decode cX0_in 14 = .ok (.goto 4, 3) := dk_167 0 4 (dk_at dksX0_in_0 14 rfl rfl)
theorem dX0_in_17 : decode cX0_in 17 = .ok (.iconst 0, 1) := dk_3 (dk_at dksX0_in_0 17 rfl rfl)
theorem dX0_in_18 : decode cX0_in 18 = .ok (.ireturn, 1) := dk_172 (dk_at dksX0_in_0 18 rfl rfl)
abbrev cX0_erase : ByteArray := prog_1_method_14_code
def yX0_erase : MethodName := ⟨RX0, "erase", "()I"⟩
def dkwX0_erase_0 : List UInt8 := [42, 180, 0, 132, 60, 42, 3, 181, 0, 132, 27, 172]
abbrev dktX0_erase_0 : List UInt8 := dkwX0_erase_0 ++ []
theorem dksX0_erase_0 : cX0_erase.data.toList.drop 0 = dktX0_erase_0 := by decide +kernel
theorem dX0_erase_0 : decode cX0_erase 0 = .ok (.aload_n 0, 1) := dk_42 (dk_at dksX0_erase_0 0 rfl rfl)
theorem dX0_erase_1 : decode cX0_erase 1 = .ok (.getfield 132, 3) := dk_180 0 132 (dk_at dksX0_erase_0 1 rfl rfl)
theorem dX0_erase_4 : decode cX0_erase 4 = .ok (.istore_n 1, 1) := dk_60 (dk_at dksX0_erase_0 4 rfl rfl)
theorem dX0_erase_5 : decode cX0_erase 5 = .ok (.aload_n 0, 1) := dk_42 (dk_at dksX0_erase_0 5 rfl rfl)
theorem dX0_erase_6 : decode cX0_erase 6 = .ok (.iconst 0, 1) := dk_3 (dk_at dksX0_erase_0 6 rfl rfl)
theorem dX0_erase_7 : decode cX0_erase 7 = .ok (.putfield 132, 3) := dk_181 0 132 (dk_at dksX0_erase_0 7 rfl rfl)
theorem dX0_erase_10 : decode cX0_erase 10 = .ok (.iload_n 1, 1) := dk_27 (dk_at dksX0_erase_0 10 rfl rfl)
theorem dX0_erase_11 : decode cX0_erase 11 = .ok (.ireturn, 1) := dk_172 (dk_at dksX0_erase_0 11 rfl rfl)
abbrev cX0_fault : ByteArray := prog_1_method_15_code
def yX0_fault : MethodName := ⟨RX0, "fault", "()I"⟩
def dkwX0_fault_0 : List UInt8 := [187, 0, 135, 89, 42, 183, 0, 137, 182, 0, 138, 87, 2, 172, 76, 43, 180, 0, 144, 172]
abbrev dktX0_fault_0 : List UInt8 := dkwX0_fault_0 ++ []
theorem dksX0_fault_0 : cX0_fault.data.toList.drop 0 = dktX0_fault_0 := by decide +kernel
theorem dX0_fault_0 : decode cX0_fault 0 = .ok (.new 135, 3) := dk_187 0 135 (dk_at dksX0_fault_0 0 rfl rfl)
theorem dX0_fault_3 : decode cX0_fault 3 = .ok (.dup, 1) := dk_89 (dk_at dksX0_fault_0 3 rfl rfl)
theorem dX0_fault_4 : decode cX0_fault 4 = .ok (.aload_n 0, 1) := dk_42 (dk_at dksX0_fault_0 4 rfl rfl)
theorem dX0_fault_5 : decode cX0_fault 5 = .ok (.invokespecial 137, 3) := dk_183 0 137 (dk_at dksX0_fault_0 5 rfl rfl)
theorem dX0_fault_8 : decode cX0_fault 8 = .ok (.invokevirtual 138, 3) := dk_182 0 138 (dk_at dksX0_fault_0 8 rfl rfl)
theorem dX0_fault_11 : decode cX0_fault 11 = .ok (.pop, 1) := dk_87 (dk_at dksX0_fault_0 11 rfl rfl)
theorem dX0_fault_12 : decode cX0_fault 12 = .ok (.iconst (-1), 1) := dk_2 (dk_at dksX0_fault_0 12 rfl rfl)
theorem dX0_fault_13 : decode cX0_fault 13 = .ok (.ireturn, 1) := dk_172 (dk_at dksX0_fault_0 13 rfl rfl)
theorem dX0_fault_14 : decode cX0_fault 14 = .ok (.astore_n 1, 1) := dk_76 (dk_at dksX0_fault_0 14 rfl rfl)
theorem dX0_fault_15 : decode cX0_fault 15 = .ok (.aload_n 1, 1) := dk_43 (dk_at dksX0_fault_0 15 rfl rfl)
theorem dX0_fault_16 : decode cX0_fault 16 = .ok (.getfield 144, 3) := dk_180 0 144 (dk_at dksX0_fault_0 16 rfl rfl)
theorem dX0_fault_19 : decode cX0_fault 19 = .ok (.ireturn, 1) := dk_172 (dk_at dksX0_fault_0 19 rfl rfl)
abbrev cX0_hedge : ByteArray := prog_1_method_16_code
def yX0_hedge : MethodName := ⟨RX0, "hedge", "()I"⟩
def dkwX0_hedge_3 : List UInt8 := [182, 0, 123, 45, 191]
abbrev dktX0_hedge_3 : List UInt8 := dkwX0_hedge_3 ++ []
def dkwX0_hedge_2 : List UInt8 := [180, 0, 146, 61, 42, 3, 181, 0, 132, 42, 182, 0, 123, 28, 172, 78, 42, 3, 181, 0, 132, 42]
abbrev dktX0_hedge_2 : List UInt8 := dkwX0_hedge_2 ++ dktX0_hedge_3
def dkwX0_hedge_1 : List UInt8 := [43, 180, 0, 146, 162, 0, 19, 42, 43, 180, 0, 148, 28, 50, 182, 0, 151, 132, 2, 1, 167, 255, 235, 43]
abbrev dktX0_hedge_1 : List UInt8 := dkwX0_hedge_1 ++ dktX0_hedge_2
def dkwX0_hedge_0 : List UInt8 := [187, 0, 135, 89, 42, 183, 0, 137, 76, 43, 182, 0, 138, 87, 167, 0, 7, 77, 16, 252, 172, 3, 61, 28]
abbrev dktX0_hedge_0 : List UInt8 := dkwX0_hedge_0 ++ dktX0_hedge_1
theorem dksX0_hedge_0 : cX0_hedge.data.toList.drop 0 = dktX0_hedge_0 := by decide +kernel
theorem dksX0_hedge_1 : cX0_hedge.data.toList.drop 24 = dktX0_hedge_1 := dk_seg dksX0_hedge_0 24 rfl rfl
theorem dksX0_hedge_2 : cX0_hedge.data.toList.drop 48 = dktX0_hedge_2 := dk_seg dksX0_hedge_1 24 rfl rfl
theorem dksX0_hedge_3 : cX0_hedge.data.toList.drop 70 = dktX0_hedge_3 := dk_seg dksX0_hedge_2 22 rfl rfl
theorem dX0_hedge_0 : decode cX0_hedge 0 = .ok (.new 135, 3) := dk_187 0 135 (dk_at dksX0_hedge_0 0 rfl rfl)
theorem dX0_hedge_3 : decode cX0_hedge 3 = .ok (.dup, 1) := dk_89 (dk_at dksX0_hedge_0 3 rfl rfl)
theorem dX0_hedge_4 : decode cX0_hedge 4 = .ok (.aload_n 0, 1) := dk_42 (dk_at dksX0_hedge_0 4 rfl rfl)
theorem dX0_hedge_5 : decode cX0_hedge 5 = .ok (.invokespecial 137, 3) := dk_183 0 137 (dk_at dksX0_hedge_0 5 rfl rfl)
theorem dX0_hedge_8 : decode cX0_hedge 8 = .ok (.astore_n 1, 1) := dk_76 (dk_at dksX0_hedge_0 8 rfl rfl)
theorem dX0_hedge_9 : decode cX0_hedge 9 = .ok (.aload_n 1, 1) := dk_43 (dk_at dksX0_hedge_0 9 rfl rfl)
theorem dX0_hedge_10 : decode cX0_hedge 10 = .ok (.invokevirtual 138, 3) := dk_182 0 138 (dk_at dksX0_hedge_0 10 rfl rfl)
theorem dX0_hedge_13 : decode cX0_hedge 13 = .ok (.pop, 1) := dk_87 (dk_at dksX0_hedge_0 13 rfl rfl)
theorem dX0_hedge_14 : decode cX0_hedge 14 = .ok (.goto 7, 3) := dk_167 0 7 (dk_at dksX0_hedge_0 14 rfl rfl)
theorem dX0_hedge_17 : decode cX0_hedge 17 = .ok (.astore_n 2, 1) := dk_77 (dk_at dksX0_hedge_0 17 rfl rfl)
theorem dX0_hedge_18 : decode cX0_hedge 18 = .ok (.bipush (-4), 2) := dk_16 252 (dk_at dksX0_hedge_0 18 rfl rfl)
theorem dX0_hedge_20 : decode cX0_hedge 20 = .ok (.ireturn, 1) := dk_172 (dk_at dksX0_hedge_0 20 rfl rfl)
theorem dX0_hedge_21 : decode cX0_hedge 21 = .ok (.iconst 0, 1) := dk_3 (dk_at dksX0_hedge_0 21 rfl rfl)
theorem dX0_hedge_22 : decode cX0_hedge 22 = .ok (.istore_n 2, 1) := dk_61 (dk_at dksX0_hedge_0 22 rfl rfl)
theorem dX0_hedge_23 : decode cX0_hedge 23 = .ok (.iload_n 2, 1) := dk_28 (dk_at dksX0_hedge_0 23 rfl rfl)
theorem dX0_hedge_24 : decode cX0_hedge 24 = .ok (.aload_n 1, 1) := dk_43 (dk_at dksX0_hedge_1 0 rfl rfl)
theorem dX0_hedge_25 : decode cX0_hedge 25 = .ok (.getfield 146, 3) := dk_180 0 146 (dk_at dksX0_hedge_1 1 rfl rfl)
theorem dX0_hedge_28 : decode cX0_hedge 28 = .ok (.if_icmp .ge 19, 3) := dk_162 0 19 (dk_at dksX0_hedge_1 4 rfl rfl)
theorem dX0_hedge_31 : decode cX0_hedge 31 = .ok (.aload_n 0, 1) := dk_42 (dk_at dksX0_hedge_1 7 rfl rfl)
theorem dX0_hedge_32 : decode cX0_hedge 32 = .ok (.aload_n 1, 1) := dk_43 (dk_at dksX0_hedge_1 8 rfl rfl)
theorem dX0_hedge_33 : decode cX0_hedge 33 = .ok (.getfield 148, 3) := dk_180 0 148 (dk_at dksX0_hedge_1 9 rfl rfl)
theorem dX0_hedge_36 : decode cX0_hedge 36 = .ok (.iload_n 2, 1) := dk_28 (dk_at dksX0_hedge_1 12 rfl rfl)
theorem dX0_hedge_37 : decode cX0_hedge 37 = .ok (.aaload, 1) := dk_50 (dk_at dksX0_hedge_1 13 rfl rfl)
theorem dX0_hedge_38 : decode cX0_hedge 38 = .ok (.invokevirtual 151, 3) := dk_182 0 151 (dk_at dksX0_hedge_1 14 rfl rfl)
theorem dX0_hedge_41 : decode cX0_hedge 41 = .ok (.iinc 2 1, 3) := dk_132 2 1 (dk_at dksX0_hedge_1 17 rfl rfl)
theorem dX0_hedge_44 : decode cX0_hedge 44 = .ok (.goto (-21), 3) := dk_167 255 235 (dk_at dksX0_hedge_1 20 rfl rfl)
theorem dX0_hedge_47 : decode cX0_hedge 47 = .ok (.aload_n 1, 1) := dk_43 (dk_at dksX0_hedge_1 23 rfl rfl)
theorem dX0_hedge_48 : decode cX0_hedge 48 = .ok (.getfield 146, 3) := dk_180 0 146 (dk_at dksX0_hedge_2 0 rfl rfl)
theorem dX0_hedge_51 : decode cX0_hedge 51 = .ok (.istore_n 2, 1) := dk_61 (dk_at dksX0_hedge_2 3 rfl rfl)
theorem dX0_hedge_52 : decode cX0_hedge 52 = .ok (.aload_n 0, 1) := dk_42 (dk_at dksX0_hedge_2 4 rfl rfl)
theorem dX0_hedge_53 : decode cX0_hedge 53 = .ok (.iconst 0, 1) := dk_3 (dk_at dksX0_hedge_2 5 rfl rfl)
theorem dX0_hedge_54 : decode cX0_hedge 54 = .ok (.putfield 132, 3) := dk_181 0 132 (dk_at dksX0_hedge_2 6 rfl rfl)
theorem dX0_hedge_57 : decode cX0_hedge 57 = .ok (.aload_n 0, 1) := dk_42 (dk_at dksX0_hedge_2 9 rfl rfl)
theorem dX0_hedge_58 : decode cX0_hedge 58 = .ok (.invokevirtual 123, 3) := dk_182 0 123 (dk_at dksX0_hedge_2 10 rfl rfl)
theorem dX0_hedge_61 : decode cX0_hedge 61 = .ok (.iload_n 2, 1) := dk_28 (dk_at dksX0_hedge_2 13 rfl rfl)
theorem dX0_hedge_62 : decode cX0_hedge 62 = .ok (.ireturn, 1) := dk_172 (dk_at dksX0_hedge_2 14 rfl rfl)
theorem dX0_hedge_63 : decode cX0_hedge 63 = .ok (.astore_n 3, 1) := dk_78 (dk_at dksX0_hedge_2 15 rfl rfl)
theorem dX0_hedge_64 : decode cX0_hedge 64 = .ok (.aload_n 0, 1) := dk_42 (dk_at dksX0_hedge_2 16 rfl rfl)
theorem dX0_hedge_65 : decode cX0_hedge 65 = .ok (.iconst 0, 1) := dk_3 (dk_at dksX0_hedge_2 17 rfl rfl)
theorem dX0_hedge_66 : decode cX0_hedge 66 = .ok (.putfield 132, 3) := dk_181 0 132 (dk_at dksX0_hedge_2 18 rfl rfl)
theorem dX0_hedge_69 : decode cX0_hedge 69 = .ok (.aload_n 0, 1) := dk_42 (dk_at dksX0_hedge_2 21 rfl rfl)
theorem dX0_hedge_70 : decode cX0_hedge 70 = .ok (.invokevirtual 123, 3) := dk_182 0 123 (dk_at dksX0_hedge_3 0 rfl rfl)
theorem dX0_hedge_73 : decode cX0_hedge 73 = .ok (.aload_n 3, 1) := dk_45 (dk_at dksX0_hedge_3 3 rfl rfl)
theorem dX0_hedge_74 : decode cX0_hedge 74 = .ok (.athrow, 1) := dk_191 (dk_at dksX0_hedge_3 4 rfl rfl)
abbrev cX0_tell : ByteArray := prog_1_method_8_code
def yX0_tell : MethodName := ⟨RX0, "tell", "([I)V"⟩
def dkwX0_tell_8 : List UInt8 := [46, 145, 84, 177]
abbrev dktX0_tell_8 : List UInt8 := dkwX0_tell_8 ++ []
def dkwX0_tell_7 : List UInt8 := [184, 0, 93, 83, 42, 180, 0, 31, 180, 0, 97, 42, 89, 180, 0, 73, 90, 4, 96, 181, 0, 73, 43, 4]
abbrev dktX0_tell_7 : List UInt8 := dkwX0_tell_7 ++ dktX0_tell_8
def dkwX0_tell_6 : List UInt8 := [86, 167, 0, 48, 42, 180, 0, 21, 42, 180, 0, 73, 43, 3, 46, 42, 180, 0, 73, 43, 5, 46]
abbrev dktX0_tell_6 : List UInt8 := dkwX0_tell_6 ++ dktX0_tell_7
def dkwX0_tell_5 : List UInt8 := [84, 167, 0, 72, 42, 180, 0, 31, 180, 0, 79, 43, 4, 46, 92, 53, 4, 43, 5, 46, 120, 147, 128, 147]
abbrev dktX0_tell_5 : List UInt8 := dkwX0_tell_5 ++ dktX0_tell_6
def dkwX0_tell_4 : List UInt8 := [180, 0, 31, 180, 0, 90, 42, 180, 0, 31, 89, 180, 0, 76, 90, 4, 96, 181, 0, 76, 43, 5, 46, 145]
abbrev dktX0_tell_4 : List UInt8 := dkwX0_tell_4 ++ dktX0_tell_5
def dkwX0_tell_3 : List UInt8 := [167, 0, 120, 42, 180, 0, 31, 180, 0, 86, 42, 180, 0, 31, 180, 0, 76, 43, 4, 46, 145, 84, 42]
abbrev dktX0_tell_3 : List UInt8 := dkwX0_tell_3 ++ dktX0_tell_4
def dkwX0_tell_2 : List UInt8 := [42, 3, 181, 0, 73, 42, 180, 0, 31, 3, 181, 0, 76, 42, 180, 0, 31, 180, 0, 79, 3, 184, 0, 83]
abbrev dktX0_tell_2 : List UInt8 := dkwX0_tell_2 ++ dktX0_tell_3
def dkwX0_tell_1 : List UInt8 := [170, 0, 0, 0, 124, 0, 0, 0, 5, 0, 0, 0, 7, 0, 0, 0, 25, 0, 0, 0, 52, 0, 0, 0, 100]
abbrev dktX0_tell_1 : List UInt8 := dkwX0_tell_1 ++ dktX0_tell_2
def dkwX0_tell_0 : List UInt8 := [43, 3, 46]
abbrev dktX0_tell_0 : List UInt8 := dkwX0_tell_0 ++ dktX0_tell_1
theorem dksX0_tell_0 : cX0_tell.data.toList.drop 0 = dktX0_tell_0 := by decide +kernel
theorem dksX0_tell_1 : cX0_tell.data.toList.drop 3 = dktX0_tell_1 := dk_seg dksX0_tell_0 3 rfl rfl
theorem dksX0_tell_2 : cX0_tell.data.toList.drop 28 = dktX0_tell_2 := dk_seg dksX0_tell_1 25 rfl rfl
theorem dksX0_tell_3 : cX0_tell.data.toList.drop 52 = dktX0_tell_3 := dk_seg dksX0_tell_2 24 rfl rfl
theorem dksX0_tell_4 : cX0_tell.data.toList.drop 75 = dktX0_tell_4 := dk_seg dksX0_tell_3 23 rfl rfl
theorem dksX0_tell_5 : cX0_tell.data.toList.drop 99 = dktX0_tell_5 := dk_seg dksX0_tell_4 24 rfl rfl
theorem dksX0_tell_6 : cX0_tell.data.toList.drop 123 = dktX0_tell_6 := dk_seg dksX0_tell_5 24 rfl rfl
theorem dksX0_tell_7 : cX0_tell.data.toList.drop 145 = dktX0_tell_7 := dk_seg dksX0_tell_6 22 rfl rfl
theorem dksX0_tell_8 : cX0_tell.data.toList.drop 169 = dktX0_tell_8 := dk_seg dksX0_tell_7 24 rfl rfl
theorem dX0_tell_0 : decode cX0_tell 0 = .ok (.aload_n 1, 1) := dk_43 (dk_at dksX0_tell_0 0 rfl rfl)
theorem dX0_tell_1 : decode cX0_tell 1 = .ok (.iconst 0, 1) := dk_3 (dk_at dksX0_tell_0 1 rfl rfl)
theorem dX0_tell_2 : decode cX0_tell 2 = .ok (.iaload, 1) := dk_46 (dk_at dksX0_tell_0 2 rfl rfl)
theorem dX0_tell_3 : decode cX0_tell 3 = .ok (.tableswitch 124 5 7 #[25, 52, 100], 25) := by decide +kernel
theorem dX0_tell_28 : decode cX0_tell 28 = .ok (.aload_n 0, 1) := dk_42 (dk_at dksX0_tell_2 0 rfl rfl)
theorem dX0_tell_29 : decode cX0_tell 29 = .ok (.iconst 0, 1) := dk_3 (dk_at dksX0_tell_2 1 rfl rfl)
theorem dX0_tell_30 : decode cX0_tell 30 = .ok (.putfield 73, 3) := dk_181 0 73 (dk_at dksX0_tell_2 2 rfl rfl)
theorem dX0_tell_33 : decode cX0_tell 33 = .ok (.aload_n 0, 1) := dk_42 (dk_at dksX0_tell_2 5 rfl rfl)
theorem dX0_tell_34 : decode cX0_tell 34 = .ok (.getfield 31, 3) := dk_180 0 31 (dk_at dksX0_tell_2 6 rfl rfl)
theorem dX0_tell_37 : decode cX0_tell 37 = .ok (.iconst 0, 1) := dk_3 (dk_at dksX0_tell_2 9 rfl rfl)
theorem dX0_tell_38 : decode cX0_tell 38 = .ok (.putfield 76, 3) := dk_181 0 76 (dk_at dksX0_tell_2 10 rfl rfl)
theorem dX0_tell_41 : decode cX0_tell 41 = .ok (.aload_n 0, 1) := dk_42 (dk_at dksX0_tell_2 13 rfl rfl)
theorem dX0_tell_42 : decode cX0_tell 42 = .ok (.getfield 31, 3) := dk_180 0 31 (dk_at dksX0_tell_2 14 rfl rfl)
theorem dX0_tell_45 : decode cX0_tell 45 = .ok (.getfield 79, 3) := dk_180 0 79 (dk_at dksX0_tell_2 17 rfl rfl)
theorem dX0_tell_48 : decode cX0_tell 48 = .ok (.iconst 0, 1) := dk_3 (dk_at dksX0_tell_2 20 rfl rfl)
theorem dX0_tell_49 : decode cX0_tell 49 = .ok (.invokestatic 83, 3) := dk_184 0 83 (dk_at dksX0_tell_2 21 rfl rfl)
theorem dX0_tell_52 : decode cX0_tell 52 = .ok (.goto 120, 3) := dk_167 0 120 (dk_at dksX0_tell_3 0 rfl rfl)
theorem dX0_tell_55 : decode cX0_tell 55 = .ok (.aload_n 0, 1) := dk_42 (dk_at dksX0_tell_3 3 rfl rfl)
theorem dX0_tell_56 : decode cX0_tell 56 = .ok (.getfield 31, 3) := dk_180 0 31 (dk_at dksX0_tell_3 4 rfl rfl)
theorem dX0_tell_59 : decode cX0_tell 59 = .ok (.getfield 86, 3) := dk_180 0 86 (dk_at dksX0_tell_3 7 rfl rfl)
theorem dX0_tell_62 : decode cX0_tell 62 = .ok (.aload_n 0, 1) := dk_42 (dk_at dksX0_tell_3 10 rfl rfl)
theorem dX0_tell_63 : decode cX0_tell 63 = .ok (.getfield 31, 3) := dk_180 0 31 (dk_at dksX0_tell_3 11 rfl rfl)
theorem dX0_tell_66 : decode cX0_tell 66 = .ok (.getfield 76, 3) := dk_180 0 76 (dk_at dksX0_tell_3 14 rfl rfl)
theorem dX0_tell_69 : decode cX0_tell 69 = .ok (.aload_n 1, 1) := dk_43 (dk_at dksX0_tell_3 17 rfl rfl)
theorem dX0_tell_70 : decode cX0_tell 70 = .ok (.iconst 1, 1) := dk_4 (dk_at dksX0_tell_3 18 rfl rfl)
theorem dX0_tell_71 : decode cX0_tell 71 = .ok (.iaload, 1) := dk_46 (dk_at dksX0_tell_3 19 rfl rfl)
theorem dX0_tell_72 : decode cX0_tell 72 = .ok (.i2b, 1) := dk_145 (dk_at dksX0_tell_3 20 rfl rfl)
theorem dX0_tell_73 : decode cX0_tell 73 = .ok (.bastore, 1) := dk_84 (dk_at dksX0_tell_3 21 rfl rfl)
theorem dX0_tell_74 : decode cX0_tell 74 = .ok (.aload_n 0, 1) := dk_42 (dk_at dksX0_tell_3 22 rfl rfl)
theorem dX0_tell_75 : decode cX0_tell 75 = .ok (.getfield 31, 3) := dk_180 0 31 (dk_at dksX0_tell_4 0 rfl rfl)
theorem dX0_tell_78 : decode cX0_tell 78 = .ok (.getfield 90, 3) := dk_180 0 90 (dk_at dksX0_tell_4 3 rfl rfl)
theorem dX0_tell_81 : decode cX0_tell 81 = .ok (.aload_n 0, 1) := dk_42 (dk_at dksX0_tell_4 6 rfl rfl)
theorem dX0_tell_82 : decode cX0_tell 82 = .ok (.getfield 31, 3) := dk_180 0 31 (dk_at dksX0_tell_4 7 rfl rfl)
theorem dX0_tell_85 : decode cX0_tell 85 = .ok (.dup, 1) := dk_89 (dk_at dksX0_tell_4 10 rfl rfl)
theorem dX0_tell_86 : decode cX0_tell 86 = .ok (.getfield 76, 3) := dk_180 0 76 (dk_at dksX0_tell_4 11 rfl rfl)
theorem dX0_tell_89 : decode cX0_tell 89 = .ok (.dup_x1, 1) := dk_90 (dk_at dksX0_tell_4 14 rfl rfl)
theorem dX0_tell_90 : decode cX0_tell 90 = .ok (.iconst 1, 1) := dk_4 (dk_at dksX0_tell_4 15 rfl rfl)
theorem dX0_tell_91 : decode cX0_tell 91 = .ok (.iadd, 1) := dk_96 (dk_at dksX0_tell_4 16 rfl rfl)
theorem dX0_tell_92 : decode cX0_tell 92 = .ok (.putfield 76, 3) := dk_181 0 76 (dk_at dksX0_tell_4 17 rfl rfl)
theorem dX0_tell_95 : decode cX0_tell 95 = .ok (.aload_n 1, 1) := dk_43 (dk_at dksX0_tell_4 20 rfl rfl)
theorem dX0_tell_96 : decode cX0_tell 96 = .ok (.iconst 2, 1) := dk_5 (dk_at dksX0_tell_4 21 rfl rfl)
theorem dX0_tell_97 : decode cX0_tell 97 = .ok (.iaload, 1) := dk_46 (dk_at dksX0_tell_4 22 rfl rfl)
theorem dX0_tell_98 : decode cX0_tell 98 = .ok (.i2b, 1) := dk_145 (dk_at dksX0_tell_4 23 rfl rfl)
theorem dX0_tell_99 : decode cX0_tell 99 = .ok (.bastore, 1) := dk_84 (dk_at dksX0_tell_5 0 rfl rfl)
theorem dX0_tell_100 : decode cX0_tell 100 = .ok (.goto 72, 3) := dk_167 0 72 (dk_at dksX0_tell_5 1 rfl rfl)
theorem dX0_tell_103 : decode cX0_tell 103 = .ok (.aload_n 0, 1) := dk_42 (dk_at dksX0_tell_5 4 rfl rfl)
theorem dX0_tell_104 : decode cX0_tell 104 = .ok (.getfield 31, 3) := dk_180 0 31 (dk_at dksX0_tell_5 5 rfl rfl)
theorem dX0_tell_107 : decode cX0_tell 107 = .ok (.getfield 79, 3) := dk_180 0 79 (dk_at dksX0_tell_5 8 rfl rfl)
theorem dX0_tell_110 : decode cX0_tell 110 = .ok (.aload_n 1, 1) := dk_43 (dk_at dksX0_tell_5 11 rfl rfl)
theorem dX0_tell_111 : decode cX0_tell 111 = .ok (.iconst 1, 1) := dk_4 (dk_at dksX0_tell_5 12 rfl rfl)
theorem dX0_tell_112 : decode cX0_tell 112 = .ok (.iaload, 1) := dk_46 (dk_at dksX0_tell_5 13 rfl rfl)
theorem dX0_tell_113 : decode cX0_tell 113 = .ok (.dup2, 1) := dk_92 (dk_at dksX0_tell_5 14 rfl rfl)
theorem dX0_tell_114 : decode cX0_tell 114 = .ok (.saload, 1) := dk_53 (dk_at dksX0_tell_5 15 rfl rfl)
theorem dX0_tell_115 : decode cX0_tell 115 = .ok (.iconst 1, 1) := dk_4 (dk_at dksX0_tell_5 16 rfl rfl)
theorem dX0_tell_116 : decode cX0_tell 116 = .ok (.aload_n 1, 1) := dk_43 (dk_at dksX0_tell_5 17 rfl rfl)
theorem dX0_tell_117 : decode cX0_tell 117 = .ok (.iconst 2, 1) := dk_5 (dk_at dksX0_tell_5 18 rfl rfl)
theorem dX0_tell_118 : decode cX0_tell 118 = .ok (.iaload, 1) := dk_46 (dk_at dksX0_tell_5 19 rfl rfl)
theorem dX0_tell_119 : decode cX0_tell 119 = .ok (.ishl, 1) := dk_120 (dk_at dksX0_tell_5 20 rfl rfl)
theorem dX0_tell_120 : decode cX0_tell 120 = .ok (.i2s, 1) := dk_147 (dk_at dksX0_tell_5 21 rfl rfl)
theorem dX0_tell_121 : decode cX0_tell 121 = .ok (.ior, 1) := dk_128 (dk_at dksX0_tell_5 22 rfl rfl)
theorem dX0_tell_122 : decode cX0_tell 122 = .ok (.i2s, 1) := dk_147 (dk_at dksX0_tell_5 23 rfl rfl)
theorem dX0_tell_123 : decode cX0_tell 123 = .ok (.sastore, 1) := dk_86 (dk_at dksX0_tell_6 0 rfl rfl)
theorem dX0_tell_124 : decode cX0_tell 124 = .ok (.goto 48, 3) := dk_167 0 48 (dk_at dksX0_tell_6 1 rfl rfl)
theorem dX0_tell_127 : decode cX0_tell 127 = .ok (.aload_n 0, 1) := dk_42 (dk_at dksX0_tell_6 4 rfl rfl)
theorem dX0_tell_128 : decode cX0_tell 128 = .ok (.getfield 21, 3) := dk_180 0 21 (dk_at dksX0_tell_6 5 rfl rfl)
theorem dX0_tell_131 : decode cX0_tell 131 = .ok (.aload_n 0, 1) := dk_42 (dk_at dksX0_tell_6 8 rfl rfl)
theorem dX0_tell_132 : decode cX0_tell 132 = .ok (.getfield 73, 3) := dk_180 0 73 (dk_at dksX0_tell_6 9 rfl rfl)
theorem dX0_tell_135 : decode cX0_tell 135 = .ok (.aload_n 1, 1) := dk_43 (dk_at dksX0_tell_6 12 rfl rfl)
theorem dX0_tell_136 : decode cX0_tell 136 = .ok (.iconst 0, 1) := dk_3 (dk_at dksX0_tell_6 13 rfl rfl)
theorem dX0_tell_137 : decode cX0_tell 137 = .ok (.iaload, 1) := dk_46 (dk_at dksX0_tell_6 14 rfl rfl)
theorem dX0_tell_138 : decode cX0_tell 138 = .ok (.aload_n 0, 1) := dk_42 (dk_at dksX0_tell_6 15 rfl rfl)
theorem dX0_tell_139 : decode cX0_tell 139 = .ok (.getfield 73, 3) := dk_180 0 73 (dk_at dksX0_tell_6 16 rfl rfl)
theorem dX0_tell_142 : decode cX0_tell 142 = .ok (.aload_n 1, 1) := dk_43 (dk_at dksX0_tell_6 19 rfl rfl)
theorem dX0_tell_143 : decode cX0_tell 143 = .ok (.iconst 2, 1) := dk_5 (dk_at dksX0_tell_6 20 rfl rfl)
theorem dX0_tell_144 : decode cX0_tell 144 = .ok (.iaload, 1) := dk_46 (dk_at dksX0_tell_6 21 rfl rfl)
theorem dX0_tell_145 : decode cX0_tell 145 = .ok (.invokestatic 93, 3) := dk_184 0 93 (dk_at dksX0_tell_7 0 rfl rfl)
theorem dX0_tell_148 : decode cX0_tell 148 = .ok (.aastore, 1) := dk_83 (dk_at dksX0_tell_7 3 rfl rfl)
theorem dX0_tell_149 : decode cX0_tell 149 = .ok (.aload_n 0, 1) := dk_42 (dk_at dksX0_tell_7 4 rfl rfl)
theorem dX0_tell_150 : decode cX0_tell 150 = .ok (.getfield 31, 3) := dk_180 0 31 (dk_at dksX0_tell_7 5 rfl rfl)
theorem dX0_tell_153 : decode cX0_tell 153 = .ok (.getfield 97, 3) := dk_180 0 97 (dk_at dksX0_tell_7 8 rfl rfl)
theorem dX0_tell_156 : decode cX0_tell 156 = .ok (.aload_n 0, 1) := dk_42 (dk_at dksX0_tell_7 11 rfl rfl)
theorem dX0_tell_157 : decode cX0_tell 157 = .ok (.dup, 1) := dk_89 (dk_at dksX0_tell_7 12 rfl rfl)
theorem dX0_tell_158 : decode cX0_tell 158 = .ok (.getfield 73, 3) := dk_180 0 73 (dk_at dksX0_tell_7 13 rfl rfl)
theorem dX0_tell_161 : decode cX0_tell 161 = .ok (.dup_x1, 1) := dk_90 (dk_at dksX0_tell_7 16 rfl rfl)
theorem dX0_tell_162 : decode cX0_tell 162 = .ok (.iconst 1, 1) := dk_4 (dk_at dksX0_tell_7 17 rfl rfl)
theorem dX0_tell_163 : decode cX0_tell 163 = .ok (.iadd, 1) := dk_96 (dk_at dksX0_tell_7 18 rfl rfl)
theorem dX0_tell_164 : decode cX0_tell 164 = .ok (.putfield 73, 3) := dk_181 0 73 (dk_at dksX0_tell_7 19 rfl rfl)
theorem dX0_tell_167 : decode cX0_tell 167 = .ok (.aload_n 1, 1) := dk_43 (dk_at dksX0_tell_7 22 rfl rfl)
theorem dX0_tell_168 : decode cX0_tell 168 = .ok (.iconst 1, 1) := dk_4 (dk_at dksX0_tell_7 23 rfl rfl)
theorem dX0_tell_169 : decode cX0_tell 169 = .ok (.iaload, 1) := dk_46 (dk_at dksX0_tell_8 0 rfl rfl)
theorem dX0_tell_170 : decode cX0_tell 170 = .ok (.i2b, 1) := dk_145 (dk_at dksX0_tell_8 1 rfl rfl)
theorem dX0_tell_171 : decode cX0_tell 171 = .ok (.bastore, 1) := dk_84 (dk_at dksX0_tell_8 2 rfl rfl)
theorem dX0_tell_172 : decode cX0_tell 172 = .ok (.return_, 1) := dk_177 (dk_at dksX0_tell_8 3 rfl rfl)
abbrev cX0_called : ByteArray := prog_1_method_3_code
def yX0_called : MethodName := ⟨RX0, "called", "(III)LNutCaches$Squirrel;"⟩
def dkwX0_called_4 : List UInt8 := [183, 0, 18, 176]
abbrev dktX0_called_4 : List UInt8 := dkwX0_called_4 ++ []
def dkwX0_called_3 : List UInt8 := [27, 28, 183, 0, 12, 176, 187, 0, 13, 89, 27, 28, 183, 0, 15, 176, 187, 0, 16, 89, 27, 28]
abbrev dktX0_called_3 : List UInt8 := dkwX0_called_3 ++ dktX0_called_4
def dkwX0_called_2 : List UInt8 := [187, 0, 1, 89, 27, 28, 183, 0, 3, 176, 187, 0, 7, 89, 27, 28, 183, 0, 9, 176, 187, 0, 10, 89]
abbrev dktX0_called_2 : List UInt8 := dkwX0_called_2 ++ dktX0_called_3
def dkwX0_called_1 : List UInt8 := [170, 0, 0, 0, 0, 0, 71, 0, 0, 0, 0, 0, 0, 0, 3, 0, 0, 0, 31, 0, 0, 0, 41, 0, 0, 0, 51, 0, 0, 0, 61]
abbrev dktX0_called_1 : List UInt8 := dkwX0_called_1 ++ dktX0_called_2
def dkwX0_called_0 : List UInt8 := [26]
abbrev dktX0_called_0 : List UInt8 := dkwX0_called_0 ++ dktX0_called_1
theorem dksX0_called_0 : cX0_called.data.toList.drop 0 = dktX0_called_0 := by decide +kernel
theorem dksX0_called_1 : cX0_called.data.toList.drop 1 = dktX0_called_1 := dk_seg dksX0_called_0 1 rfl rfl
theorem dksX0_called_2 : cX0_called.data.toList.drop 32 = dktX0_called_2 := dk_seg dksX0_called_1 31 rfl rfl
theorem dksX0_called_3 : cX0_called.data.toList.drop 56 = dktX0_called_3 := dk_seg dksX0_called_2 24 rfl rfl
theorem dksX0_called_4 : cX0_called.data.toList.drop 78 = dktX0_called_4 := dk_seg dksX0_called_3 22 rfl rfl
theorem dX0_called_0 : decode cX0_called 0 = .ok (.iload_n 0, 1) := dk_26 (dk_at dksX0_called_0 0 rfl rfl)
theorem dX0_called_1 : decode cX0_called 1 = .ok (.tableswitch 71 0 3 #[31, 41, 51, 61], 31) := by decide +kernel
theorem dX0_called_32 : decode cX0_called 32 = .ok (.new 1, 3) := dk_187 0 1 (dk_at dksX0_called_2 0 rfl rfl)
theorem dX0_called_35 : decode cX0_called 35 = .ok (.dup, 1) := dk_89 (dk_at dksX0_called_2 3 rfl rfl)
theorem dX0_called_36 : decode cX0_called 36 = .ok (.iload_n 1, 1) := dk_27 (dk_at dksX0_called_2 4 rfl rfl)
theorem dX0_called_37 : decode cX0_called 37 = .ok (.iload_n 2, 1) := dk_28 (dk_at dksX0_called_2 5 rfl rfl)
theorem dX0_called_38 : decode cX0_called 38 = .ok (.invokespecial 3, 3) := dk_183 0 3 (dk_at dksX0_called_2 6 rfl rfl)
theorem dX0_called_41 : decode cX0_called 41 = .ok (.areturn, 1) := dk_176 (dk_at dksX0_called_2 9 rfl rfl)
theorem dX0_called_42 : decode cX0_called 42 = .ok (.new 7, 3) := dk_187 0 7 (dk_at dksX0_called_2 10 rfl rfl)
theorem dX0_called_45 : decode cX0_called 45 = .ok (.dup, 1) := dk_89 (dk_at dksX0_called_2 13 rfl rfl)
theorem dX0_called_46 : decode cX0_called 46 = .ok (.iload_n 1, 1) := dk_27 (dk_at dksX0_called_2 14 rfl rfl)
theorem dX0_called_47 : decode cX0_called 47 = .ok (.iload_n 2, 1) := dk_28 (dk_at dksX0_called_2 15 rfl rfl)
theorem dX0_called_48 : decode cX0_called 48 = .ok (.invokespecial 9, 3) := dk_183 0 9 (dk_at dksX0_called_2 16 rfl rfl)
theorem dX0_called_51 : decode cX0_called 51 = .ok (.areturn, 1) := dk_176 (dk_at dksX0_called_2 19 rfl rfl)
theorem dX0_called_52 : decode cX0_called 52 = .ok (.new 10, 3) := dk_187 0 10 (dk_at dksX0_called_2 20 rfl rfl)
theorem dX0_called_55 : decode cX0_called 55 = .ok (.dup, 1) := dk_89 (dk_at dksX0_called_2 23 rfl rfl)
theorem dX0_called_56 : decode cX0_called 56 = .ok (.iload_n 1, 1) := dk_27 (dk_at dksX0_called_3 0 rfl rfl)
theorem dX0_called_57 : decode cX0_called 57 = .ok (.iload_n 2, 1) := dk_28 (dk_at dksX0_called_3 1 rfl rfl)
theorem dX0_called_58 : decode cX0_called 58 = .ok (.invokespecial 12, 3) := dk_183 0 12 (dk_at dksX0_called_3 2 rfl rfl)
theorem dX0_called_61 : decode cX0_called 61 = .ok (.areturn, 1) := dk_176 (dk_at dksX0_called_3 5 rfl rfl)
theorem dX0_called_62 : decode cX0_called 62 = .ok (.new 13, 3) := dk_187 0 13 (dk_at dksX0_called_3 6 rfl rfl)
theorem dX0_called_65 : decode cX0_called 65 = .ok (.dup, 1) := dk_89 (dk_at dksX0_called_3 9 rfl rfl)
theorem dX0_called_66 : decode cX0_called 66 = .ok (.iload_n 1, 1) := dk_27 (dk_at dksX0_called_3 10 rfl rfl)
theorem dX0_called_67 : decode cX0_called 67 = .ok (.iload_n 2, 1) := dk_28 (dk_at dksX0_called_3 11 rfl rfl)
theorem dX0_called_68 : decode cX0_called 68 = .ok (.invokespecial 15, 3) := dk_183 0 15 (dk_at dksX0_called_3 12 rfl rfl)
theorem dX0_called_71 : decode cX0_called 71 = .ok (.areturn, 1) := dk_176 (dk_at dksX0_called_3 15 rfl rfl)
theorem dX0_called_72 : decode cX0_called 72 = .ok (.new 16, 3) := dk_187 0 16 (dk_at dksX0_called_3 16 rfl rfl)
theorem dX0_called_75 : decode cX0_called 75 = .ok (.dup, 1) := dk_89 (dk_at dksX0_called_3 19 rfl rfl)
theorem dX0_called_76 : decode cX0_called 76 = .ok (.iload_n 1, 1) := dk_27 (dk_at dksX0_called_3 20 rfl rfl)
theorem dX0_called_77 : decode cX0_called 77 = .ok (.iload_n 2, 1) := dk_28 (dk_at dksX0_called_3 21 rfl rfl)
theorem dX0_called_78 : decode cX0_called 78 = .ok (.invokespecial 18, 3) := dk_183 0 18 (dk_at dksX0_called_4 0 rfl rfl)
theorem dX0_called_81 : decode cX0_called 81 = .ok (.areturn, 1) := dk_176 (dk_at dksX0_called_4 3 rfl rfl)
abbrev cX0_pit : ByteArray := prog_1_method_18_code
def yX0_pit : MethodName := ⟨RX0, "pit", "(II)I"⟩
def dkwX0_pit_2 : List UInt8 := [160, 0, 11, 42, 27, 182, 0, 163, 167, 0, 5, 16, 253, 172]
abbrev dktX0_pit_2 : List UInt8 := dkwX0_pit_2 ++ []
def dkwX0_pit_1 : List UInt8 := [167, 0, 35, 28, 4, 160, 0, 15, 42, 180, 0, 27, 180, 0, 90, 27, 51, 167, 0, 18, 28, 5]
abbrev dktX0_pit_1 : List UInt8 := dkwX0_pit_1 ++ dktX0_pit_2
def dkwX0_pit_0 : List UInt8 := [42, 27, 182, 0, 159, 154, 0, 6, 16, 254, 172, 28, 154, 0, 15, 42, 180, 0, 27, 180, 0, 86, 27, 51]
abbrev dktX0_pit_0 : List UInt8 := dkwX0_pit_0 ++ dktX0_pit_1
theorem dksX0_pit_0 : cX0_pit.data.toList.drop 0 = dktX0_pit_0 := by decide +kernel
theorem dksX0_pit_1 : cX0_pit.data.toList.drop 24 = dktX0_pit_1 := dk_seg dksX0_pit_0 24 rfl rfl
theorem dksX0_pit_2 : cX0_pit.data.toList.drop 46 = dktX0_pit_2 := dk_seg dksX0_pit_1 22 rfl rfl
theorem dX0_pit_0 : decode cX0_pit 0 = .ok (.aload_n 0, 1) := dk_42 (dk_at dksX0_pit_0 0 rfl rfl)
theorem dX0_pit_1 : decode cX0_pit 1 = .ok (.iload_n 1, 1) := dk_27 (dk_at dksX0_pit_0 1 rfl rfl)
theorem dX0_pit_2 : decode cX0_pit 2 = .ok (.invokevirtual 159, 3) := dk_182 0 159 (dk_at dksX0_pit_0 2 rfl rfl)
theorem dX0_pit_5 : decode cX0_pit 5 = .ok (.ifCond .ne 6, 3) := dk_154 0 6 (dk_at dksX0_pit_0 5 rfl rfl)
theorem dX0_pit_8 : decode cX0_pit 8 = .ok (.bipush (-2), 2) := dk_16 254 (dk_at dksX0_pit_0 8 rfl rfl)
theorem dX0_pit_10 : decode cX0_pit 10 = .ok (.ireturn, 1) := dk_172 (dk_at dksX0_pit_0 10 rfl rfl)
theorem dX0_pit_11 : decode cX0_pit 11 = .ok (.iload_n 2, 1) := dk_28 (dk_at dksX0_pit_0 11 rfl rfl)
theorem dX0_pit_12 : decode cX0_pit 12 = .ok (.ifCond .ne 15, 3) := dk_154 0 15 (dk_at dksX0_pit_0 12 rfl rfl)
theorem dX0_pit_15 : decode cX0_pit 15 = .ok (.aload_n 0, 1) := dk_42 (dk_at dksX0_pit_0 15 rfl rfl)
theorem dX0_pit_16 : decode cX0_pit 16 = .ok (.getfield 27, 3) := dk_180 0 27 (dk_at dksX0_pit_0 16 rfl rfl)
theorem dX0_pit_19 : decode cX0_pit 19 = .ok (.getfield 86, 3) := dk_180 0 86 (dk_at dksX0_pit_0 19 rfl rfl)
theorem dX0_pit_22 : decode cX0_pit 22 = .ok (.iload_n 1, 1) := dk_27 (dk_at dksX0_pit_0 22 rfl rfl)
theorem dX0_pit_23 : decode cX0_pit 23 = .ok (.baload, 1) := dk_51 (dk_at dksX0_pit_0 23 rfl rfl)
theorem dX0_pit_24 : decode cX0_pit 24 = .ok (.goto 35, 3) := dk_167 0 35 (dk_at dksX0_pit_1 0 rfl rfl)
theorem dX0_pit_27 : decode cX0_pit 27 = .ok (.iload_n 2, 1) := dk_28 (dk_at dksX0_pit_1 3 rfl rfl)
theorem dX0_pit_28 : decode cX0_pit 28 = .ok (.iconst 1, 1) := dk_4 (dk_at dksX0_pit_1 4 rfl rfl)
theorem dX0_pit_29 : decode cX0_pit 29 = .ok (.if_icmp .ne 15, 3) := dk_160 0 15 (dk_at dksX0_pit_1 5 rfl rfl)
theorem dX0_pit_32 : decode cX0_pit 32 = .ok (.aload_n 0, 1) := dk_42 (dk_at dksX0_pit_1 8 rfl rfl)
theorem dX0_pit_33 : decode cX0_pit 33 = .ok (.getfield 27, 3) := dk_180 0 27 (dk_at dksX0_pit_1 9 rfl rfl)
theorem dX0_pit_36 : decode cX0_pit 36 = .ok (.getfield 90, 3) := dk_180 0 90 (dk_at dksX0_pit_1 12 rfl rfl)
theorem dX0_pit_39 : decode cX0_pit 39 = .ok (.iload_n 1, 1) := dk_27 (dk_at dksX0_pit_1 15 rfl rfl)
theorem dX0_pit_40 : decode cX0_pit 40 = .ok (.baload, 1) := dk_51 (dk_at dksX0_pit_1 16 rfl rfl)
theorem dX0_pit_41 : decode cX0_pit 41 = .ok (.goto 18, 3) := dk_167 0 18 (dk_at dksX0_pit_1 17 rfl rfl)
theorem dX0_pit_44 : decode cX0_pit 44 = .ok (.iload_n 2, 1) := dk_28 (dk_at dksX0_pit_1 20 rfl rfl)
theorem dX0_pit_45 : decode cX0_pit 45 = .ok (.iconst 2, 1) := dk_5 (dk_at dksX0_pit_1 21 rfl rfl)
theorem dX0_pit_46 : decode cX0_pit 46 = .ok (.if_icmp .ne 11, 3) := dk_160 0 11 (dk_at dksX0_pit_2 0 rfl rfl)
theorem dX0_pit_49 : decode cX0_pit 49 = .ok (.aload_n 0, 1) := dk_42 (dk_at dksX0_pit_2 3 rfl rfl)
theorem dX0_pit_50 : decode cX0_pit 50 = .ok (.iload_n 1, 1) := dk_27 (dk_at dksX0_pit_2 4 rfl rfl)
theorem dX0_pit_51 : decode cX0_pit 51 = .ok (.invokevirtual 163, 3) := dk_182 0 163 (dk_at dksX0_pit_2 5 rfl rfl)
theorem dX0_pit_54 : decode cX0_pit 54 = .ok (.goto 5, 3) := dk_167 0 5 (dk_at dksX0_pit_2 8 rfl rfl)
theorem dX0_pit_57 : decode cX0_pit 57 = .ok (.bipush (-3), 2) := dk_16 253 (dk_at dksX0_pit_2 11 rfl rfl)
theorem dX0_pit_59 : decode cX0_pit 59 = .ok (.ireturn, 1) := dk_172 (dk_at dksX0_pit_2 13 rfl rfl)
abbrev cX0_isPit : ByteArray := prog_1_method_11_code
def yX0_isPit : MethodName := ⟨RX0, "isPit", "(I)Z"⟩
def dkwX0_isPit_0 : List UInt8 := [27, 133, 9, 42, 180, 0, 27, 180, 0, 76, 4, 100, 133, 184, 0, 126, 172]
abbrev dktX0_isPit_0 : List UInt8 := dkwX0_isPit_0 ++ []
theorem dksX0_isPit_0 : cX0_isPit.data.toList.drop 0 = dktX0_isPit_0 := by decide +kernel
theorem dX0_isPit_0 : decode cX0_isPit 0 = .ok (.iload_n 1, 1) := dk_27 (dk_at dksX0_isPit_0 0 rfl rfl)
theorem dX0_isPit_1 : decode cX0_isPit 1 = .ok (.i2l, 1) := dk_133 (dk_at dksX0_isPit_0 1 rfl rfl)
theorem dX0_isPit_2 : decode cX0_isPit 2 = .ok (.lconst 0, 1) := dk_9 (dk_at dksX0_isPit_0 2 rfl rfl)
theorem dX0_isPit_3 : decode cX0_isPit 3 = .ok (.aload_n 0, 1) := dk_42 (dk_at dksX0_isPit_0 3 rfl rfl)
theorem dX0_isPit_4 : decode cX0_isPit 4 = .ok (.getfield 27, 3) := dk_180 0 27 (dk_at dksX0_isPit_0 4 rfl rfl)
theorem dX0_isPit_7 : decode cX0_isPit 7 = .ok (.getfield 76, 3) := dk_180 0 76 (dk_at dksX0_isPit_0 7 rfl rfl)
theorem dX0_isPit_10 : decode cX0_isPit 10 = .ok (.iconst 1, 1) := dk_4 (dk_at dksX0_isPit_0 10 rfl rfl)
theorem dX0_isPit_11 : decode cX0_isPit 11 = .ok (.isub, 1) := dk_100 (dk_at dksX0_isPit_0 11 rfl rfl)
theorem dX0_isPit_12 : decode cX0_isPit 12 = .ok (.i2l, 1) := dk_133 (dk_at dksX0_isPit_0 12 rfl rfl)
theorem dX0_isPit_13 : decode cX0_isPit 13 = .ok (.invokestatic 126, 3) := dk_184 0 126 (dk_at dksX0_isPit_0 13 rfl rfl)
theorem dX0_isPit_16 : decode cX0_isPit 16 = .ok (.ireturn, 1) := dk_172 (dk_at dksX0_isPit_0 16 rfl rfl)
abbrev cX0_whoKnows : ByteArray := prog_1_method_17_code
def yX0_whoKnows : MethodName := ⟨RX0, "whoKnows", "(I)I"⟩
def dkwX0_whoKnows_1 : List UInt8 := [184, 0, 155, 153, 0, 9, 4, 29, 120, 167, 0, 4, 3, 128, 61, 132, 3, 1, 167, 255, 219, 28, 172]
abbrev dktX0_whoKnows_1 : List UInt8 := dkwX0_whoKnows_1 ++ []
def dkwX0_whoKnows_0 : List UInt8 := [3, 61, 3, 62, 29, 42, 180, 0, 73, 162, 0, 35, 28, 42, 180, 0, 27, 180, 0, 79, 29, 53, 27]
abbrev dktX0_whoKnows_0 : List UInt8 := dkwX0_whoKnows_0 ++ dktX0_whoKnows_1
theorem dksX0_whoKnows_0 : cX0_whoKnows.data.toList.drop 0 = dktX0_whoKnows_0 := by decide +kernel
theorem dksX0_whoKnows_1 : cX0_whoKnows.data.toList.drop 23 = dktX0_whoKnows_1 := dk_seg dksX0_whoKnows_0 23 rfl rfl
theorem dX0_whoKnows_0 : decode cX0_whoKnows 0 = .ok (.iconst 0, 1) := dk_3 (dk_at dksX0_whoKnows_0 0 rfl rfl)
theorem dX0_whoKnows_1 : decode cX0_whoKnows 1 = .ok (.istore_n 2, 1) := dk_61 (dk_at dksX0_whoKnows_0 1 rfl rfl)
theorem dX0_whoKnows_2 : decode cX0_whoKnows 2 = .ok (.iconst 0, 1) := dk_3 (dk_at dksX0_whoKnows_0 2 rfl rfl)
theorem dX0_whoKnows_3 : decode cX0_whoKnows 3 = .ok (.istore_n 3, 1) := dk_62 (dk_at dksX0_whoKnows_0 3 rfl rfl)
theorem dX0_whoKnows_4 : decode cX0_whoKnows 4 = .ok (.iload_n 3, 1) := dk_29 (dk_at dksX0_whoKnows_0 4 rfl rfl)
theorem dX0_whoKnows_5 : decode cX0_whoKnows 5 = .ok (.aload_n 0, 1) := dk_42 (dk_at dksX0_whoKnows_0 5 rfl rfl)
theorem dX0_whoKnows_6 : decode cX0_whoKnows 6 = .ok (.getfield 73, 3) := dk_180 0 73 (dk_at dksX0_whoKnows_0 6 rfl rfl)
theorem dX0_whoKnows_9 : decode cX0_whoKnows 9 = .ok (.if_icmp .ge 35, 3) := dk_162 0 35 (dk_at dksX0_whoKnows_0 9 rfl rfl)
theorem dX0_whoKnows_12 : decode cX0_whoKnows 12 = .ok (.iload_n 2, 1) := dk_28 (dk_at dksX0_whoKnows_0 12 rfl rfl)
theorem dX0_whoKnows_13 : decode cX0_whoKnows 13 = .ok (.aload_n 0, 1) := dk_42 (dk_at dksX0_whoKnows_0 13 rfl rfl)
theorem dX0_whoKnows_14 : decode cX0_whoKnows 14 = .ok (.getfield 27, 3) := dk_180 0 27 (dk_at dksX0_whoKnows_0 14 rfl rfl)
theorem dX0_whoKnows_17 : decode cX0_whoKnows 17 = .ok (.getfield 79, 3) := dk_180 0 79 (dk_at dksX0_whoKnows_0 17 rfl rfl)
theorem dX0_whoKnows_20 : decode cX0_whoKnows 20 = .ok (.iload_n 3, 1) := dk_29 (dk_at dksX0_whoKnows_0 20 rfl rfl)
theorem dX0_whoKnows_21 : decode cX0_whoKnows 21 = .ok (.saload, 1) := dk_53 (dk_at dksX0_whoKnows_0 21 rfl rfl)
theorem dX0_whoKnows_22 : decode cX0_whoKnows 22 = .ok (.iload_n 1, 1) := dk_27 (dk_at dksX0_whoKnows_0 22 rfl rfl)
theorem dX0_whoKnows_23 : decode cX0_whoKnows 23 = .ok (.invokestatic 155, 3) := dk_184 0 155 (dk_at dksX0_whoKnows_1 0 rfl rfl)
theorem dX0_whoKnows_26 : decode cX0_whoKnows 26 = .ok (.ifCond .eq 9, 3) := dk_153 0 9 (dk_at dksX0_whoKnows_1 3 rfl rfl)
theorem dX0_whoKnows_29 : decode cX0_whoKnows 29 = .ok (.iconst 1, 1) := dk_4 (dk_at dksX0_whoKnows_1 6 rfl rfl)
theorem dX0_whoKnows_30 : decode cX0_whoKnows 30 = .ok (.iload_n 3, 1) := dk_29 (dk_at dksX0_whoKnows_1 7 rfl rfl)
theorem dX0_whoKnows_31 : decode cX0_whoKnows 31 = .ok (.ishl, 1) := dk_120 (dk_at dksX0_whoKnows_1 8 rfl rfl)
theorem dX0_whoKnows_32 : decode cX0_whoKnows 32 = .ok (.goto 4, 3) := dk_167 0 4 (dk_at dksX0_whoKnows_1 9 rfl rfl)
theorem dX0_whoKnows_35 : decode cX0_whoKnows 35 = .ok (.iconst 0, 1) := dk_3 (dk_at dksX0_whoKnows_1 12 rfl rfl)
theorem dX0_whoKnows_36 : decode cX0_whoKnows 36 = .ok (.ior, 1) := dk_128 (dk_at dksX0_whoKnows_1 13 rfl rfl)
theorem dX0_whoKnows_37 : decode cX0_whoKnows 37 = .ok (.istore_n 2, 1) := dk_61 (dk_at dksX0_whoKnows_1 14 rfl rfl)
theorem dX0_whoKnows_38 : decode cX0_whoKnows 38 = .ok (.iinc 3 1, 3) := dk_132 3 1 (dk_at dksX0_whoKnows_1 15 rfl rfl)
theorem dX0_whoKnows_41 : decode cX0_whoKnows 41 = .ok (.goto (-37), 3) := dk_167 255 219 (dk_at dksX0_whoKnows_1 18 rfl rfl)
theorem dX0_whoKnows_44 : decode cX0_whoKnows 44 = .ok (.iload_n 2, 1) := dk_28 (dk_at dksX0_whoKnows_1 21 rfl rfl)
theorem dX0_whoKnows_45 : decode cX0_whoKnows 45 = .ok (.ireturn, 1) := dk_172 (dk_at dksX0_whoKnows_1 22 rfl rfl)
abbrev cX0_has : ByteArray := prog_1_method_2_code
def yX0_has : MethodName := ⟨RX0, "has", "(II)Z"⟩
def dkwX0_has_0 : List UInt8 := [26, 27, 122, 4, 126, 4, 160, 0, 7, 4, 167, 0, 4, 3, 172]
abbrev dktX0_has_0 : List UInt8 := dkwX0_has_0 ++ []
theorem dksX0_has_0 : cX0_has.data.toList.drop 0 = dktX0_has_0 := by decide +kernel
theorem dX0_has_0 : decode cX0_has 0 = .ok (.iload_n 0, 1) := dk_26 (dk_at dksX0_has_0 0 rfl rfl)
theorem dX0_has_1 : decode cX0_has 1 = .ok (.iload_n 1, 1) := dk_27 (dk_at dksX0_has_0 1 rfl rfl)
theorem dX0_has_2 : decode cX0_has 2 = .ok (.ishr, 1) := dk_122 (dk_at dksX0_has_0 2 rfl rfl)
theorem dX0_has_3 : decode cX0_has 3 = .ok (.iconst 1, 1) := dk_4 (dk_at dksX0_has_0 3 rfl rfl)
theorem dX0_has_4 : decode cX0_has 4 = .ok (.iand, 1) := dk_126 (dk_at dksX0_has_0 4 rfl rfl)
theorem dX0_has_5 : decode cX0_has 5 = .ok (.iconst 1, 1) := dk_4 (dk_at dksX0_has_0 5 rfl rfl)
theorem dX0_has_6 : decode cX0_has 6 = .ok (.if_icmp .ne 7, 3) := dk_160 0 7 (dk_at dksX0_has_0 6 rfl rfl)
theorem dX0_has_9 : decode cX0_has 9 = .ok (.iconst 1, 1) := dk_4 (dk_at dksX0_has_0 9 rfl rfl)
theorem dX0_has_10 : decode cX0_has 10 = .ok (.goto 4, 3) := dk_167 0 4 (dk_at dksX0_has_0 10 rfl rfl)
theorem dX0_has_13 : decode cX0_has 13 = .ok (.iconst 0, 1) := dk_3 (dk_at dksX0_has_0 13 rfl rfl)
theorem dX0_has_14 : decode cX0_has 14 = .ok (.ireturn, 1) := dk_172 (dk_at dksX0_has_0 14 rfl rfl)
abbrev cX0_squirrel : ByteArray := prog_1_method_20_code
def yX0_squirrel : MethodName := ⟨RX0, "squirrel", "(II)I"⟩
def dkwX0_squirrel_3 : List UInt8 := [184, 0, 184, 172, 42, 27, 182, 0, 173, 182, 0, 188, 172, 16, 253, 172]
abbrev dktX0_squirrel_3 : List UInt8 := dkwX0_squirrel_3 ++ []
def dkwX0_squirrel_2 : List UInt8 := [42, 27, 182, 0, 173, 182, 0, 177, 172, 42, 27, 182, 0, 173, 180, 0, 181, 172, 42, 180, 0, 27, 27, 28]
abbrev dktX0_squirrel_2 : List UInt8 := dkwX0_squirrel_2 ++ dktX0_squirrel_3
def dkwX0_squirrel_1 : List UInt8 := [170, 0, 0, 0, 0, 0, 0, 77, 0, 0, 0, 0, 0, 0, 0, 5, 0, 0, 0, 40, 0, 0, 0, 58, 0, 0, 0, 49, 0, 0, 0, 58, 0, 0, 0, 58, 0, 0, 0, 68]
abbrev dktX0_squirrel_1 : List UInt8 := dkwX0_squirrel_1 ++ dktX0_squirrel_2
def dkwX0_squirrel_0 : List UInt8 := [42, 27, 182, 0, 170, 154, 0, 6, 16, 254, 172, 28]
abbrev dktX0_squirrel_0 : List UInt8 := dkwX0_squirrel_0 ++ dktX0_squirrel_1
theorem dksX0_squirrel_0 : cX0_squirrel.data.toList.drop 0 = dktX0_squirrel_0 := by decide +kernel
theorem dksX0_squirrel_1 : cX0_squirrel.data.toList.drop 12 = dktX0_squirrel_1 := dk_seg dksX0_squirrel_0 12 rfl rfl
theorem dksX0_squirrel_2 : cX0_squirrel.data.toList.drop 52 = dktX0_squirrel_2 := dk_seg dksX0_squirrel_1 40 rfl rfl
theorem dksX0_squirrel_3 : cX0_squirrel.data.toList.drop 76 = dktX0_squirrel_3 := dk_seg dksX0_squirrel_2 24 rfl rfl
theorem dX0_squirrel_0 : decode cX0_squirrel 0 = .ok (.aload_n 0, 1) := dk_42 (dk_at dksX0_squirrel_0 0 rfl rfl)
theorem dX0_squirrel_1 : decode cX0_squirrel 1 = .ok (.iload_n 1, 1) := dk_27 (dk_at dksX0_squirrel_0 1 rfl rfl)
theorem dX0_squirrel_2 : decode cX0_squirrel 2 = .ok (.invokevirtual 170, 3) := dk_182 0 170 (dk_at dksX0_squirrel_0 2 rfl rfl)
theorem dX0_squirrel_5 : decode cX0_squirrel 5 = .ok (.ifCond .ne 6, 3) := dk_154 0 6 (dk_at dksX0_squirrel_0 5 rfl rfl)
theorem dX0_squirrel_8 : decode cX0_squirrel 8 = .ok (.bipush (-2), 2) := dk_16 254 (dk_at dksX0_squirrel_0 8 rfl rfl)
theorem dX0_squirrel_10 : decode cX0_squirrel 10 = .ok (.ireturn, 1) := dk_172 (dk_at dksX0_squirrel_0 10 rfl rfl)
theorem dX0_squirrel_11 : decode cX0_squirrel 11 = .ok (.iload_n 2, 1) := dk_28 (dk_at dksX0_squirrel_0 11 rfl rfl)
theorem dX0_squirrel_12 : decode cX0_squirrel 12 = .ok (.tableswitch 77 0 5 #[40, 58, 49, 58, 58, 68], 40) := by decide +kernel
theorem dX0_squirrel_52 : decode cX0_squirrel 52 = .ok (.aload_n 0, 1) := dk_42 (dk_at dksX0_squirrel_2 0 rfl rfl)
theorem dX0_squirrel_53 : decode cX0_squirrel 53 = .ok (.iload_n 1, 1) := dk_27 (dk_at dksX0_squirrel_2 1 rfl rfl)
theorem dX0_squirrel_54 : decode cX0_squirrel 54 = .ok (.invokevirtual 173, 3) := dk_182 0 173 (dk_at dksX0_squirrel_2 2 rfl rfl)
theorem dX0_squirrel_57 : decode cX0_squirrel 57 = .ok (.invokevirtual 177, 3) := dk_182 0 177 (dk_at dksX0_squirrel_2 5 rfl rfl)
theorem dX0_squirrel_60 : decode cX0_squirrel 60 = .ok (.ireturn, 1) := dk_172 (dk_at dksX0_squirrel_2 8 rfl rfl)
theorem dX0_squirrel_61 : decode cX0_squirrel 61 = .ok (.aload_n 0, 1) := dk_42 (dk_at dksX0_squirrel_2 9 rfl rfl)
theorem dX0_squirrel_62 : decode cX0_squirrel 62 = .ok (.iload_n 1, 1) := dk_27 (dk_at dksX0_squirrel_2 10 rfl rfl)
theorem dX0_squirrel_63 : decode cX0_squirrel 63 = .ok (.invokevirtual 173, 3) := dk_182 0 173 (dk_at dksX0_squirrel_2 11 rfl rfl)
theorem dX0_squirrel_66 : decode cX0_squirrel 66 = .ok (.getfield 181, 3) := dk_180 0 181 (dk_at dksX0_squirrel_2 14 rfl rfl)
theorem dX0_squirrel_69 : decode cX0_squirrel 69 = .ok (.ireturn, 1) := dk_172 (dk_at dksX0_squirrel_2 17 rfl rfl)
theorem dX0_squirrel_70 : decode cX0_squirrel 70 = .ok (.aload_n 0, 1) := dk_42 (dk_at dksX0_squirrel_2 18 rfl rfl)
theorem dX0_squirrel_71 : decode cX0_squirrel 71 = .ok (.getfield 27, 3) := dk_180 0 27 (dk_at dksX0_squirrel_2 19 rfl rfl)
theorem dX0_squirrel_74 : decode cX0_squirrel 74 = .ok (.iload_n 1, 1) := dk_27 (dk_at dksX0_squirrel_2 22 rfl rfl)
theorem dX0_squirrel_75 : decode cX0_squirrel 75 = .ok (.iload_n 2, 1) := dk_28 (dk_at dksX0_squirrel_2 23 rfl rfl)
theorem dX0_squirrel_76 : decode cX0_squirrel 76 = .ok (.invokestatic 184, 3) := dk_184 0 184 (dk_at dksX0_squirrel_3 0 rfl rfl)
theorem dX0_squirrel_79 : decode cX0_squirrel 79 = .ok (.ireturn, 1) := dk_172 (dk_at dksX0_squirrel_3 3 rfl rfl)
theorem dX0_squirrel_80 : decode cX0_squirrel 80 = .ok (.aload_n 0, 1) := dk_42 (dk_at dksX0_squirrel_3 4 rfl rfl)
theorem dX0_squirrel_81 : decode cX0_squirrel 81 = .ok (.iload_n 1, 1) := dk_27 (dk_at dksX0_squirrel_3 5 rfl rfl)
theorem dX0_squirrel_82 : decode cX0_squirrel 82 = .ok (.invokevirtual 173, 3) := dk_182 0 173 (dk_at dksX0_squirrel_3 6 rfl rfl)
theorem dX0_squirrel_85 : decode cX0_squirrel 85 = .ok (.invokevirtual 188, 3) := dk_182 0 188 (dk_at dksX0_squirrel_3 9 rfl rfl)
theorem dX0_squirrel_88 : decode cX0_squirrel 88 = .ok (.ireturn, 1) := dk_172 (dk_at dksX0_squirrel_3 12 rfl rfl)
theorem dX0_squirrel_89 : decode cX0_squirrel 89 = .ok (.bipush (-3), 2) := dk_16 253 (dk_at dksX0_squirrel_3 13 rfl rfl)
theorem dX0_squirrel_91 : decode cX0_squirrel 91 = .ok (.ireturn, 1) := dk_172 (dk_at dksX0_squirrel_3 15 rfl rfl)
abbrev cX0_isSquirrel : ByteArray := prog_1_method_12_code
def yX0_isSquirrel : MethodName := ⟨RX0, "isSquirrel", "(I)Z"⟩
def dkwX0_isSquirrel_0 : List UInt8 := [27, 133, 9, 42, 180, 0, 73, 4, 100, 133, 184, 0, 126, 172]
abbrev dktX0_isSquirrel_0 : List UInt8 := dkwX0_isSquirrel_0 ++ []
theorem dksX0_isSquirrel_0 : cX0_isSquirrel.data.toList.drop 0 = dktX0_isSquirrel_0 := by decide +kernel
theorem dX0_isSquirrel_0 : decode cX0_isSquirrel 0 = .ok (.iload_n 1, 1) := dk_27 (dk_at dksX0_isSquirrel_0 0 rfl rfl)
theorem dX0_isSquirrel_1 : decode cX0_isSquirrel 1 = .ok (.i2l, 1) := dk_133 (dk_at dksX0_isSquirrel_0 1 rfl rfl)
theorem dX0_isSquirrel_2 : decode cX0_isSquirrel 2 = .ok (.lconst 0, 1) := dk_9 (dk_at dksX0_isSquirrel_0 2 rfl rfl)
theorem dX0_isSquirrel_3 : decode cX0_isSquirrel 3 = .ok (.aload_n 0, 1) := dk_42 (dk_at dksX0_isSquirrel_0 3 rfl rfl)
theorem dX0_isSquirrel_4 : decode cX0_isSquirrel 4 = .ok (.getfield 73, 3) := dk_180 0 73 (dk_at dksX0_isSquirrel_0 4 rfl rfl)
theorem dX0_isSquirrel_7 : decode cX0_isSquirrel 7 = .ok (.iconst 1, 1) := dk_4 (dk_at dksX0_isSquirrel_0 7 rfl rfl)
theorem dX0_isSquirrel_8 : decode cX0_isSquirrel 8 = .ok (.isub, 1) := dk_100 (dk_at dksX0_isSquirrel_0 8 rfl rfl)
theorem dX0_isSquirrel_9 : decode cX0_isSquirrel 9 = .ok (.i2l, 1) := dk_133 (dk_at dksX0_isSquirrel_0 9 rfl rfl)
theorem dX0_isSquirrel_10 : decode cX0_isSquirrel 10 = .ok (.invokestatic 126, 3) := dk_184 0 126 (dk_at dksX0_isSquirrel_0 10 rfl rfl)
theorem dX0_isSquirrel_13 : decode cX0_isSquirrel 13 = .ok (.ireturn, 1) := dk_172 (dk_at dksX0_isSquirrel_0 13 rfl rfl)
abbrev cX0_squirrel_2 : ByteArray := prog_1_method_5_code
def yX0_squirrel_2 : MethodName := ⟨RX0, "squirrel", "(I)LNutCaches$Squirrel;"⟩
def dkwX0_squirrel_2_0 : List UInt8 := [42, 180, 0, 21, 27, 50, 192, 0, 19, 176]
abbrev dktX0_squirrel_2_0 : List UInt8 := dkwX0_squirrel_2_0 ++ []
theorem dksX0_squirrel_2_0 : cX0_squirrel_2.data.toList.drop 0 = dktX0_squirrel_2_0 := by decide +kernel
theorem dX0_squirrel_2_0 : decode cX0_squirrel_2 0 = .ok (.aload_n 0, 1) := dk_42 (dk_at dksX0_squirrel_2_0 0 rfl rfl)
theorem dX0_squirrel_2_1 : decode cX0_squirrel_2 1 = .ok (.getfield 21, 3) := dk_180 0 21 (dk_at dksX0_squirrel_2_0 1 rfl rfl)
theorem dX0_squirrel_2_4 : decode cX0_squirrel_2 4 = .ok (.iload_n 1, 1) := dk_27 (dk_at dksX0_squirrel_2_0 4 rfl rfl)
theorem dX0_squirrel_2_5 : decode cX0_squirrel_2 5 = .ok (.aaload, 1) := dk_50 (dk_at dksX0_squirrel_2_0 5 rfl rfl)
theorem dX0_squirrel_2_6 : decode cX0_squirrel_2 6 = .ok (.checkcast 19, 3) := dk_192 0 19 (dk_at dksX0_squirrel_2_0 6 rfl rfl)
theorem dX0_squirrel_2_9 : decode cX0_squirrel_2 9 = .ok (.areturn, 1) := dk_176 (dk_at dksX0_squirrel_2_0 9 rfl rfl)
abbrev cX0_stateOf : ByteArray := prog_1_method_19_code
def yX0_stateOf : MethodName := ⟨RX0, "stateOf", "(LNutCaches$State;II)I"⟩
def dkwX0_stateOf_1 : List UInt8 := [51, 167, 0, 9, 42, 180, 0, 79, 27, 53, 172]
abbrev dktX0_stateOf_1 : List UInt8 := dkwX0_stateOf_1 ++ []
def dkwX0_stateOf_0 : List UInt8 := [28, 4, 160, 0, 12, 42, 180, 0, 97, 27, 51, 167, 0, 23, 28, 6, 160, 0, 12, 42, 180, 0, 167, 27]
abbrev dktX0_stateOf_0 : List UInt8 := dkwX0_stateOf_0 ++ dktX0_stateOf_1
theorem dksX0_stateOf_0 : cX0_stateOf.data.toList.drop 0 = dktX0_stateOf_0 := by decide +kernel
theorem dksX0_stateOf_1 : cX0_stateOf.data.toList.drop 24 = dktX0_stateOf_1 := dk_seg dksX0_stateOf_0 24 rfl rfl
theorem dX0_stateOf_0 : decode cX0_stateOf 0 = .ok (.iload_n 2, 1) := dk_28 (dk_at dksX0_stateOf_0 0 rfl rfl)
theorem dX0_stateOf_1 : decode cX0_stateOf 1 = .ok (.iconst 1, 1) := dk_4 (dk_at dksX0_stateOf_0 1 rfl rfl)
theorem dX0_stateOf_2 : decode cX0_stateOf 2 = .ok (.if_icmp .ne 12, 3) := dk_160 0 12 (dk_at dksX0_stateOf_0 2 rfl rfl)
theorem dX0_stateOf_5 : decode cX0_stateOf 5 = .ok (.aload_n 0, 1) := dk_42 (dk_at dksX0_stateOf_0 5 rfl rfl)
theorem dX0_stateOf_6 : decode cX0_stateOf 6 = .ok (.getfield 97, 3) := dk_180 0 97 (dk_at dksX0_stateOf_0 6 rfl rfl)
theorem dX0_stateOf_9 : decode cX0_stateOf 9 = .ok (.iload_n 1, 1) := dk_27 (dk_at dksX0_stateOf_0 9 rfl rfl)
theorem dX0_stateOf_10 : decode cX0_stateOf 10 = .ok (.baload, 1) := dk_51 (dk_at dksX0_stateOf_0 10 rfl rfl)
theorem dX0_stateOf_11 : decode cX0_stateOf 11 = .ok (.goto 23, 3) := dk_167 0 23 (dk_at dksX0_stateOf_0 11 rfl rfl)
theorem dX0_stateOf_14 : decode cX0_stateOf 14 = .ok (.iload_n 2, 1) := dk_28 (dk_at dksX0_stateOf_0 14 rfl rfl)
theorem dX0_stateOf_15 : decode cX0_stateOf 15 = .ok (.iconst 3, 1) := dk_6 (dk_at dksX0_stateOf_0 15 rfl rfl)
theorem dX0_stateOf_16 : decode cX0_stateOf 16 = .ok (.if_icmp .ne 12, 3) := dk_160 0 12 (dk_at dksX0_stateOf_0 16 rfl rfl)
theorem dX0_stateOf_19 : decode cX0_stateOf 19 = .ok (.aload_n 0, 1) := dk_42 (dk_at dksX0_stateOf_0 19 rfl rfl)
theorem dX0_stateOf_20 : decode cX0_stateOf 20 = .ok (.getfield 167, 3) := dk_180 0 167 (dk_at dksX0_stateOf_0 20 rfl rfl)
theorem dX0_stateOf_23 : decode cX0_stateOf 23 = .ok (.iload_n 1, 1) := dk_27 (dk_at dksX0_stateOf_0 23 rfl rfl)
theorem dX0_stateOf_24 : decode cX0_stateOf 24 = .ok (.baload, 1) := dk_51 (dk_at dksX0_stateOf_1 0 rfl rfl)
theorem dX0_stateOf_25 : decode cX0_stateOf 25 = .ok (.goto 9, 3) := dk_167 0 9 (dk_at dksX0_stateOf_1 1 rfl rfl)
theorem dX0_stateOf_28 : decode cX0_stateOf 28 = .ok (.aload_n 0, 1) := dk_42 (dk_at dksX0_stateOf_1 4 rfl rfl)
theorem dX0_stateOf_29 : decode cX0_stateOf 29 = .ok (.getfield 79, 3) := dk_180 0 79 (dk_at dksX0_stateOf_1 5 rfl rfl)
theorem dX0_stateOf_32 : decode cX0_stateOf 32 = .ok (.iload_n 1, 1) := dk_27 (dk_at dksX0_stateOf_1 8 rfl rfl)
theorem dX0_stateOf_33 : decode cX0_stateOf 33 = .ok (.saload, 1) := dk_53 (dk_at dksX0_stateOf_1 9 rfl rfl)
theorem dX0_stateOf_34 : decode cX0_stateOf 34 = .ok (.ireturn, 1) := dk_172 (dk_at dksX0_stateOf_1 10 rfl rfl)
abbrev cX0_as : ByteArray := prog_1_method_21_code
def yX0_as : MethodName := ⟨RX0, "as", "(II)I"⟩
def dkwX0_as_1 : List UInt8 := [16, 253, 172, 42, 180, 0, 21, 27, 50, 28, 184, 0, 193, 182, 0, 188, 172, 78, 16, 252, 172]
abbrev dktX0_as_1 : List UInt8 := dkwX0_as_1 ++ []
def dkwX0_as_0 : List UInt8 := [42, 27, 182, 0, 170, 154, 0, 6, 16, 254, 172, 28, 133, 9, 20, 0, 191, 184, 0, 126, 154, 0, 6]
abbrev dktX0_as_0 : List UInt8 := dkwX0_as_0 ++ dktX0_as_1
theorem dksX0_as_0 : cX0_as.data.toList.drop 0 = dktX0_as_0 := by decide +kernel
theorem dksX0_as_1 : cX0_as.data.toList.drop 23 = dktX0_as_1 := dk_seg dksX0_as_0 23 rfl rfl
theorem dX0_as_0 : decode cX0_as 0 = .ok (.aload_n 0, 1) := dk_42 (dk_at dksX0_as_0 0 rfl rfl)
theorem dX0_as_1 : decode cX0_as 1 = .ok (.iload_n 1, 1) := dk_27 (dk_at dksX0_as_0 1 rfl rfl)
theorem dX0_as_2 : decode cX0_as 2 = .ok (.invokevirtual 170, 3) := dk_182 0 170 (dk_at dksX0_as_0 2 rfl rfl)
theorem dX0_as_5 : decode cX0_as 5 = .ok (.ifCond .ne 6, 3) := dk_154 0 6 (dk_at dksX0_as_0 5 rfl rfl)
theorem dX0_as_8 : decode cX0_as 8 = .ok (.bipush (-2), 2) := dk_16 254 (dk_at dksX0_as_0 8 rfl rfl)
theorem dX0_as_10 : decode cX0_as 10 = .ok (.ireturn, 1) := dk_172 (dk_at dksX0_as_0 10 rfl rfl)
theorem dX0_as_11 : decode cX0_as 11 = .ok (.iload_n 2, 1) := dk_28 (dk_at dksX0_as_0 11 rfl rfl)
theorem dX0_as_12 : decode cX0_as 12 = .ok (.i2l, 1) := dk_133 (dk_at dksX0_as_0 12 rfl rfl)
theorem dX0_as_13 : decode cX0_as 13 = .ok (.lconst 0, 1) := dk_9 (dk_at dksX0_as_0 13 rfl rfl)
theorem dX0_as_14 : decode cX0_as 14 = .ok (.ldc2_w 191, 3) := dk_20 0 191 (dk_at dksX0_as_0 14 rfl rfl)
theorem dX0_as_17 : decode cX0_as 17 = .ok (.invokestatic 126, 3) := dk_184 0 126 (dk_at dksX0_as_0 17 rfl rfl)
theorem dX0_as_20 : decode cX0_as 20 = .ok (.ifCond .ne 6, 3) := dk_154 0 6 (dk_at dksX0_as_0 20 rfl rfl)
theorem dX0_as_23 : decode cX0_as 23 = .ok (.bipush (-3), 2) := dk_16 253 (dk_at dksX0_as_1 0 rfl rfl)
theorem dX0_as_25 : decode cX0_as 25 = .ok (.ireturn, 1) := dk_172 (dk_at dksX0_as_1 2 rfl rfl)
theorem dX0_as_26 : decode cX0_as 26 = .ok (.aload_n 0, 1) := dk_42 (dk_at dksX0_as_1 3 rfl rfl)
theorem dX0_as_27 : decode cX0_as 27 = .ok (.getfield 21, 3) := dk_180 0 21 (dk_at dksX0_as_1 4 rfl rfl)
theorem dX0_as_30 : decode cX0_as 30 = .ok (.iload_n 1, 1) := dk_27 (dk_at dksX0_as_1 7 rfl rfl)
theorem dX0_as_31 : decode cX0_as 31 = .ok (.aaload, 1) := dk_50 (dk_at dksX0_as_1 8 rfl rfl)
theorem dX0_as_32 : decode cX0_as 32 = .ok (.iload_n 2, 1) := dk_28 (dk_at dksX0_as_1 9 rfl rfl)
theorem dX0_as_33 : decode cX0_as 33 = .ok (.invokestatic 193, 3) := dk_184 0 193 (dk_at dksX0_as_1 10 rfl rfl)
theorem dX0_as_36 : decode cX0_as 36 = .ok (.invokevirtual 188, 3) := dk_182 0 188 (dk_at dksX0_as_1 13 rfl rfl)
theorem dX0_as_39 : decode cX0_as 39 = .ok (.ireturn, 1) := dk_172 (dk_at dksX0_as_1 16 rfl rfl)
theorem dX0_as_40 : decode cX0_as 40 = .ok (.astore_n 3, 1) := dk_78 (dk_at dksX0_as_1 17 rfl rfl)
theorem dX0_as_41 : decode cX0_as 41 = .ok (.bipush (-4), 2) := dk_16 252 (dk_at dksX0_as_1 18 rfl rfl)
theorem dX0_as_43 : decode cX0_as 43 = .ok (.ireturn, 1) := dk_172 (dk_at dksX0_as_1 20 rfl rfl)
abbrev cX0_castTo : ByteArray := prog_1_method_4_code
def yX0_castTo : MethodName := ⟨RX0, "castTo", "(Ljava/lang/Object;I)LNutCaches$Squirrel;"⟩
def dkwX0_castTo_3 : List UInt8 := [176, 42, 192, 0, 16, 176]
abbrev dktX0_castTo_3 : List UInt8 := dkwX0_castTo_3 ++ []
def dkwX0_castTo_2 : List UInt8 := [42, 192, 0, 19, 176, 42, 192, 0, 1, 176, 42, 192, 0, 7, 176, 42, 192, 0, 10, 176, 42, 192, 0, 13]
abbrev dktX0_castTo_2 : List UInt8 := dkwX0_castTo_2 ++ dktX0_castTo_3
def dkwX0_castTo_1 : List UInt8 := [170, 0, 0, 0, 0, 0, 60, 0, 0, 0, 0, 0, 0, 0, 4, 0, 0, 0, 35, 0, 0, 0, 40, 0, 0, 0, 45, 0, 0, 0, 50, 0, 0, 0, 55]
abbrev dktX0_castTo_1 : List UInt8 := dkwX0_castTo_1 ++ dktX0_castTo_2
def dkwX0_castTo_0 : List UInt8 := [27]
abbrev dktX0_castTo_0 : List UInt8 := dkwX0_castTo_0 ++ dktX0_castTo_1
theorem dksX0_castTo_0 : cX0_castTo.data.toList.drop 0 = dktX0_castTo_0 := by decide +kernel
theorem dksX0_castTo_1 : cX0_castTo.data.toList.drop 1 = dktX0_castTo_1 := dk_seg dksX0_castTo_0 1 rfl rfl
theorem dksX0_castTo_2 : cX0_castTo.data.toList.drop 36 = dktX0_castTo_2 := dk_seg dksX0_castTo_1 35 rfl rfl
theorem dksX0_castTo_3 : cX0_castTo.data.toList.drop 60 = dktX0_castTo_3 := dk_seg dksX0_castTo_2 24 rfl rfl
theorem dX0_castTo_0 : decode cX0_castTo 0 = .ok (.iload_n 1, 1) := dk_27 (dk_at dksX0_castTo_0 0 rfl rfl)
theorem dX0_castTo_1 : decode cX0_castTo 1 = .ok (.tableswitch 60 0 4 #[35, 40, 45, 50, 55], 35) := by decide +kernel
theorem dX0_castTo_36 : decode cX0_castTo 36 = .ok (.aload_n 0, 1) := dk_42 (dk_at dksX0_castTo_2 0 rfl rfl)
theorem dX0_castTo_37 : decode cX0_castTo 37 = .ok (.checkcast 19, 3) := dk_192 0 19 (dk_at dksX0_castTo_2 1 rfl rfl)
theorem dX0_castTo_40 : decode cX0_castTo 40 = .ok (.areturn, 1) := dk_176 (dk_at dksX0_castTo_2 4 rfl rfl)
theorem dX0_castTo_41 : decode cX0_castTo 41 = .ok (.aload_n 0, 1) := dk_42 (dk_at dksX0_castTo_2 5 rfl rfl)
theorem dX0_castTo_42 : decode cX0_castTo 42 = .ok (.checkcast 1, 3) := dk_192 0 1 (dk_at dksX0_castTo_2 6 rfl rfl)
theorem dX0_castTo_45 : decode cX0_castTo 45 = .ok (.areturn, 1) := dk_176 (dk_at dksX0_castTo_2 9 rfl rfl)
theorem dX0_castTo_46 : decode cX0_castTo 46 = .ok (.aload_n 0, 1) := dk_42 (dk_at dksX0_castTo_2 10 rfl rfl)
theorem dX0_castTo_47 : decode cX0_castTo 47 = .ok (.checkcast 7, 3) := dk_192 0 7 (dk_at dksX0_castTo_2 11 rfl rfl)
theorem dX0_castTo_50 : decode cX0_castTo 50 = .ok (.areturn, 1) := dk_176 (dk_at dksX0_castTo_2 14 rfl rfl)
theorem dX0_castTo_51 : decode cX0_castTo 51 = .ok (.aload_n 0, 1) := dk_42 (dk_at dksX0_castTo_2 15 rfl rfl)
theorem dX0_castTo_52 : decode cX0_castTo 52 = .ok (.checkcast 10, 3) := dk_192 0 10 (dk_at dksX0_castTo_2 16 rfl rfl)
theorem dX0_castTo_55 : decode cX0_castTo 55 = .ok (.areturn, 1) := dk_176 (dk_at dksX0_castTo_2 19 rfl rfl)
theorem dX0_castTo_56 : decode cX0_castTo 56 = .ok (.aload_n 0, 1) := dk_42 (dk_at dksX0_castTo_2 20 rfl rfl)
theorem dX0_castTo_57 : decode cX0_castTo 57 = .ok (.checkcast 13, 3) := dk_192 0 13 (dk_at dksX0_castTo_2 21 rfl rfl)
theorem dX0_castTo_60 : decode cX0_castTo 60 = .ok (.areturn, 1) := dk_176 (dk_at dksX0_castTo_3 0 rfl rfl)
theorem dX0_castTo_61 : decode cX0_castTo 61 = .ok (.aload_n 0, 1) := dk_42 (dk_at dksX0_castTo_3 1 rfl rfl)
theorem dX0_castTo_62 : decode cX0_castTo 62 = .ok (.checkcast 16, 3) := dk_192 0 16 (dk_at dksX0_castTo_3 2 rfl rfl)
theorem dX0_castTo_65 : decode cX0_castTo 65 = .ok (.areturn, 1) := dk_176 (dk_at dksX0_castTo_3 5 rfl rfl)
abbrev cX0_day : ByteArray := prog_1_method_22_code
def yX0_day : MethodName := ⟨RX0, "day", "(I)I"⟩
def dkwX0_day_2 : List UInt8 := [172]
abbrev dktX0_day_2 : List UInt8 := dkwX0_day_2 ++ []
def dkwX0_day_1 : List UInt8 := [17, 3, 231, 164, 0, 6, 16, 251, 172, 42, 182, 0, 204, 42, 180, 0, 27, 27, 182, 0, 207, 180, 0, 201]
abbrev dktX0_day_1 : List UInt8 := dkwX0_day_1 ++ dktX0_day_2
def dkwX0_day_0 : List UInt8 := [27, 133, 10, 20, 0, 199, 184, 0, 126, 154, 0, 6, 16, 253, 172, 42, 180, 0, 27, 180, 0, 201, 27, 96]
abbrev dktX0_day_0 : List UInt8 := dkwX0_day_0 ++ dktX0_day_1
theorem dksX0_day_0 : cX0_day.data.toList.drop 0 = dktX0_day_0 := by decide +kernel
theorem dksX0_day_1 : cX0_day.data.toList.drop 24 = dktX0_day_1 := dk_seg dksX0_day_0 24 rfl rfl
theorem dksX0_day_2 : cX0_day.data.toList.drop 48 = dktX0_day_2 := dk_seg dksX0_day_1 24 rfl rfl
theorem dX0_day_0 : decode cX0_day 0 = .ok (.iload_n 1, 1) := dk_27 (dk_at dksX0_day_0 0 rfl rfl)
theorem dX0_day_1 : decode cX0_day 1 = .ok (.i2l, 1) := dk_133 (dk_at dksX0_day_0 1 rfl rfl)
theorem dX0_day_2 : decode cX0_day 2 = .ok (.lconst 1, 1) := dk_10 (dk_at dksX0_day_0 2 rfl rfl)
theorem dX0_day_3 : decode cX0_day 3 = .ok (.ldc2_w 199, 3) := dk_20 0 199 (dk_at dksX0_day_0 3 rfl rfl)
theorem dX0_day_6 : decode cX0_day 6 = .ok (.invokestatic 126, 3) := dk_184 0 126 (dk_at dksX0_day_0 6 rfl rfl)
theorem dX0_day_9 : decode cX0_day 9 = .ok (.ifCond .ne 6, 3) := dk_154 0 6 (dk_at dksX0_day_0 9 rfl rfl)
theorem dX0_day_12 : decode cX0_day 12 = .ok (.bipush (-3), 2) := dk_16 253 (dk_at dksX0_day_0 12 rfl rfl)
theorem dX0_day_14 : decode cX0_day 14 = .ok (.ireturn, 1) := dk_172 (dk_at dksX0_day_0 14 rfl rfl)
theorem dX0_day_15 : decode cX0_day 15 = .ok (.aload_n 0, 1) := dk_42 (dk_at dksX0_day_0 15 rfl rfl)
theorem dX0_day_16 : decode cX0_day 16 = .ok (.getfield 27, 3) := dk_180 0 27 (dk_at dksX0_day_0 16 rfl rfl)
theorem dX0_day_19 : decode cX0_day 19 = .ok (.getfield 201, 3) := dk_180 0 201 (dk_at dksX0_day_0 19 rfl rfl)
theorem dX0_day_22 : decode cX0_day 22 = .ok (.iload_n 1, 1) := dk_27 (dk_at dksX0_day_0 22 rfl rfl)
theorem dX0_day_23 : decode cX0_day 23 = .ok (.iadd, 1) := dk_96 (dk_at dksX0_day_0 23 rfl rfl)
theorem dX0_day_24 : decode cX0_day 24 = .ok (.sipush 999, 3) := dk_17 3 231 (dk_at dksX0_day_1 0 rfl rfl)
theorem dX0_day_27 : decode cX0_day 27 = .ok (.if_icmp .le 6, 3) := dk_164 0 6 (dk_at dksX0_day_1 3 rfl rfl)
theorem dX0_day_30 : decode cX0_day 30 = .ok (.bipush (-5), 2) := dk_16 251 (dk_at dksX0_day_1 6 rfl rfl)
theorem dX0_day_32 : decode cX0_day 32 = .ok (.ireturn, 1) := dk_172 (dk_at dksX0_day_1 8 rfl rfl)
theorem dX0_day_33 : decode cX0_day 33 = .ok (.aload_n 0, 1) := dk_42 (dk_at dksX0_day_1 9 rfl rfl)
theorem dX0_day_34 : decode cX0_day 34 = .ok (.invokevirtual 204, 3) := dk_182 0 204 (dk_at dksX0_day_1 10 rfl rfl)
theorem dX0_day_37 : decode cX0_day 37 = .ok (.aload_n 0, 1) := dk_42 (dk_at dksX0_day_1 13 rfl rfl)
theorem dX0_day_38 : decode cX0_day 38 = .ok (.getfield 27, 3) := dk_180 0 27 (dk_at dksX0_day_1 14 rfl rfl)
theorem dX0_day_41 : decode cX0_day 41 = .ok (.iload_n 1, 1) := dk_27 (dk_at dksX0_day_1 17 rfl rfl)
theorem dX0_day_42 : decode cX0_day 42 = .ok (.invokevirtual 207, 3) := dk_182 0 207 (dk_at dksX0_day_1 18 rfl rfl)
theorem dX0_day_45 : decode cX0_day 45 = .ok (.getfield 201, 3) := dk_180 0 201 (dk_at dksX0_day_1 21 rfl rfl)
theorem dX0_day_48 : decode cX0_day 48 = .ok (.ireturn, 1) := dk_172 (dk_at dksX0_day_2 0 rfl rfl)
abbrev cX0_note : ByteArray := prog_1_method_7_code
def yX0_note : MethodName := ⟨RX0, "note", "()V"⟩
def dkwX0_note_4 : List UInt8 := [50, 42, 180, 0, 27, 182, 0, 34, 87, 177]
abbrev dktX0_note_4 : List UInt8 := dkwX0_note_4 ++ []
def dkwX0_note_3 : List UInt8 := [187, 0, 35, 89, 42, 183, 0, 70, 83, 42, 180, 0, 61, 42, 89, 180, 0, 40, 90, 4, 96, 181, 0, 40]
abbrev dktX0_note_3 : List UInt8 := dkwX0_note_3 ++ dktX0_note_4
def dkwX0_note_2 : List UInt8 := [181, 0, 40, 42, 180, 0, 61, 42, 180, 0, 40, 50, 199, 0, 20, 42, 180, 0, 61, 42, 180, 0, 40]
abbrev dktX0_note_2 : List UInt8 := dkwX0_note_2 ++ dktX0_note_3
def dkwX0_note_1 : List UInt8 := [180, 0, 61, 3, 16, 7, 184, 0, 64, 42, 180, 0, 61, 16, 7, 43, 83, 42, 89, 180, 0, 40, 4, 100]
abbrev dktX0_note_1 : List UInt8 := dkwX0_note_1 ++ dktX0_note_2
def dkwX0_note_0 : List UInt8 := [42, 180, 0, 40, 16, 8, 160, 0, 43, 42, 180, 0, 61, 3, 50, 76, 42, 180, 0, 61, 4, 42]
abbrev dktX0_note_0 : List UInt8 := dkwX0_note_0 ++ dktX0_note_1
theorem dksX0_note_0 : cX0_note.data.toList.drop 0 = dktX0_note_0 := by decide +kernel
theorem dksX0_note_1 : cX0_note.data.toList.drop 22 = dktX0_note_1 := dk_seg dksX0_note_0 22 rfl rfl
theorem dksX0_note_2 : cX0_note.data.toList.drop 46 = dktX0_note_2 := dk_seg dksX0_note_1 24 rfl rfl
theorem dksX0_note_3 : cX0_note.data.toList.drop 69 = dktX0_note_3 := dk_seg dksX0_note_2 23 rfl rfl
theorem dksX0_note_4 : cX0_note.data.toList.drop 93 = dktX0_note_4 := dk_seg dksX0_note_3 24 rfl rfl
theorem dX0_note_0 : decode cX0_note 0 = .ok (.aload_n 0, 1) := dk_42 (dk_at dksX0_note_0 0 rfl rfl)
theorem dX0_note_1 : decode cX0_note 1 = .ok (.getfield 40, 3) := dk_180 0 40 (dk_at dksX0_note_0 1 rfl rfl)
theorem dX0_note_4 : decode cX0_note 4 = .ok (.bipush 8, 2) := dk_16 8 (dk_at dksX0_note_0 4 rfl rfl)
theorem dX0_note_6 : decode cX0_note 6 = .ok (.if_icmp .ne 43, 3) := dk_160 0 43 (dk_at dksX0_note_0 6 rfl rfl)
theorem dX0_note_9 : decode cX0_note 9 = .ok (.aload_n 0, 1) := dk_42 (dk_at dksX0_note_0 9 rfl rfl)
theorem dX0_note_10 : decode cX0_note 10 = .ok (.getfield 61, 3) := dk_180 0 61 (dk_at dksX0_note_0 10 rfl rfl)
theorem dX0_note_13 : decode cX0_note 13 = .ok (.iconst 0, 1) := dk_3 (dk_at dksX0_note_0 13 rfl rfl)
theorem dX0_note_14 : decode cX0_note 14 = .ok (.aaload, 1) := dk_50 (dk_at dksX0_note_0 14 rfl rfl)
theorem dX0_note_15 : decode cX0_note 15 = .ok (.astore_n 1, 1) := dk_76 (dk_at dksX0_note_0 15 rfl rfl)
theorem dX0_note_16 : decode cX0_note 16 = .ok (.aload_n 0, 1) := dk_42 (dk_at dksX0_note_0 16 rfl rfl)
theorem dX0_note_17 : decode cX0_note 17 = .ok (.getfield 61, 3) := dk_180 0 61 (dk_at dksX0_note_0 17 rfl rfl)
theorem dX0_note_20 : decode cX0_note 20 = .ok (.iconst 1, 1) := dk_4 (dk_at dksX0_note_0 20 rfl rfl)
theorem dX0_note_21 : decode cX0_note 21 = .ok (.aload_n 0, 1) := dk_42 (dk_at dksX0_note_0 21 rfl rfl)
theorem dX0_note_22 : decode cX0_note 22 = .ok (.getfield 61, 3) := dk_180 0 61 (dk_at dksX0_note_1 0 rfl rfl)
theorem dX0_note_25 : decode cX0_note 25 = .ok (.iconst 0, 1) := dk_3 (dk_at dksX0_note_1 3 rfl rfl)
theorem dX0_note_26 : decode cX0_note 26 = .ok (.bipush 7, 2) := dk_16 7 (dk_at dksX0_note_1 4 rfl rfl)
theorem dX0_note_28 : decode cX0_note 28 = .ok (.invokestatic 64, 3) := dk_184 0 64 (dk_at dksX0_note_1 6 rfl rfl)
theorem dX0_note_31 : decode cX0_note 31 = .ok (.aload_n 0, 1) := dk_42 (dk_at dksX0_note_1 9 rfl rfl)
theorem dX0_note_32 : decode cX0_note 32 = .ok (.getfield 61, 3) := dk_180 0 61 (dk_at dksX0_note_1 10 rfl rfl)
theorem dX0_note_35 : decode cX0_note 35 = .ok (.bipush 7, 2) := dk_16 7 (dk_at dksX0_note_1 13 rfl rfl)
theorem dX0_note_37 : decode cX0_note 37 = .ok (.aload_n 1, 1) := dk_43 (dk_at dksX0_note_1 15 rfl rfl)
theorem dX0_note_38 : decode cX0_note 38 = .ok (.aastore, 1) := dk_83 (dk_at dksX0_note_1 16 rfl rfl)
theorem dX0_note_39 : decode cX0_note 39 = .ok (.aload_n 0, 1) := dk_42 (dk_at dksX0_note_1 17 rfl rfl)
theorem dX0_note_40 : decode cX0_note 40 = .ok (.dup, 1) := dk_89 (dk_at dksX0_note_1 18 rfl rfl)
theorem dX0_note_41 : decode cX0_note 41 = .ok (.getfield 40, 3) := dk_180 0 40 (dk_at dksX0_note_1 19 rfl rfl)
theorem dX0_note_44 : decode cX0_note 44 = .ok (.iconst 1, 1) := dk_4 (dk_at dksX0_note_1 22 rfl rfl)
theorem dX0_note_45 : decode cX0_note 45 = .ok (.isub, 1) := dk_100 (dk_at dksX0_note_1 23 rfl rfl)
theorem dX0_note_46 : decode cX0_note 46 = .ok (.putfield 40, 3) := dk_181 0 40 (dk_at dksX0_note_2 0 rfl rfl)
theorem dX0_note_49 : decode cX0_note 49 = .ok (.aload_n 0, 1) := dk_42 (dk_at dksX0_note_2 3 rfl rfl)
theorem dX0_note_50 : decode cX0_note 50 = .ok (.getfield 61, 3) := dk_180 0 61 (dk_at dksX0_note_2 4 rfl rfl)
theorem dX0_note_53 : decode cX0_note 53 = .ok (.aload_n 0, 1) := dk_42 (dk_at dksX0_note_2 7 rfl rfl)
theorem dX0_note_54 : decode cX0_note 54 = .ok (.getfield 40, 3) := dk_180 0 40 (dk_at dksX0_note_2 8 rfl rfl)
theorem dX0_note_57 : decode cX0_note 57 = .ok (.aaload, 1) := dk_50 (dk_at dksX0_note_2 11 rfl rfl)
theorem dX0_note_58 : decode cX0_note 58 = .ok (.ifnonnull 20, 3) := dk_199 0 20 (dk_at dksX0_note_2 12 rfl rfl)
theorem dX0_note_61 : decode cX0_note 61 = .ok (.aload_n 0, 1) := dk_42 (dk_at dksX0_note_2 15 rfl rfl)
theorem dX0_note_62 : decode cX0_note 62 = .ok (.getfield 61, 3) := dk_180 0 61 (dk_at dksX0_note_2 16 rfl rfl)
theorem dX0_note_65 : decode cX0_note 65 = .ok (.aload_n 0, 1) := dk_42 (dk_at dksX0_note_2 19 rfl rfl)
theorem dX0_note_66 : decode cX0_note 66 = .ok (.getfield 40, 3) := dk_180 0 40 (dk_at dksX0_note_2 20 rfl rfl)
theorem dX0_note_69 : decode cX0_note 69 = .ok (.new 35, 3) := dk_187 0 35 (dk_at dksX0_note_3 0 rfl rfl)
theorem dX0_note_72 : decode cX0_note 72 = .ok (.dup, 1) := dk_89 (dk_at dksX0_note_3 3 rfl rfl)
theorem dX0_note_73 : decode cX0_note 73 = .ok (.aload_n 0, 1) := dk_42 (dk_at dksX0_note_3 4 rfl rfl)
theorem dX0_note_74 : decode cX0_note 74 = .ok (.invokespecial 70, 3) := dk_183 0 70 (dk_at dksX0_note_3 5 rfl rfl)
theorem dX0_note_77 : decode cX0_note 77 = .ok (.aastore, 1) := dk_83 (dk_at dksX0_note_3 8 rfl rfl)
theorem dX0_note_78 : decode cX0_note 78 = .ok (.aload_n 0, 1) := dk_42 (dk_at dksX0_note_3 9 rfl rfl)
theorem dX0_note_79 : decode cX0_note 79 = .ok (.getfield 61, 3) := dk_180 0 61 (dk_at dksX0_note_3 10 rfl rfl)
theorem dX0_note_82 : decode cX0_note 82 = .ok (.aload_n 0, 1) := dk_42 (dk_at dksX0_note_3 13 rfl rfl)
theorem dX0_note_83 : decode cX0_note 83 = .ok (.dup, 1) := dk_89 (dk_at dksX0_note_3 14 rfl rfl)
theorem dX0_note_84 : decode cX0_note 84 = .ok (.getfield 40, 3) := dk_180 0 40 (dk_at dksX0_note_3 15 rfl rfl)
theorem dX0_note_87 : decode cX0_note 87 = .ok (.dup_x1, 1) := dk_90 (dk_at dksX0_note_3 18 rfl rfl)
theorem dX0_note_88 : decode cX0_note 88 = .ok (.iconst 1, 1) := dk_4 (dk_at dksX0_note_3 19 rfl rfl)
theorem dX0_note_89 : decode cX0_note 89 = .ok (.iadd, 1) := dk_96 (dk_at dksX0_note_3 20 rfl rfl)
theorem dX0_note_90 : decode cX0_note 90 = .ok (.putfield 40, 3) := dk_181 0 40 (dk_at dksX0_note_3 21 rfl rfl)
theorem dX0_note_93 : decode cX0_note 93 = .ok (.aaload, 1) := dk_50 (dk_at dksX0_note_4 0 rfl rfl)
theorem dX0_note_94 : decode cX0_note 94 = .ok (.aload_n 0, 1) := dk_42 (dk_at dksX0_note_4 1 rfl rfl)
theorem dX0_note_95 : decode cX0_note 95 = .ok (.getfield 27, 3) := dk_180 0 27 (dk_at dksX0_note_4 2 rfl rfl)
theorem dX0_note_98 : decode cX0_note 98 = .ok (.invokevirtual 34, 3) := dk_182 0 34 (dk_at dksX0_note_4 5 rfl rfl)
theorem dX0_note_101 : decode cX0_note 101 = .ok (.pop, 1) := dk_87 (dk_at dksX0_note_4 8 rfl rfl)
theorem dX0_note_102 : decode cX0_note 102 = .ok (.return_, 1) := dk_177 (dk_at dksX0_note_4 9 rfl rfl)
abbrev cX0_bury : ByteArray := prog_1_method_23_code
def yX0_bury : MethodName := ⟨RX0, "bury", "(II)I"⟩
def dkwX0_bury_5 : List UInt8 := [128, 147, 86, 29, 172]
abbrev dktX0_bury_5 : List UInt8 := dkwX0_bury_5 ++ []
def dkwX0_bury_4 : List UInt8 := [180, 0, 27, 180, 0, 90, 29, 28, 145, 84, 42, 180, 0, 27, 180, 0, 79, 27, 92, 53, 4, 29, 120, 147]
abbrev dktX0_bury_4 : List UInt8 := dkwX0_bury_4 ++ dktX0_bury_5
def dkwX0_bury_3 : List UInt8 := [181, 0, 76, 62, 42, 180, 0, 27, 180, 0, 86, 29, 42, 180, 0, 27, 180, 0, 97, 27, 51, 84, 42]
abbrev dktX0_bury_3 : List UInt8 := dkwX0_bury_3 ++ dktX0_bury_4
def dkwX0_bury_2 : List UInt8 := [16, 9, 160, 0, 6, 16, 251, 172, 42, 182, 0, 204, 42, 180, 0, 27, 89, 180, 0, 76, 90, 4, 96]
abbrev dktX0_bury_2 : List UInt8 := dkwX0_bury_2 ++ dktX0_bury_3
def dkwX0_bury_1 : List UInt8 := [16, 253, 172, 42, 180, 0, 27, 27, 182, 0, 213, 153, 0, 6, 16, 252, 172, 42, 180, 0, 27, 180, 0, 76]
abbrev dktX0_bury_1 : List UInt8 := dkwX0_bury_1 ++ dktX0_bury_2
def dkwX0_bury_0 : List UInt8 := [42, 27, 182, 0, 170, 154, 0, 6, 16, 254, 172, 28, 133, 10, 20, 0, 211, 184, 0, 126, 154, 0, 6]
abbrev dktX0_bury_0 : List UInt8 := dkwX0_bury_0 ++ dktX0_bury_1
theorem dksX0_bury_0 : cX0_bury.data.toList.drop 0 = dktX0_bury_0 := by decide +kernel
theorem dksX0_bury_1 : cX0_bury.data.toList.drop 23 = dktX0_bury_1 := dk_seg dksX0_bury_0 23 rfl rfl
theorem dksX0_bury_2 : cX0_bury.data.toList.drop 47 = dktX0_bury_2 := dk_seg dksX0_bury_1 24 rfl rfl
theorem dksX0_bury_3 : cX0_bury.data.toList.drop 70 = dktX0_bury_3 := dk_seg dksX0_bury_2 23 rfl rfl
theorem dksX0_bury_4 : cX0_bury.data.toList.drop 93 = dktX0_bury_4 := dk_seg dksX0_bury_3 23 rfl rfl
theorem dksX0_bury_5 : cX0_bury.data.toList.drop 117 = dktX0_bury_5 := dk_seg dksX0_bury_4 24 rfl rfl
theorem dX0_bury_0 : decode cX0_bury 0 = .ok (.aload_n 0, 1) := dk_42 (dk_at dksX0_bury_0 0 rfl rfl)
theorem dX0_bury_1 : decode cX0_bury 1 = .ok (.iload_n 1, 1) := dk_27 (dk_at dksX0_bury_0 1 rfl rfl)
theorem dX0_bury_2 : decode cX0_bury 2 = .ok (.invokevirtual 170, 3) := dk_182 0 170 (dk_at dksX0_bury_0 2 rfl rfl)
theorem dX0_bury_5 : decode cX0_bury 5 = .ok (.ifCond .ne 6, 3) := dk_154 0 6 (dk_at dksX0_bury_0 5 rfl rfl)
theorem dX0_bury_8 : decode cX0_bury 8 = .ok (.bipush (-2), 2) := dk_16 254 (dk_at dksX0_bury_0 8 rfl rfl)
theorem dX0_bury_10 : decode cX0_bury 10 = .ok (.ireturn, 1) := dk_172 (dk_at dksX0_bury_0 10 rfl rfl)
theorem dX0_bury_11 : decode cX0_bury 11 = .ok (.iload_n 2, 1) := dk_28 (dk_at dksX0_bury_0 11 rfl rfl)
theorem dX0_bury_12 : decode cX0_bury 12 = .ok (.i2l, 1) := dk_133 (dk_at dksX0_bury_0 12 rfl rfl)
theorem dX0_bury_13 : decode cX0_bury 13 = .ok (.lconst 1, 1) := dk_10 (dk_at dksX0_bury_0 13 rfl rfl)
theorem dX0_bury_14 : decode cX0_bury 14 = .ok (.ldc2_w 211, 3) := dk_20 0 211 (dk_at dksX0_bury_0 14 rfl rfl)
theorem dX0_bury_17 : decode cX0_bury 17 = .ok (.invokestatic 126, 3) := dk_184 0 126 (dk_at dksX0_bury_0 17 rfl rfl)
theorem dX0_bury_20 : decode cX0_bury 20 = .ok (.ifCond .ne 6, 3) := dk_154 0 6 (dk_at dksX0_bury_0 20 rfl rfl)
theorem dX0_bury_23 : decode cX0_bury 23 = .ok (.bipush (-3), 2) := dk_16 253 (dk_at dksX0_bury_1 0 rfl rfl)
theorem dX0_bury_25 : decode cX0_bury 25 = .ok (.ireturn, 1) := dk_172 (dk_at dksX0_bury_1 2 rfl rfl)
theorem dX0_bury_26 : decode cX0_bury 26 = .ok (.aload_n 0, 1) := dk_42 (dk_at dksX0_bury_1 3 rfl rfl)
theorem dX0_bury_27 : decode cX0_bury 27 = .ok (.getfield 27, 3) := dk_180 0 27 (dk_at dksX0_bury_1 4 rfl rfl)
theorem dX0_bury_30 : decode cX0_bury 30 = .ok (.iload_n 1, 1) := dk_27 (dk_at dksX0_bury_1 7 rfl rfl)
theorem dX0_bury_31 : decode cX0_bury 31 = .ok (.invokevirtual 213, 3) := dk_182 0 213 (dk_at dksX0_bury_1 8 rfl rfl)
theorem dX0_bury_34 : decode cX0_bury 34 = .ok (.ifCond .eq 6, 3) := dk_153 0 6 (dk_at dksX0_bury_1 11 rfl rfl)
theorem dX0_bury_37 : decode cX0_bury 37 = .ok (.bipush (-4), 2) := dk_16 252 (dk_at dksX0_bury_1 14 rfl rfl)
theorem dX0_bury_39 : decode cX0_bury 39 = .ok (.ireturn, 1) := dk_172 (dk_at dksX0_bury_1 16 rfl rfl)
theorem dX0_bury_40 : decode cX0_bury 40 = .ok (.aload_n 0, 1) := dk_42 (dk_at dksX0_bury_1 17 rfl rfl)
theorem dX0_bury_41 : decode cX0_bury 41 = .ok (.getfield 27, 3) := dk_180 0 27 (dk_at dksX0_bury_1 18 rfl rfl)
theorem dX0_bury_44 : decode cX0_bury 44 = .ok (.getfield 76, 3) := dk_180 0 76 (dk_at dksX0_bury_1 21 rfl rfl)
theorem dX0_bury_47 : decode cX0_bury 47 = .ok (.bipush 9, 2) := dk_16 9 (dk_at dksX0_bury_2 0 rfl rfl)
theorem dX0_bury_49 : decode cX0_bury 49 = .ok (.if_icmp .ne 6, 3) := dk_160 0 6 (dk_at dksX0_bury_2 2 rfl rfl)
theorem dX0_bury_52 : decode cX0_bury 52 = .ok (.bipush (-5), 2) := dk_16 251 (dk_at dksX0_bury_2 5 rfl rfl)
theorem dX0_bury_54 : decode cX0_bury 54 = .ok (.ireturn, 1) := dk_172 (dk_at dksX0_bury_2 7 rfl rfl)
theorem dX0_bury_55 : decode cX0_bury 55 = .ok (.aload_n 0, 1) := dk_42 (dk_at dksX0_bury_2 8 rfl rfl)
theorem dX0_bury_56 : decode cX0_bury 56 = .ok (.invokevirtual 204, 3) := dk_182 0 204 (dk_at dksX0_bury_2 9 rfl rfl)
theorem dX0_bury_59 : decode cX0_bury 59 = .ok (.aload_n 0, 1) := dk_42 (dk_at dksX0_bury_2 12 rfl rfl)
theorem dX0_bury_60 : decode cX0_bury 60 = .ok (.getfield 27, 3) := dk_180 0 27 (dk_at dksX0_bury_2 13 rfl rfl)
theorem dX0_bury_63 : decode cX0_bury 63 = .ok (.dup, 1) := dk_89 (dk_at dksX0_bury_2 16 rfl rfl)
theorem dX0_bury_64 : decode cX0_bury 64 = .ok (.getfield 76, 3) := dk_180 0 76 (dk_at dksX0_bury_2 17 rfl rfl)
theorem dX0_bury_67 : decode cX0_bury 67 = .ok (.dup_x1, 1) := dk_90 (dk_at dksX0_bury_2 20 rfl rfl)
theorem dX0_bury_68 : decode cX0_bury 68 = .ok (.iconst 1, 1) := dk_4 (dk_at dksX0_bury_2 21 rfl rfl)
theorem dX0_bury_69 : decode cX0_bury 69 = .ok (.iadd, 1) := dk_96 (dk_at dksX0_bury_2 22 rfl rfl)
theorem dX0_bury_70 : decode cX0_bury 70 = .ok (.putfield 76, 3) := dk_181 0 76 (dk_at dksX0_bury_3 0 rfl rfl)
theorem dX0_bury_73 : decode cX0_bury 73 = .ok (.istore_n 3, 1) := dk_62 (dk_at dksX0_bury_3 3 rfl rfl)
theorem dX0_bury_74 : decode cX0_bury 74 = .ok (.aload_n 0, 1) := dk_42 (dk_at dksX0_bury_3 4 rfl rfl)
theorem dX0_bury_75 : decode cX0_bury 75 = .ok (.getfield 27, 3) := dk_180 0 27 (dk_at dksX0_bury_3 5 rfl rfl)
theorem dX0_bury_78 : decode cX0_bury 78 = .ok (.getfield 86, 3) := dk_180 0 86 (dk_at dksX0_bury_3 8 rfl rfl)
theorem dX0_bury_81 : decode cX0_bury 81 = .ok (.iload_n 3, 1) := dk_29 (dk_at dksX0_bury_3 11 rfl rfl)
theorem dX0_bury_82 : decode cX0_bury 82 = .ok (.aload_n 0, 1) := dk_42 (dk_at dksX0_bury_3 12 rfl rfl)
theorem dX0_bury_83 : decode cX0_bury 83 = .ok (.getfield 27, 3) := dk_180 0 27 (dk_at dksX0_bury_3 13 rfl rfl)
theorem dX0_bury_86 : decode cX0_bury 86 = .ok (.getfield 97, 3) := dk_180 0 97 (dk_at dksX0_bury_3 16 rfl rfl)
theorem dX0_bury_89 : decode cX0_bury 89 = .ok (.iload_n 1, 1) := dk_27 (dk_at dksX0_bury_3 19 rfl rfl)
theorem dX0_bury_90 : decode cX0_bury 90 = .ok (.baload, 1) := dk_51 (dk_at dksX0_bury_3 20 rfl rfl)
theorem dX0_bury_91 : decode cX0_bury 91 = .ok (.bastore, 1) := dk_84 (dk_at dksX0_bury_3 21 rfl rfl)
theorem dX0_bury_92 : decode cX0_bury 92 = .ok (.aload_n 0, 1) := dk_42 (dk_at dksX0_bury_3 22 rfl rfl)
theorem dX0_bury_93 : decode cX0_bury 93 = .ok (.getfield 27, 3) := dk_180 0 27 (dk_at dksX0_bury_4 0 rfl rfl)
theorem dX0_bury_96 : decode cX0_bury 96 = .ok (.getfield 90, 3) := dk_180 0 90 (dk_at dksX0_bury_4 3 rfl rfl)
theorem dX0_bury_99 : decode cX0_bury 99 = .ok (.iload_n 3, 1) := dk_29 (dk_at dksX0_bury_4 6 rfl rfl)
theorem dX0_bury_100 : decode cX0_bury 100 = .ok (.iload_n 2, 1) := dk_28 (dk_at dksX0_bury_4 7 rfl rfl)
theorem dX0_bury_101 : decode cX0_bury 101 = .ok (.i2b, 1) := dk_145 (dk_at dksX0_bury_4 8 rfl rfl)
theorem dX0_bury_102 : decode cX0_bury 102 = .ok (.bastore, 1) := dk_84 (dk_at dksX0_bury_4 9 rfl rfl)
theorem dX0_bury_103 : decode cX0_bury 103 = .ok (.aload_n 0, 1) := dk_42 (dk_at dksX0_bury_4 10 rfl rfl)
theorem dX0_bury_104 : decode cX0_bury 104 = .ok (.getfield 27, 3) := dk_180 0 27 (dk_at dksX0_bury_4 11 rfl rfl)
theorem dX0_bury_107 : decode cX0_bury 107 = .ok (.getfield 79, 3) := dk_180 0 79 (dk_at dksX0_bury_4 14 rfl rfl)
theorem dX0_bury_110 : decode cX0_bury 110 = .ok (.iload_n 1, 1) := dk_27 (dk_at dksX0_bury_4 17 rfl rfl)
theorem dX0_bury_111 : decode cX0_bury 111 = .ok (.dup2, 1) := dk_92 (dk_at dksX0_bury_4 18 rfl rfl)
theorem dX0_bury_112 : decode cX0_bury 112 = .ok (.saload, 1) := dk_53 (dk_at dksX0_bury_4 19 rfl rfl)
theorem dX0_bury_113 : decode cX0_bury 113 = .ok (.iconst 1, 1) := dk_4 (dk_at dksX0_bury_4 20 rfl rfl)
theorem dX0_bury_114 : decode cX0_bury 114 = .ok (.iload_n 3, 1) := dk_29 (dk_at dksX0_bury_4 21 rfl rfl)
theorem dX0_bury_115 : decode cX0_bury 115 = .ok (.ishl, 1) := dk_120 (dk_at dksX0_bury_4 22 rfl rfl)
theorem dX0_bury_116 : decode cX0_bury 116 = .ok (.i2s, 1) := dk_147 (dk_at dksX0_bury_4 23 rfl rfl)
theorem dX0_bury_117 : decode cX0_bury 117 = .ok (.ior, 1) := dk_128 (dk_at dksX0_bury_5 0 rfl rfl)
theorem dX0_bury_118 : decode cX0_bury 118 = .ok (.i2s, 1) := dk_147 (dk_at dksX0_bury_5 1 rfl rfl)
theorem dX0_bury_119 : decode cX0_bury 119 = .ok (.sastore, 1) := dk_86 (dk_at dksX0_bury_5 2 rfl rfl)
theorem dX0_bury_120 : decode cX0_bury 120 = .ok (.iload_n 3, 1) := dk_29 (dk_at dksX0_bury_5 3 rfl rfl)
theorem dX0_bury_121 : decode cX0_bury 121 = .ok (.ireturn, 1) := dk_172 (dk_at dksX0_bury_5 4 rfl rfl)
abbrev cX0_raid : ByteArray := prog_1_method_24_code
def yX0_raid : MethodName := ⟨RX0, "raid", "(II)I"⟩
def dkwX0_raid_2 : List UInt8 := [180, 0, 27, 180, 0, 90, 27, 92, 51, 28, 145, 100, 145, 84, 42, 180, 0, 27, 180, 0, 90, 27, 51, 172]
abbrev dktX0_raid_2 : List UInt8 := dkwX0_raid_2 ++ []
def dkwX0_raid_1 : List UInt8 := [16, 253, 172, 42, 180, 0, 27, 180, 0, 90, 27, 51, 28, 162, 0, 6, 16, 252, 172, 42, 182, 0, 204, 42]
abbrev dktX0_raid_1 : List UInt8 := dkwX0_raid_1 ++ dktX0_raid_2
def dkwX0_raid_0 : List UInt8 := [42, 27, 182, 0, 159, 154, 0, 6, 16, 254, 172, 28, 133, 10, 20, 0, 211, 184, 0, 126, 154, 0, 6]
abbrev dktX0_raid_0 : List UInt8 := dkwX0_raid_0 ++ dktX0_raid_1
theorem dksX0_raid_0 : cX0_raid.data.toList.drop 0 = dktX0_raid_0 := by decide +kernel
theorem dksX0_raid_1 : cX0_raid.data.toList.drop 23 = dktX0_raid_1 := dk_seg dksX0_raid_0 23 rfl rfl
theorem dksX0_raid_2 : cX0_raid.data.toList.drop 47 = dktX0_raid_2 := dk_seg dksX0_raid_1 24 rfl rfl
theorem dX0_raid_0 : decode cX0_raid 0 = .ok (.aload_n 0, 1) := dk_42 (dk_at dksX0_raid_0 0 rfl rfl)
theorem dX0_raid_1 : decode cX0_raid 1 = .ok (.iload_n 1, 1) := dk_27 (dk_at dksX0_raid_0 1 rfl rfl)
theorem dX0_raid_2 : decode cX0_raid 2 = .ok (.invokevirtual 159, 3) := dk_182 0 159 (dk_at dksX0_raid_0 2 rfl rfl)
theorem dX0_raid_5 : decode cX0_raid 5 = .ok (.ifCond .ne 6, 3) := dk_154 0 6 (dk_at dksX0_raid_0 5 rfl rfl)
theorem dX0_raid_8 : decode cX0_raid 8 = .ok (.bipush (-2), 2) := dk_16 254 (dk_at dksX0_raid_0 8 rfl rfl)
theorem dX0_raid_10 : decode cX0_raid 10 = .ok (.ireturn, 1) := dk_172 (dk_at dksX0_raid_0 10 rfl rfl)
theorem dX0_raid_11 : decode cX0_raid 11 = .ok (.iload_n 2, 1) := dk_28 (dk_at dksX0_raid_0 11 rfl rfl)
theorem dX0_raid_12 : decode cX0_raid 12 = .ok (.i2l, 1) := dk_133 (dk_at dksX0_raid_0 12 rfl rfl)
theorem dX0_raid_13 : decode cX0_raid 13 = .ok (.lconst 1, 1) := dk_10 (dk_at dksX0_raid_0 13 rfl rfl)
theorem dX0_raid_14 : decode cX0_raid 14 = .ok (.ldc2_w 211, 3) := dk_20 0 211 (dk_at dksX0_raid_0 14 rfl rfl)
theorem dX0_raid_17 : decode cX0_raid 17 = .ok (.invokestatic 126, 3) := dk_184 0 126 (dk_at dksX0_raid_0 17 rfl rfl)
theorem dX0_raid_20 : decode cX0_raid 20 = .ok (.ifCond .ne 6, 3) := dk_154 0 6 (dk_at dksX0_raid_0 20 rfl rfl)
theorem dX0_raid_23 : decode cX0_raid 23 = .ok (.bipush (-3), 2) := dk_16 253 (dk_at dksX0_raid_1 0 rfl rfl)
theorem dX0_raid_25 : decode cX0_raid 25 = .ok (.ireturn, 1) := dk_172 (dk_at dksX0_raid_1 2 rfl rfl)
theorem dX0_raid_26 : decode cX0_raid 26 = .ok (.aload_n 0, 1) := dk_42 (dk_at dksX0_raid_1 3 rfl rfl)
theorem dX0_raid_27 : decode cX0_raid 27 = .ok (.getfield 27, 3) := dk_180 0 27 (dk_at dksX0_raid_1 4 rfl rfl)
theorem dX0_raid_30 : decode cX0_raid 30 = .ok (.getfield 90, 3) := dk_180 0 90 (dk_at dksX0_raid_1 7 rfl rfl)
theorem dX0_raid_33 : decode cX0_raid 33 = .ok (.iload_n 1, 1) := dk_27 (dk_at dksX0_raid_1 10 rfl rfl)
theorem dX0_raid_34 : decode cX0_raid 34 = .ok (.baload, 1) := dk_51 (dk_at dksX0_raid_1 11 rfl rfl)
theorem dX0_raid_35 : decode cX0_raid 35 = .ok (.iload_n 2, 1) := dk_28 (dk_at dksX0_raid_1 12 rfl rfl)
theorem dX0_raid_36 : decode cX0_raid 36 = .ok (.if_icmp .ge 6, 3) := dk_162 0 6 (dk_at dksX0_raid_1 13 rfl rfl)
theorem dX0_raid_39 : decode cX0_raid 39 = .ok (.bipush (-4), 2) := dk_16 252 (dk_at dksX0_raid_1 16 rfl rfl)
theorem dX0_raid_41 : decode cX0_raid 41 = .ok (.ireturn, 1) := dk_172 (dk_at dksX0_raid_1 18 rfl rfl)
theorem dX0_raid_42 : decode cX0_raid 42 = .ok (.aload_n 0, 1) := dk_42 (dk_at dksX0_raid_1 19 rfl rfl)
theorem dX0_raid_43 : decode cX0_raid 43 = .ok (.invokevirtual 204, 3) := dk_182 0 204 (dk_at dksX0_raid_1 20 rfl rfl)
theorem dX0_raid_46 : decode cX0_raid 46 = .ok (.aload_n 0, 1) := dk_42 (dk_at dksX0_raid_1 23 rfl rfl)
theorem dX0_raid_47 : decode cX0_raid 47 = .ok (.getfield 27, 3) := dk_180 0 27 (dk_at dksX0_raid_2 0 rfl rfl)
theorem dX0_raid_50 : decode cX0_raid 50 = .ok (.getfield 90, 3) := dk_180 0 90 (dk_at dksX0_raid_2 3 rfl rfl)
theorem dX0_raid_53 : decode cX0_raid 53 = .ok (.iload_n 1, 1) := dk_27 (dk_at dksX0_raid_2 6 rfl rfl)
theorem dX0_raid_54 : decode cX0_raid 54 = .ok (.dup2, 1) := dk_92 (dk_at dksX0_raid_2 7 rfl rfl)
theorem dX0_raid_55 : decode cX0_raid 55 = .ok (.baload, 1) := dk_51 (dk_at dksX0_raid_2 8 rfl rfl)
theorem dX0_raid_56 : decode cX0_raid 56 = .ok (.iload_n 2, 1) := dk_28 (dk_at dksX0_raid_2 9 rfl rfl)
theorem dX0_raid_57 : decode cX0_raid 57 = .ok (.i2b, 1) := dk_145 (dk_at dksX0_raid_2 10 rfl rfl)
theorem dX0_raid_58 : decode cX0_raid 58 = .ok (.isub, 1) := dk_100 (dk_at dksX0_raid_2 11 rfl rfl)
theorem dX0_raid_59 : decode cX0_raid 59 = .ok (.i2b, 1) := dk_145 (dk_at dksX0_raid_2 12 rfl rfl)
theorem dX0_raid_60 : decode cX0_raid 60 = .ok (.bastore, 1) := dk_84 (dk_at dksX0_raid_2 13 rfl rfl)
theorem dX0_raid_61 : decode cX0_raid 61 = .ok (.aload_n 0, 1) := dk_42 (dk_at dksX0_raid_2 14 rfl rfl)
theorem dX0_raid_62 : decode cX0_raid 62 = .ok (.getfield 27, 3) := dk_180 0 27 (dk_at dksX0_raid_2 15 rfl rfl)
theorem dX0_raid_65 : decode cX0_raid 65 = .ok (.getfield 90, 3) := dk_180 0 90 (dk_at dksX0_raid_2 18 rfl rfl)
theorem dX0_raid_68 : decode cX0_raid 68 = .ok (.iload_n 1, 1) := dk_27 (dk_at dksX0_raid_2 21 rfl rfl)
theorem dX0_raid_69 : decode cX0_raid 69 = .ok (.baload, 1) := dk_51 (dk_at dksX0_raid_2 22 rfl rfl)
theorem dX0_raid_70 : decode cX0_raid 70 = .ok (.ireturn, 1) := dk_172 (dk_at dksX0_raid_2 23 rfl rfl)
abbrev cX0_tell_2 : ByteArray := prog_1_method_25_code
def yX0_tell_2 : MethodName := ⟨RX0, "tell", "(II)I"⟩
def dkwX0_tell_2_3 : List UInt8 := [42, 180, 0, 27, 180, 0, 79, 27, 53, 172]
abbrev dktX0_tell_2_3 : List UInt8 := dkwX0_tell_2_3 ++ []
def dkwX0_tell_2_2 : List UInt8 := [16, 252, 172, 42, 182, 0, 204, 42, 180, 0, 27, 180, 0, 79, 27, 92, 53, 4, 28, 120, 147, 128, 147, 86]
abbrev dktX0_tell_2_2 : List UInt8 := dkwX0_tell_2_2 ++ dktX0_tell_2_3
def dkwX0_tell_2_1 : List UInt8 := [180, 0, 79, 27, 53, 28, 184, 0, 155, 154, 0, 14, 42, 180, 0, 27, 27, 182, 0, 213, 153, 0, 6]
abbrev dktX0_tell_2_1 : List UInt8 := dkwX0_tell_2_1 ++ dktX0_tell_2_2
def dkwX0_tell_2_0 : List UInt8 := [42, 27, 182, 0, 170, 153, 0, 11, 42, 28, 182, 0, 159, 154, 0, 6, 16, 254, 172, 42, 180, 0, 27]
abbrev dktX0_tell_2_0 : List UInt8 := dkwX0_tell_2_0 ++ dktX0_tell_2_1
theorem dksX0_tell_2_0 : cX0_tell_2.data.toList.drop 0 = dktX0_tell_2_0 := by decide +kernel
theorem dksX0_tell_2_1 : cX0_tell_2.data.toList.drop 23 = dktX0_tell_2_1 := dk_seg dksX0_tell_2_0 23 rfl rfl
theorem dksX0_tell_2_2 : cX0_tell_2.data.toList.drop 46 = dktX0_tell_2_2 := dk_seg dksX0_tell_2_1 23 rfl rfl
theorem dksX0_tell_2_3 : cX0_tell_2.data.toList.drop 70 = dktX0_tell_2_3 := dk_seg dksX0_tell_2_2 24 rfl rfl
theorem dX0_tell_2_0 : decode cX0_tell_2 0 = .ok (.aload_n 0, 1) := dk_42 (dk_at dksX0_tell_2_0 0 rfl rfl)
theorem dX0_tell_2_1 : decode cX0_tell_2 1 = .ok (.iload_n 1, 1) := dk_27 (dk_at dksX0_tell_2_0 1 rfl rfl)
theorem dX0_tell_2_2 : decode cX0_tell_2 2 = .ok (.invokevirtual 170, 3) := dk_182 0 170 (dk_at dksX0_tell_2_0 2 rfl rfl)
theorem dX0_tell_2_5 : decode cX0_tell_2 5 = .ok (.ifCond .eq 11, 3) := dk_153 0 11 (dk_at dksX0_tell_2_0 5 rfl rfl)
theorem dX0_tell_2_8 : decode cX0_tell_2 8 = .ok (.aload_n 0, 1) := dk_42 (dk_at dksX0_tell_2_0 8 rfl rfl)
theorem dX0_tell_2_9 : decode cX0_tell_2 9 = .ok (.iload_n 2, 1) := dk_28 (dk_at dksX0_tell_2_0 9 rfl rfl)
theorem dX0_tell_2_10 : decode cX0_tell_2 10 = .ok (.invokevirtual 159, 3) := dk_182 0 159 (dk_at dksX0_tell_2_0 10 rfl rfl)
theorem dX0_tell_2_13 : decode cX0_tell_2 13 = .ok (.ifCond .ne 6, 3) := dk_154 0 6 (dk_at dksX0_tell_2_0 13 rfl rfl)
theorem dX0_tell_2_16 : decode cX0_tell_2 16 = .ok (.bipush (-2), 2) := dk_16 254 (dk_at dksX0_tell_2_0 16 rfl rfl)
theorem dX0_tell_2_18 : decode cX0_tell_2 18 = .ok (.ireturn, 1) := dk_172 (dk_at dksX0_tell_2_0 18 rfl rfl)
theorem dX0_tell_2_19 : decode cX0_tell_2 19 = .ok (.aload_n 0, 1) := dk_42 (dk_at dksX0_tell_2_0 19 rfl rfl)
theorem dX0_tell_2_20 : decode cX0_tell_2 20 = .ok (.getfield 27, 3) := dk_180 0 27 (dk_at dksX0_tell_2_0 20 rfl rfl)
theorem dX0_tell_2_23 : decode cX0_tell_2 23 = .ok (.getfield 79, 3) := dk_180 0 79 (dk_at dksX0_tell_2_1 0 rfl rfl)
theorem dX0_tell_2_26 : decode cX0_tell_2 26 = .ok (.iload_n 1, 1) := dk_27 (dk_at dksX0_tell_2_1 3 rfl rfl)
theorem dX0_tell_2_27 : decode cX0_tell_2 27 = .ok (.saload, 1) := dk_53 (dk_at dksX0_tell_2_1 4 rfl rfl)
theorem dX0_tell_2_28 : decode cX0_tell_2 28 = .ok (.iload_n 2, 1) := dk_28 (dk_at dksX0_tell_2_1 5 rfl rfl)
theorem dX0_tell_2_29 : decode cX0_tell_2 29 = .ok (.invokestatic 155, 3) := dk_184 0 155 (dk_at dksX0_tell_2_1 6 rfl rfl)
theorem dX0_tell_2_32 : decode cX0_tell_2 32 = .ok (.ifCond .ne 14, 3) := dk_154 0 14 (dk_at dksX0_tell_2_1 9 rfl rfl)
theorem dX0_tell_2_35 : decode cX0_tell_2 35 = .ok (.aload_n 0, 1) := dk_42 (dk_at dksX0_tell_2_1 12 rfl rfl)
theorem dX0_tell_2_36 : decode cX0_tell_2 36 = .ok (.getfield 27, 3) := dk_180 0 27 (dk_at dksX0_tell_2_1 13 rfl rfl)
theorem dX0_tell_2_39 : decode cX0_tell_2 39 = .ok (.iload_n 1, 1) := dk_27 (dk_at dksX0_tell_2_1 16 rfl rfl)
theorem dX0_tell_2_40 : decode cX0_tell_2 40 = .ok (.invokevirtual 213, 3) := dk_182 0 213 (dk_at dksX0_tell_2_1 17 rfl rfl)
theorem dX0_tell_2_43 : decode cX0_tell_2 43 = .ok (.ifCond .eq 6, 3) := dk_153 0 6 (dk_at dksX0_tell_2_1 20 rfl rfl)
theorem dX0_tell_2_46 : decode cX0_tell_2 46 = .ok (.bipush (-4), 2) := dk_16 252 (dk_at dksX0_tell_2_2 0 rfl rfl)
theorem dX0_tell_2_48 : decode cX0_tell_2 48 = .ok (.ireturn, 1) := dk_172 (dk_at dksX0_tell_2_2 2 rfl rfl)
theorem dX0_tell_2_49 : decode cX0_tell_2 49 = .ok (.aload_n 0, 1) := dk_42 (dk_at dksX0_tell_2_2 3 rfl rfl)
theorem dX0_tell_2_50 : decode cX0_tell_2 50 = .ok (.invokevirtual 204, 3) := dk_182 0 204 (dk_at dksX0_tell_2_2 4 rfl rfl)
theorem dX0_tell_2_53 : decode cX0_tell_2 53 = .ok (.aload_n 0, 1) := dk_42 (dk_at dksX0_tell_2_2 7 rfl rfl)
theorem dX0_tell_2_54 : decode cX0_tell_2 54 = .ok (.getfield 27, 3) := dk_180 0 27 (dk_at dksX0_tell_2_2 8 rfl rfl)
theorem dX0_tell_2_57 : decode cX0_tell_2 57 = .ok (.getfield 79, 3) := dk_180 0 79 (dk_at dksX0_tell_2_2 11 rfl rfl)
theorem dX0_tell_2_60 : decode cX0_tell_2 60 = .ok (.iload_n 1, 1) := dk_27 (dk_at dksX0_tell_2_2 14 rfl rfl)
theorem dX0_tell_2_61 : decode cX0_tell_2 61 = .ok (.dup2, 1) := dk_92 (dk_at dksX0_tell_2_2 15 rfl rfl)
theorem dX0_tell_2_62 : decode cX0_tell_2 62 = .ok (.saload, 1) := dk_53 (dk_at dksX0_tell_2_2 16 rfl rfl)
theorem dX0_tell_2_63 : decode cX0_tell_2 63 = .ok (.iconst 1, 1) := dk_4 (dk_at dksX0_tell_2_2 17 rfl rfl)
theorem dX0_tell_2_64 : decode cX0_tell_2 64 = .ok (.iload_n 2, 1) := dk_28 (dk_at dksX0_tell_2_2 18 rfl rfl)
theorem dX0_tell_2_65 : decode cX0_tell_2 65 = .ok (.ishl, 1) := dk_120 (dk_at dksX0_tell_2_2 19 rfl rfl)
theorem dX0_tell_2_66 : decode cX0_tell_2 66 = .ok (.i2s, 1) := dk_147 (dk_at dksX0_tell_2_2 20 rfl rfl)
theorem dX0_tell_2_67 : decode cX0_tell_2 67 = .ok (.ior, 1) := dk_128 (dk_at dksX0_tell_2_2 21 rfl rfl)
theorem dX0_tell_2_68 : decode cX0_tell_2 68 = .ok (.i2s, 1) := dk_147 (dk_at dksX0_tell_2_2 22 rfl rfl)
theorem dX0_tell_2_69 : decode cX0_tell_2 69 = .ok (.sastore, 1) := dk_86 (dk_at dksX0_tell_2_2 23 rfl rfl)
theorem dX0_tell_2_70 : decode cX0_tell_2 70 = .ok (.aload_n 0, 1) := dk_42 (dk_at dksX0_tell_2_3 0 rfl rfl)
theorem dX0_tell_2_71 : decode cX0_tell_2 71 = .ok (.getfield 27, 3) := dk_180 0 27 (dk_at dksX0_tell_2_3 1 rfl rfl)
theorem dX0_tell_2_74 : decode cX0_tell_2 74 = .ok (.getfield 79, 3) := dk_180 0 79 (dk_at dksX0_tell_2_3 4 rfl rfl)
theorem dX0_tell_2_77 : decode cX0_tell_2 77 = .ok (.iload_n 1, 1) := dk_27 (dk_at dksX0_tell_2_3 7 rfl rfl)
theorem dX0_tell_2_78 : decode cX0_tell_2 78 = .ok (.saload, 1) := dk_53 (dk_at dksX0_tell_2_3 8 rfl rfl)
theorem dX0_tell_2_79 : decode cX0_tell_2 79 = .ok (.ireturn, 1) := dk_172 (dk_at dksX0_tell_2_3 9 rfl rfl)
abbrev cX0_undo : ByteArray := prog_1_method_26_code
def yX0_undo : MethodName := ⟨RX0, "undo", "()I"⟩
def dkwX0_undo_1 : List UInt8 := [100, 90, 181, 0, 40, 50, 182, 0, 34, 87, 42, 180, 0, 40, 172]
abbrev dktX0_undo_1 : List UInt8 := dkwX0_undo_1 ++ []
def dkwX0_undo_0 : List UInt8 := [42, 180, 0, 40, 154, 0, 6, 16, 252, 172, 42, 180, 0, 27, 42, 180, 0, 61, 42, 89, 180, 0, 40, 4]
abbrev dktX0_undo_0 : List UInt8 := dkwX0_undo_0 ++ dktX0_undo_1
theorem dksX0_undo_0 : cX0_undo.data.toList.drop 0 = dktX0_undo_0 := by decide +kernel
theorem dksX0_undo_1 : cX0_undo.data.toList.drop 24 = dktX0_undo_1 := dk_seg dksX0_undo_0 24 rfl rfl
theorem dX0_undo_0 : decode cX0_undo 0 = .ok (.aload_n 0, 1) := dk_42 (dk_at dksX0_undo_0 0 rfl rfl)
theorem dX0_undo_1 : decode cX0_undo 1 = .ok (.getfield 40, 3) := dk_180 0 40 (dk_at dksX0_undo_0 1 rfl rfl)
theorem dX0_undo_4 : decode cX0_undo 4 = .ok (.ifCond .ne 6, 3) := dk_154 0 6 (dk_at dksX0_undo_0 4 rfl rfl)
theorem dX0_undo_7 : decode cX0_undo 7 = .ok (.bipush (-4), 2) := dk_16 252 (dk_at dksX0_undo_0 7 rfl rfl)
theorem dX0_undo_9 : decode cX0_undo 9 = .ok (.ireturn, 1) := dk_172 (dk_at dksX0_undo_0 9 rfl rfl)
theorem dX0_undo_10 : decode cX0_undo 10 = .ok (.aload_n 0, 1) := dk_42 (dk_at dksX0_undo_0 10 rfl rfl)
theorem dX0_undo_11 : decode cX0_undo 11 = .ok (.getfield 27, 3) := dk_180 0 27 (dk_at dksX0_undo_0 11 rfl rfl)
theorem dX0_undo_14 : decode cX0_undo 14 = .ok (.aload_n 0, 1) := dk_42 (dk_at dksX0_undo_0 14 rfl rfl)
theorem dX0_undo_15 : decode cX0_undo 15 = .ok (.getfield 61, 3) := dk_180 0 61 (dk_at dksX0_undo_0 15 rfl rfl)
theorem dX0_undo_18 : decode cX0_undo 18 = .ok (.aload_n 0, 1) := dk_42 (dk_at dksX0_undo_0 18 rfl rfl)
theorem dX0_undo_19 : decode cX0_undo 19 = .ok (.dup, 1) := dk_89 (dk_at dksX0_undo_0 19 rfl rfl)
theorem dX0_undo_20 : decode cX0_undo 20 = .ok (.getfield 40, 3) := dk_180 0 40 (dk_at dksX0_undo_0 20 rfl rfl)
theorem dX0_undo_23 : decode cX0_undo 23 = .ok (.iconst 1, 1) := dk_4 (dk_at dksX0_undo_0 23 rfl rfl)
theorem dX0_undo_24 : decode cX0_undo 24 = .ok (.isub, 1) := dk_100 (dk_at dksX0_undo_1 0 rfl rfl)
theorem dX0_undo_25 : decode cX0_undo 25 = .ok (.dup_x1, 1) := dk_90 (dk_at dksX0_undo_1 1 rfl rfl)
theorem dX0_undo_26 : decode cX0_undo 26 = .ok (.putfield 40, 3) := dk_181 0 40 (dk_at dksX0_undo_1 2 rfl rfl)
theorem dX0_undo_29 : decode cX0_undo 29 = .ok (.aaload, 1) := dk_50 (dk_at dksX0_undo_1 5 rfl rfl)
theorem dX0_undo_30 : decode cX0_undo 30 = .ok (.invokevirtual 34, 3) := dk_182 0 34 (dk_at dksX0_undo_1 6 rfl rfl)
theorem dX0_undo_33 : decode cX0_undo 33 = .ok (.pop, 1) := dk_87 (dk_at dksX0_undo_1 9 rfl rfl)
theorem dX0_undo_34 : decode cX0_undo 34 = .ok (.aload_n 0, 1) := dk_42 (dk_at dksX0_undo_1 10 rfl rfl)
theorem dX0_undo_35 : decode cX0_undo 35 = .ok (.getfield 40, 3) := dk_180 0 40 (dk_at dksX0_undo_1 11 rfl rfl)
theorem dX0_undo_38 : decode cX0_undo 38 = .ok (.ireturn, 1) := dk_172 (dk_at dksX0_undo_1 14 rfl rfl)
abbrev cX0_keep : ByteArray := prog_1_method_27_code
def yX0_keep : MethodName := ⟨RX0, "keep", "(I)I"⟩
def dkwX0_keep_1 : List UInt8 := [183, 0, 70, 42, 180, 0, 27, 182, 0, 34, 83, 42, 180, 0, 27, 180, 0, 201, 172]
abbrev dktX0_keep_1 : List UInt8 := dkwX0_keep_1 ++ []
def dkwX0_keep_0 : List UInt8 := [27, 133, 9, 10, 184, 0, 126, 154, 0, 6, 16, 254, 172, 42, 180, 0, 47, 27, 187, 0, 35, 89, 42]
abbrev dktX0_keep_0 : List UInt8 := dkwX0_keep_0 ++ dktX0_keep_1
theorem dksX0_keep_0 : cX0_keep.data.toList.drop 0 = dktX0_keep_0 := by decide +kernel
theorem dksX0_keep_1 : cX0_keep.data.toList.drop 23 = dktX0_keep_1 := dk_seg dksX0_keep_0 23 rfl rfl
theorem dX0_keep_0 : decode cX0_keep 0 = .ok (.iload_n 1, 1) := dk_27 (dk_at dksX0_keep_0 0 rfl rfl)
theorem dX0_keep_1 : decode cX0_keep 1 = .ok (.i2l, 1) := dk_133 (dk_at dksX0_keep_0 1 rfl rfl)
theorem dX0_keep_2 : decode cX0_keep 2 = .ok (.lconst 0, 1) := dk_9 (dk_at dksX0_keep_0 2 rfl rfl)
theorem dX0_keep_3 : decode cX0_keep 3 = .ok (.lconst 1, 1) := dk_10 (dk_at dksX0_keep_0 3 rfl rfl)
theorem dX0_keep_4 : decode cX0_keep 4 = .ok (.invokestatic 126, 3) := dk_184 0 126 (dk_at dksX0_keep_0 4 rfl rfl)
theorem dX0_keep_7 : decode cX0_keep 7 = .ok (.ifCond .ne 6, 3) := dk_154 0 6 (dk_at dksX0_keep_0 7 rfl rfl)
theorem dX0_keep_10 : decode cX0_keep 10 = .ok (.bipush (-2), 2) := dk_16 254 (dk_at dksX0_keep_0 10 rfl rfl)
theorem dX0_keep_12 : decode cX0_keep 12 = .ok (.ireturn, 1) := dk_172 (dk_at dksX0_keep_0 12 rfl rfl)
theorem dX0_keep_13 : decode cX0_keep 13 = .ok (.aload_n 0, 1) := dk_42 (dk_at dksX0_keep_0 13 rfl rfl)
theorem dX0_keep_14 : decode cX0_keep 14 = .ok (.getfield 47, 3) := dk_180 0 47 (dk_at dksX0_keep_0 14 rfl rfl)
theorem dX0_keep_17 : decode cX0_keep 17 = .ok (.iload_n 1, 1) := dk_27 (dk_at dksX0_keep_0 17 rfl rfl)
theorem dX0_keep_18 : decode cX0_keep 18 = .ok (.new 35, 3) := dk_187 0 35 (dk_at dksX0_keep_0 18 rfl rfl)
theorem dX0_keep_21 : decode cX0_keep 21 = .ok (.dup, 1) := dk_89 (dk_at dksX0_keep_0 21 rfl rfl)
theorem dX0_keep_22 : decode cX0_keep 22 = .ok (.aload_n 0, 1) := dk_42 (dk_at dksX0_keep_0 22 rfl rfl)
theorem dX0_keep_23 : decode cX0_keep 23 = .ok (.invokespecial 70, 3) := dk_183 0 70 (dk_at dksX0_keep_1 0 rfl rfl)
theorem dX0_keep_26 : decode cX0_keep 26 = .ok (.aload_n 0, 1) := dk_42 (dk_at dksX0_keep_1 3 rfl rfl)
theorem dX0_keep_27 : decode cX0_keep 27 = .ok (.getfield 27, 3) := dk_180 0 27 (dk_at dksX0_keep_1 4 rfl rfl)
theorem dX0_keep_30 : decode cX0_keep 30 = .ok (.invokevirtual 34, 3) := dk_182 0 34 (dk_at dksX0_keep_1 7 rfl rfl)
theorem dX0_keep_33 : decode cX0_keep 33 = .ok (.aastore, 1) := dk_83 (dk_at dksX0_keep_1 10 rfl rfl)
theorem dX0_keep_34 : decode cX0_keep 34 = .ok (.aload_n 0, 1) := dk_42 (dk_at dksX0_keep_1 11 rfl rfl)
theorem dX0_keep_35 : decode cX0_keep 35 = .ok (.getfield 27, 3) := dk_180 0 27 (dk_at dksX0_keep_1 12 rfl rfl)
theorem dX0_keep_38 : decode cX0_keep 38 = .ok (.getfield 201, 3) := dk_180 0 201 (dk_at dksX0_keep_1 15 rfl rfl)
theorem dX0_keep_41 : decode cX0_keep 41 = .ok (.ireturn, 1) := dk_172 (dk_at dksX0_keep_1 18 rfl rfl)
abbrev cX0_back : ByteArray := prog_1_method_28_code
def yX0_back : MethodName := ⟨RX0, "back", "(I)I"⟩
def dkwX0_back_1 : List UInt8 := [182, 0, 34, 87, 167, 0, 7, 77, 16, 252, 172, 42, 3, 181, 0, 40, 42, 180, 0, 27, 180, 0, 201, 172]
abbrev dktX0_back_1 : List UInt8 := dkwX0_back_1 ++ []
def dkwX0_back_0 : List UInt8 := [27, 133, 9, 10, 184, 0, 126, 154, 0, 6, 16, 254, 172, 42, 180, 0, 27, 42, 180, 0, 47, 27, 50]
abbrev dktX0_back_0 : List UInt8 := dkwX0_back_0 ++ dktX0_back_1
theorem dksX0_back_0 : cX0_back.data.toList.drop 0 = dktX0_back_0 := by decide +kernel
theorem dksX0_back_1 : cX0_back.data.toList.drop 23 = dktX0_back_1 := dk_seg dksX0_back_0 23 rfl rfl
theorem dX0_back_0 : decode cX0_back 0 = .ok (.iload_n 1, 1) := dk_27 (dk_at dksX0_back_0 0 rfl rfl)
theorem dX0_back_1 : decode cX0_back 1 = .ok (.i2l, 1) := dk_133 (dk_at dksX0_back_0 1 rfl rfl)
theorem dX0_back_2 : decode cX0_back 2 = .ok (.lconst 0, 1) := dk_9 (dk_at dksX0_back_0 2 rfl rfl)
theorem dX0_back_3 : decode cX0_back 3 = .ok (.lconst 1, 1) := dk_10 (dk_at dksX0_back_0 3 rfl rfl)
theorem dX0_back_4 : decode cX0_back 4 = .ok (.invokestatic 126, 3) := dk_184 0 126 (dk_at dksX0_back_0 4 rfl rfl)
theorem dX0_back_7 : decode cX0_back 7 = .ok (.ifCond .ne 6, 3) := dk_154 0 6 (dk_at dksX0_back_0 7 rfl rfl)
theorem dX0_back_10 : decode cX0_back 10 = .ok (.bipush (-2), 2) := dk_16 254 (dk_at dksX0_back_0 10 rfl rfl)
theorem dX0_back_12 : decode cX0_back 12 = .ok (.ireturn, 1) := dk_172 (dk_at dksX0_back_0 12 rfl rfl)
theorem dX0_back_13 : decode cX0_back 13 = .ok (.aload_n 0, 1) := dk_42 (dk_at dksX0_back_0 13 rfl rfl)
theorem dX0_back_14 : decode cX0_back 14 = .ok (.getfield 27, 3) := dk_180 0 27 (dk_at dksX0_back_0 14 rfl rfl)
theorem dX0_back_17 : decode cX0_back 17 = .ok (.aload_n 0, 1) := dk_42 (dk_at dksX0_back_0 17 rfl rfl)
theorem dX0_back_18 : decode cX0_back 18 = .ok (.getfield 47, 3) := dk_180 0 47 (dk_at dksX0_back_0 18 rfl rfl)
theorem dX0_back_21 : decode cX0_back 21 = .ok (.iload_n 1, 1) := dk_27 (dk_at dksX0_back_0 21 rfl rfl)
theorem dX0_back_22 : decode cX0_back 22 = .ok (.aaload, 1) := dk_50 (dk_at dksX0_back_0 22 rfl rfl)
theorem dX0_back_23 : decode cX0_back 23 = .ok (.invokevirtual 34, 3) := dk_182 0 34 (dk_at dksX0_back_1 0 rfl rfl)
theorem dX0_back_26 : decode cX0_back 26 = .ok (.pop, 1) := dk_87 (dk_at dksX0_back_1 3 rfl rfl)
theorem dX0_back_27 : decode cX0_back 27 = .ok (.goto 7, 3) := dk_167 0 7 (dk_at dksX0_back_1 4 rfl rfl)
theorem dX0_back_30 : decode cX0_back 30 = .ok (.astore_n 2, 1) := dk_77 (dk_at dksX0_back_1 7 rfl rfl)
theorem dX0_back_31 : decode cX0_back 31 = .ok (.bipush (-4), 2) := dk_16 252 (dk_at dksX0_back_1 8 rfl rfl)
theorem dX0_back_33 : decode cX0_back 33 = .ok (.ireturn, 1) := dk_172 (dk_at dksX0_back_1 10 rfl rfl)
theorem dX0_back_34 : decode cX0_back 34 = .ok (.aload_n 0, 1) := dk_42 (dk_at dksX0_back_1 11 rfl rfl)
theorem dX0_back_35 : decode cX0_back 35 = .ok (.iconst 0, 1) := dk_3 (dk_at dksX0_back_1 12 rfl rfl)
theorem dX0_back_36 : decode cX0_back 36 = .ok (.putfield 40, 3) := dk_181 0 40 (dk_at dksX0_back_1 13 rfl rfl)
theorem dX0_back_39 : decode cX0_back 39 = .ok (.aload_n 0, 1) := dk_42 (dk_at dksX0_back_1 16 rfl rfl)
theorem dX0_back_40 : decode cX0_back 40 = .ok (.getfield 27, 3) := dk_180 0 27 (dk_at dksX0_back_1 17 rfl rfl)
theorem dX0_back_43 : decode cX0_back 43 = .ok (.getfield 201, 3) := dk_180 0 201 (dk_at dksX0_back_1 20 rfl rfl)
theorem dX0_back_46 : decode cX0_back 46 = .ok (.ireturn, 1) := dk_172 (dk_at dksX0_back_1 23 rfl rfl)
abbrev cX0_behind : ByteArray := prog_1_method_29_code
def yX0_behind : MethodName := ⟨RX0, "behind", "(III)I"⟩
def dkwX0_behind_2 : List UInt8 := [180, 0, 27, 182, 0, 34, 28, 182, 0, 207, 27, 29, 184, 0, 184, 172]
abbrev dktX0_behind_2 : List UInt8 := dkwX0_behind_2 ++ []
def dkwX0_behind_1 : List UInt8 := [4, 159, 0, 16, 29, 6, 159, 0, 11, 29, 7, 159, 0, 6, 16, 253, 172, 42, 180, 0, 109, 42]
abbrev dktX0_behind_1 : List UInt8 := dkwX0_behind_1 ++ dktX0_behind_2
def dkwX0_behind_0 : List UInt8 := [42, 27, 182, 0, 170, 154, 0, 6, 16, 254, 172, 28, 133, 9, 20, 0, 218, 184, 0, 126, 153, 0, 18, 29]
abbrev dktX0_behind_0 : List UInt8 := dkwX0_behind_0 ++ dktX0_behind_1
theorem dksX0_behind_0 : cX0_behind.data.toList.drop 0 = dktX0_behind_0 := by decide +kernel
theorem dksX0_behind_1 : cX0_behind.data.toList.drop 24 = dktX0_behind_1 := dk_seg dksX0_behind_0 24 rfl rfl
theorem dksX0_behind_2 : cX0_behind.data.toList.drop 46 = dktX0_behind_2 := dk_seg dksX0_behind_1 22 rfl rfl
theorem dX0_behind_0 : decode cX0_behind 0 = .ok (.aload_n 0, 1) := dk_42 (dk_at dksX0_behind_0 0 rfl rfl)
theorem dX0_behind_1 : decode cX0_behind 1 = .ok (.iload_n 1, 1) := dk_27 (dk_at dksX0_behind_0 1 rfl rfl)
theorem dX0_behind_2 : decode cX0_behind 2 = .ok (.invokevirtual 170, 3) := dk_182 0 170 (dk_at dksX0_behind_0 2 rfl rfl)
theorem dX0_behind_5 : decode cX0_behind 5 = .ok (.ifCond .ne 6, 3) := dk_154 0 6 (dk_at dksX0_behind_0 5 rfl rfl)
theorem dX0_behind_8 : decode cX0_behind 8 = .ok (.bipush (-2), 2) := dk_16 254 (dk_at dksX0_behind_0 8 rfl rfl)
theorem dX0_behind_10 : decode cX0_behind 10 = .ok (.ireturn, 1) := dk_172 (dk_at dksX0_behind_0 10 rfl rfl)
theorem dX0_behind_11 : decode cX0_behind 11 = .ok (.iload_n 2, 1) := dk_28 (dk_at dksX0_behind_0 11 rfl rfl)
theorem dX0_behind_12 : decode cX0_behind 12 = .ok (.i2l, 1) := dk_133 (dk_at dksX0_behind_0 12 rfl rfl)
theorem dX0_behind_13 : decode cX0_behind 13 = .ok (.lconst 0, 1) := dk_9 (dk_at dksX0_behind_0 13 rfl rfl)
theorem dX0_behind_14 : decode cX0_behind 14 = .ok (.ldc2_w 218, 3) := dk_20 0 218 (dk_at dksX0_behind_0 14 rfl rfl)
theorem dX0_behind_17 : decode cX0_behind 17 = .ok (.invokestatic 126, 3) := dk_184 0 126 (dk_at dksX0_behind_0 17 rfl rfl)
theorem dX0_behind_20 : decode cX0_behind 20 = .ok (.ifCond .eq 18, 3) := dk_153 0 18 (dk_at dksX0_behind_0 20 rfl rfl)
theorem dX0_behind_23 : decode cX0_behind 23 = .ok (.iload_n 3, 1) := dk_29 (dk_at dksX0_behind_0 23 rfl rfl)
theorem dX0_behind_24 : decode cX0_behind 24 = .ok (.iconst 1, 1) := dk_4 (dk_at dksX0_behind_1 0 rfl rfl)
theorem dX0_behind_25 : decode cX0_behind 25 = .ok (.if_icmp .eq 16, 3) := dk_159 0 16 (dk_at dksX0_behind_1 1 rfl rfl)
theorem dX0_behind_28 : decode cX0_behind 28 = .ok (.iload_n 3, 1) := dk_29 (dk_at dksX0_behind_1 4 rfl rfl)
theorem dX0_behind_29 : decode cX0_behind 29 = .ok (.iconst 3, 1) := dk_6 (dk_at dksX0_behind_1 5 rfl rfl)
theorem dX0_behind_30 : decode cX0_behind 30 = .ok (.if_icmp .eq 11, 3) := dk_159 0 11 (dk_at dksX0_behind_1 6 rfl rfl)
theorem dX0_behind_33 : decode cX0_behind 33 = .ok (.iload_n 3, 1) := dk_29 (dk_at dksX0_behind_1 9 rfl rfl)
theorem dX0_behind_34 : decode cX0_behind 34 = .ok (.iconst 4, 1) := dk_7 (dk_at dksX0_behind_1 10 rfl rfl)
theorem dX0_behind_35 : decode cX0_behind 35 = .ok (.if_icmp .eq 6, 3) := dk_159 0 6 (dk_at dksX0_behind_1 11 rfl rfl)
theorem dX0_behind_38 : decode cX0_behind 38 = .ok (.bipush (-3), 2) := dk_16 253 (dk_at dksX0_behind_1 14 rfl rfl)
theorem dX0_behind_40 : decode cX0_behind 40 = .ok (.ireturn, 1) := dk_172 (dk_at dksX0_behind_1 16 rfl rfl)
theorem dX0_behind_41 : decode cX0_behind 41 = .ok (.aload_n 0, 1) := dk_42 (dk_at dksX0_behind_1 17 rfl rfl)
theorem dX0_behind_42 : decode cX0_behind 42 = .ok (.getfield 109, 3) := dk_180 0 109 (dk_at dksX0_behind_1 18 rfl rfl)
theorem dX0_behind_45 : decode cX0_behind 45 = .ok (.aload_n 0, 1) := dk_42 (dk_at dksX0_behind_1 21 rfl rfl)
theorem dX0_behind_46 : decode cX0_behind 46 = .ok (.getfield 27, 3) := dk_180 0 27 (dk_at dksX0_behind_2 0 rfl rfl)
theorem dX0_behind_49 : decode cX0_behind 49 = .ok (.invokevirtual 34, 3) := dk_182 0 34 (dk_at dksX0_behind_2 3 rfl rfl)
theorem dX0_behind_52 : decode cX0_behind 52 = .ok (.iload_n 2, 1) := dk_28 (dk_at dksX0_behind_2 6 rfl rfl)
theorem dX0_behind_53 : decode cX0_behind 53 = .ok (.invokevirtual 207, 3) := dk_182 0 207 (dk_at dksX0_behind_2 7 rfl rfl)
theorem dX0_behind_56 : decode cX0_behind 56 = .ok (.iload_n 1, 1) := dk_27 (dk_at dksX0_behind_2 10 rfl rfl)
theorem dX0_behind_57 : decode cX0_behind 57 = .ok (.iload_n 3, 1) := dk_29 (dk_at dksX0_behind_2 11 rfl rfl)
theorem dX0_behind_58 : decode cX0_behind 58 = .ok (.invokestatic 184, 3) := dk_184 0 184 (dk_at dksX0_behind_2 12 rfl rfl)
theorem dX0_behind_61 : decode cX0_behind 61 = .ok (.ireturn, 1) := dk_172 (dk_at dksX0_behind_2 15 rfl rfl)
abbrev cX0_nuts : ByteArray := prog_1_method_30_code
def yX0_nuts : MethodName := ⟨RX0, "nuts", "(II)I"⟩
def dkwX0_nuts_2 : List UInt8 := [172]
abbrev dktX0_nuts_2 : List UInt8 := dkwX0_nuts_2 ++ []
def dkwX0_nuts_1 : List UInt8 := [180, 0, 109, 42, 180, 0, 27, 182, 0, 34, 28, 182, 0, 207, 180, 0, 90, 27, 51, 167, 0, 5, 16, 253]
abbrev dktX0_nuts_1 : List UInt8 := dkwX0_nuts_1 ++ dktX0_nuts_2
def dkwX0_nuts_0 : List UInt8 := [42, 27, 182, 0, 159, 154, 0, 6, 16, 254, 172, 28, 133, 9, 20, 0, 218, 184, 0, 126, 153, 0, 26, 42]
abbrev dktX0_nuts_0 : List UInt8 := dkwX0_nuts_0 ++ dktX0_nuts_1
theorem dksX0_nuts_0 : cX0_nuts.data.toList.drop 0 = dktX0_nuts_0 := by decide +kernel
theorem dksX0_nuts_1 : cX0_nuts.data.toList.drop 24 = dktX0_nuts_1 := dk_seg dksX0_nuts_0 24 rfl rfl
theorem dksX0_nuts_2 : cX0_nuts.data.toList.drop 48 = dktX0_nuts_2 := dk_seg dksX0_nuts_1 24 rfl rfl
theorem dX0_nuts_0 : decode cX0_nuts 0 = .ok (.aload_n 0, 1) := dk_42 (dk_at dksX0_nuts_0 0 rfl rfl)
theorem dX0_nuts_1 : decode cX0_nuts 1 = .ok (.iload_n 1, 1) := dk_27 (dk_at dksX0_nuts_0 1 rfl rfl)
theorem dX0_nuts_2 : decode cX0_nuts 2 = .ok (.invokevirtual 159, 3) := dk_182 0 159 (dk_at dksX0_nuts_0 2 rfl rfl)
theorem dX0_nuts_5 : decode cX0_nuts 5 = .ok (.ifCond .ne 6, 3) := dk_154 0 6 (dk_at dksX0_nuts_0 5 rfl rfl)
theorem dX0_nuts_8 : decode cX0_nuts 8 = .ok (.bipush (-2), 2) := dk_16 254 (dk_at dksX0_nuts_0 8 rfl rfl)
theorem dX0_nuts_10 : decode cX0_nuts 10 = .ok (.ireturn, 1) := dk_172 (dk_at dksX0_nuts_0 10 rfl rfl)
theorem dX0_nuts_11 : decode cX0_nuts 11 = .ok (.iload_n 2, 1) := dk_28 (dk_at dksX0_nuts_0 11 rfl rfl)
theorem dX0_nuts_12 : decode cX0_nuts 12 = .ok (.i2l, 1) := dk_133 (dk_at dksX0_nuts_0 12 rfl rfl)
theorem dX0_nuts_13 : decode cX0_nuts 13 = .ok (.lconst 0, 1) := dk_9 (dk_at dksX0_nuts_0 13 rfl rfl)
theorem dX0_nuts_14 : decode cX0_nuts 14 = .ok (.ldc2_w 218, 3) := dk_20 0 218 (dk_at dksX0_nuts_0 14 rfl rfl)
theorem dX0_nuts_17 : decode cX0_nuts 17 = .ok (.invokestatic 126, 3) := dk_184 0 126 (dk_at dksX0_nuts_0 17 rfl rfl)
theorem dX0_nuts_20 : decode cX0_nuts 20 = .ok (.ifCond .eq 26, 3) := dk_153 0 26 (dk_at dksX0_nuts_0 20 rfl rfl)
theorem dX0_nuts_23 : decode cX0_nuts 23 = .ok (.aload_n 0, 1) := dk_42 (dk_at dksX0_nuts_0 23 rfl rfl)
theorem dX0_nuts_24 : decode cX0_nuts 24 = .ok (.getfield 109, 3) := dk_180 0 109 (dk_at dksX0_nuts_1 0 rfl rfl)
theorem dX0_nuts_27 : decode cX0_nuts 27 = .ok (.aload_n 0, 1) := dk_42 (dk_at dksX0_nuts_1 3 rfl rfl)
theorem dX0_nuts_28 : decode cX0_nuts 28 = .ok (.getfield 27, 3) := dk_180 0 27 (dk_at dksX0_nuts_1 4 rfl rfl)
theorem dX0_nuts_31 : decode cX0_nuts 31 = .ok (.invokevirtual 34, 3) := dk_182 0 34 (dk_at dksX0_nuts_1 7 rfl rfl)
theorem dX0_nuts_34 : decode cX0_nuts 34 = .ok (.iload_n 2, 1) := dk_28 (dk_at dksX0_nuts_1 10 rfl rfl)
theorem dX0_nuts_35 : decode cX0_nuts 35 = .ok (.invokevirtual 207, 3) := dk_182 0 207 (dk_at dksX0_nuts_1 11 rfl rfl)
theorem dX0_nuts_38 : decode cX0_nuts 38 = .ok (.getfield 90, 3) := dk_180 0 90 (dk_at dksX0_nuts_1 14 rfl rfl)
theorem dX0_nuts_41 : decode cX0_nuts 41 = .ok (.iload_n 1, 1) := dk_27 (dk_at dksX0_nuts_1 17 rfl rfl)
theorem dX0_nuts_42 : decode cX0_nuts 42 = .ok (.baload, 1) := dk_51 (dk_at dksX0_nuts_1 18 rfl rfl)
theorem dX0_nuts_43 : decode cX0_nuts 43 = .ok (.goto 5, 3) := dk_167 0 5 (dk_at dksX0_nuts_1 19 rfl rfl)
theorem dX0_nuts_46 : decode cX0_nuts 46 = .ok (.bipush (-3), 2) := dk_16 253 (dk_at dksX0_nuts_1 22 rfl rfl)
theorem dX0_nuts_48 : decode cX0_nuts 48 = .ok (.ireturn, 1) := dk_172 (dk_at dksX0_nuts_2 0 rfl rfl)
abbrev cX0_hungry : ByteArray := prog_1_method_31_code
def yX0_hungry : MethodName := ⟨RX0, "hungry", "(I)I"⟩
def dkwX0_hungry_2 : List UInt8 := [184, 0, 155, 153, 0, 5, 28, 172, 132, 2, 1, 167, 255, 224, 2, 172]
abbrev dktX0_hungry_2 : List UInt8 := dkwX0_hungry_2 ++ []
def dkwX0_hungry_1 : List UInt8 := [61, 28, 16, 60, 163, 0, 32, 42, 180, 0, 109, 182, 0, 220, 42, 180, 0, 109, 180, 0, 222, 27]
abbrev dktX0_hungry_1 : List UInt8 := dkwX0_hungry_1 ++ dktX0_hungry_2
def dkwX0_hungry_0 : List UInt8 := [42, 27, 182, 0, 170, 154, 0, 6, 16, 254, 172, 42, 180, 0, 109, 42, 180, 0, 27, 182, 0, 34, 87, 4]
abbrev dktX0_hungry_0 : List UInt8 := dkwX0_hungry_0 ++ dktX0_hungry_1
theorem dksX0_hungry_0 : cX0_hungry.data.toList.drop 0 = dktX0_hungry_0 := by decide +kernel
theorem dksX0_hungry_1 : cX0_hungry.data.toList.drop 24 = dktX0_hungry_1 := dk_seg dksX0_hungry_0 24 rfl rfl
theorem dksX0_hungry_2 : cX0_hungry.data.toList.drop 46 = dktX0_hungry_2 := dk_seg dksX0_hungry_1 22 rfl rfl
theorem dX0_hungry_0 : decode cX0_hungry 0 = .ok (.aload_n 0, 1) := dk_42 (dk_at dksX0_hungry_0 0 rfl rfl)
theorem dX0_hungry_1 : decode cX0_hungry 1 = .ok (.iload_n 1, 1) := dk_27 (dk_at dksX0_hungry_0 1 rfl rfl)
theorem dX0_hungry_2 : decode cX0_hungry 2 = .ok (.invokevirtual 170, 3) := dk_182 0 170 (dk_at dksX0_hungry_0 2 rfl rfl)
theorem dX0_hungry_5 : decode cX0_hungry 5 = .ok (.ifCond .ne 6, 3) := dk_154 0 6 (dk_at dksX0_hungry_0 5 rfl rfl)
theorem dX0_hungry_8 : decode cX0_hungry 8 = .ok (.bipush (-2), 2) := dk_16 254 (dk_at dksX0_hungry_0 8 rfl rfl)
theorem dX0_hungry_10 : decode cX0_hungry 10 = .ok (.ireturn, 1) := dk_172 (dk_at dksX0_hungry_0 10 rfl rfl)
theorem dX0_hungry_11 : decode cX0_hungry 11 = .ok (.aload_n 0, 1) := dk_42 (dk_at dksX0_hungry_0 11 rfl rfl)
theorem dX0_hungry_12 : decode cX0_hungry 12 = .ok (.getfield 109, 3) := dk_180 0 109 (dk_at dksX0_hungry_0 12 rfl rfl)
theorem dX0_hungry_15 : decode cX0_hungry 15 = .ok (.aload_n 0, 1) := dk_42 (dk_at dksX0_hungry_0 15 rfl rfl)
theorem dX0_hungry_16 : decode cX0_hungry 16 = .ok (.getfield 27, 3) := dk_180 0 27 (dk_at dksX0_hungry_0 16 rfl rfl)
theorem dX0_hungry_19 : decode cX0_hungry 19 = .ok (.invokevirtual 34, 3) := dk_182 0 34 (dk_at dksX0_hungry_0 19 rfl rfl)
theorem dX0_hungry_22 : decode cX0_hungry 22 = .ok (.pop, 1) := dk_87 (dk_at dksX0_hungry_0 22 rfl rfl)
theorem dX0_hungry_23 : decode cX0_hungry 23 = .ok (.iconst 1, 1) := dk_4 (dk_at dksX0_hungry_0 23 rfl rfl)
theorem dX0_hungry_24 : decode cX0_hungry 24 = .ok (.istore_n 2, 1) := dk_61 (dk_at dksX0_hungry_1 0 rfl rfl)
theorem dX0_hungry_25 : decode cX0_hungry 25 = .ok (.iload_n 2, 1) := dk_28 (dk_at dksX0_hungry_1 1 rfl rfl)
theorem dX0_hungry_26 : decode cX0_hungry 26 = .ok (.bipush 60, 2) := dk_16 60 (dk_at dksX0_hungry_1 2 rfl rfl)
theorem dX0_hungry_28 : decode cX0_hungry 28 = .ok (.if_icmp .gt 32, 3) := dk_163 0 32 (dk_at dksX0_hungry_1 4 rfl rfl)
theorem dX0_hungry_31 : decode cX0_hungry 31 = .ok (.aload_n 0, 1) := dk_42 (dk_at dksX0_hungry_1 7 rfl rfl)
theorem dX0_hungry_32 : decode cX0_hungry 32 = .ok (.getfield 109, 3) := dk_180 0 109 (dk_at dksX0_hungry_1 8 rfl rfl)
theorem dX0_hungry_35 : decode cX0_hungry 35 = .ok (.invokevirtual 220, 3) := dk_182 0 220 (dk_at dksX0_hungry_1 11 rfl rfl)
theorem dX0_hungry_38 : decode cX0_hungry 38 = .ok (.aload_n 0, 1) := dk_42 (dk_at dksX0_hungry_1 14 rfl rfl)
theorem dX0_hungry_39 : decode cX0_hungry 39 = .ok (.getfield 109, 3) := dk_180 0 109 (dk_at dksX0_hungry_1 15 rfl rfl)
theorem dX0_hungry_42 : decode cX0_hungry 42 = .ok (.getfield 222, 3) := dk_180 0 222 (dk_at dksX0_hungry_1 18 rfl rfl)
theorem dX0_hungry_45 : decode cX0_hungry 45 = .ok (.iload_n 1, 1) := dk_27 (dk_at dksX0_hungry_1 21 rfl rfl)
theorem dX0_hungry_46 : decode cX0_hungry 46 = .ok (.invokestatic 155, 3) := dk_184 0 155 (dk_at dksX0_hungry_2 0 rfl rfl)
theorem dX0_hungry_49 : decode cX0_hungry 49 = .ok (.ifCond .eq 5, 3) := dk_153 0 5 (dk_at dksX0_hungry_2 3 rfl rfl)
theorem dX0_hungry_52 : decode cX0_hungry 52 = .ok (.iload_n 2, 1) := dk_28 (dk_at dksX0_hungry_2 6 rfl rfl)
theorem dX0_hungry_53 : decode cX0_hungry 53 = .ok (.ireturn, 1) := dk_172 (dk_at dksX0_hungry_2 7 rfl rfl)
theorem dX0_hungry_54 : decode cX0_hungry 54 = .ok (.iinc 2 1, 3) := dk_132 2 1 (dk_at dksX0_hungry_2 8 rfl rfl)
theorem dX0_hungry_57 : decode cX0_hungry 57 = .ok (.goto (-32), 3) := dk_167 255 224 (dk_at dksX0_hungry_2 11 rfl rfl)
theorem dX0_hungry_60 : decode cX0_hungry 60 = .ok (.iconst (-1), 1) := dk_2 (dk_at dksX0_hungry_2 14 rfl rfl)
theorem dX0_hungry_61 : decode cX0_hungry 61 = .ok (.ireturn, 1) := dk_172 (dk_at dksX0_hungry_2 15 rfl rfl)
abbrev cX0_lasts : ByteArray := prog_1_method_32_code
def yX0_lasts : MethodName := ⟨RX0, "lasts", "(I)I"⟩
def dkwX0_lasts_2 : List UInt8 := [182, 0, 220, 132, 2, 1, 167, 255, 227, 2, 172]
abbrev dktX0_lasts_2 : List UInt8 := dkwX0_lasts_2 ++ []
def dkwX0_lasts_1 : List UInt8 := [61, 28, 16, 60, 163, 0, 29, 42, 180, 0, 109, 27, 182, 0, 213, 153, 0, 5, 28, 172, 42, 180, 0, 109]
abbrev dktX0_lasts_1 : List UInt8 := dkwX0_lasts_1 ++ dktX0_lasts_2
def dkwX0_lasts_0 : List UInt8 := [42, 27, 182, 0, 170, 154, 0, 6, 16, 254, 172, 42, 180, 0, 109, 42, 180, 0, 27, 182, 0, 34, 87, 3]
abbrev dktX0_lasts_0 : List UInt8 := dkwX0_lasts_0 ++ dktX0_lasts_1
theorem dksX0_lasts_0 : cX0_lasts.data.toList.drop 0 = dktX0_lasts_0 := by decide +kernel
theorem dksX0_lasts_1 : cX0_lasts.data.toList.drop 24 = dktX0_lasts_1 := dk_seg dksX0_lasts_0 24 rfl rfl
theorem dksX0_lasts_2 : cX0_lasts.data.toList.drop 48 = dktX0_lasts_2 := dk_seg dksX0_lasts_1 24 rfl rfl
theorem dX0_lasts_0 : decode cX0_lasts 0 = .ok (.aload_n 0, 1) := dk_42 (dk_at dksX0_lasts_0 0 rfl rfl)
theorem dX0_lasts_1 : decode cX0_lasts 1 = .ok (.iload_n 1, 1) := dk_27 (dk_at dksX0_lasts_0 1 rfl rfl)
theorem dX0_lasts_2 : decode cX0_lasts 2 = .ok (.invokevirtual 170, 3) := dk_182 0 170 (dk_at dksX0_lasts_0 2 rfl rfl)
theorem dX0_lasts_5 : decode cX0_lasts 5 = .ok (.ifCond .ne 6, 3) := dk_154 0 6 (dk_at dksX0_lasts_0 5 rfl rfl)
theorem dX0_lasts_8 : decode cX0_lasts 8 = .ok (.bipush (-2), 2) := dk_16 254 (dk_at dksX0_lasts_0 8 rfl rfl)
theorem dX0_lasts_10 : decode cX0_lasts 10 = .ok (.ireturn, 1) := dk_172 (dk_at dksX0_lasts_0 10 rfl rfl)
theorem dX0_lasts_11 : decode cX0_lasts 11 = .ok (.aload_n 0, 1) := dk_42 (dk_at dksX0_lasts_0 11 rfl rfl)
theorem dX0_lasts_12 : decode cX0_lasts 12 = .ok (.getfield 109, 3) := dk_180 0 109 (dk_at dksX0_lasts_0 12 rfl rfl)
theorem dX0_lasts_15 : decode cX0_lasts 15 = .ok (.aload_n 0, 1) := dk_42 (dk_at dksX0_lasts_0 15 rfl rfl)
theorem dX0_lasts_16 : decode cX0_lasts 16 = .ok (.getfield 27, 3) := dk_180 0 27 (dk_at dksX0_lasts_0 16 rfl rfl)
theorem dX0_lasts_19 : decode cX0_lasts 19 = .ok (.invokevirtual 34, 3) := dk_182 0 34 (dk_at dksX0_lasts_0 19 rfl rfl)
theorem dX0_lasts_22 : decode cX0_lasts 22 = .ok (.pop, 1) := dk_87 (dk_at dksX0_lasts_0 22 rfl rfl)
theorem dX0_lasts_23 : decode cX0_lasts 23 = .ok (.iconst 0, 1) := dk_3 (dk_at dksX0_lasts_0 23 rfl rfl)
theorem dX0_lasts_24 : decode cX0_lasts 24 = .ok (.istore_n 2, 1) := dk_61 (dk_at dksX0_lasts_1 0 rfl rfl)
theorem dX0_lasts_25 : decode cX0_lasts 25 = .ok (.iload_n 2, 1) := dk_28 (dk_at dksX0_lasts_1 1 rfl rfl)
theorem dX0_lasts_26 : decode cX0_lasts 26 = .ok (.bipush 60, 2) := dk_16 60 (dk_at dksX0_lasts_1 2 rfl rfl)
theorem dX0_lasts_28 : decode cX0_lasts 28 = .ok (.if_icmp .gt 29, 3) := dk_163 0 29 (dk_at dksX0_lasts_1 4 rfl rfl)
theorem dX0_lasts_31 : decode cX0_lasts 31 = .ok (.aload_n 0, 1) := dk_42 (dk_at dksX0_lasts_1 7 rfl rfl)
theorem dX0_lasts_32 : decode cX0_lasts 32 = .ok (.getfield 109, 3) := dk_180 0 109 (dk_at dksX0_lasts_1 8 rfl rfl)
theorem dX0_lasts_35 : decode cX0_lasts 35 = .ok (.iload_n 1, 1) := dk_27 (dk_at dksX0_lasts_1 11 rfl rfl)
theorem dX0_lasts_36 : decode cX0_lasts 36 = .ok (.invokevirtual 213, 3) := dk_182 0 213 (dk_at dksX0_lasts_1 12 rfl rfl)
theorem dX0_lasts_39 : decode cX0_lasts 39 = .ok (.ifCond .eq 5, 3) := dk_153 0 5 (dk_at dksX0_lasts_1 15 rfl rfl)
theorem dX0_lasts_42 : decode cX0_lasts 42 = .ok (.iload_n 2, 1) := dk_28 (dk_at dksX0_lasts_1 18 rfl rfl)
theorem dX0_lasts_43 : decode cX0_lasts 43 = .ok (.ireturn, 1) := dk_172 (dk_at dksX0_lasts_1 19 rfl rfl)
theorem dX0_lasts_44 : decode cX0_lasts 44 = .ok (.aload_n 0, 1) := dk_42 (dk_at dksX0_lasts_1 20 rfl rfl)
theorem dX0_lasts_45 : decode cX0_lasts 45 = .ok (.getfield 109, 3) := dk_180 0 109 (dk_at dksX0_lasts_1 21 rfl rfl)
theorem dX0_lasts_48 : decode cX0_lasts 48 = .ok (.invokevirtual 220, 3) := dk_182 0 220 (dk_at dksX0_lasts_2 0 rfl rfl)
theorem dX0_lasts_51 : decode cX0_lasts 51 = .ok (.iinc 2 1, 3) := dk_132 2 1 (dk_at dksX0_lasts_2 3 rfl rfl)
theorem dX0_lasts_54 : decode cX0_lasts 54 = .ok (.goto (-29), 3) := dk_167 255 227 (dk_at dksX0_lasts_2 6 rfl rfl)
theorem dX0_lasts_57 : decode cX0_lasts 57 = .ok (.iconst (-1), 1) := dk_2 (dk_at dksX0_lasts_2 9 rfl rfl)
theorem dX0_lasts_58 : decode cX0_lasts 58 = .ok (.ireturn, 1) := dk_172 (dk_at dksX0_lasts_2 10 rfl rfl)
abbrev cX0_live : ByteArray := prog_1_method_33_code
def yX0_live : MethodName := ⟨RX0, "live", "(I)I"⟩
def dkwX0_live_1 : List UInt8 := [182, 0, 207, 182, 0, 225, 184, 0, 228, 167, 0, 5, 16, 253, 172]
abbrev dktX0_live_1 : List UInt8 := dkwX0_live_1 ++ []
def dkwX0_live_0 : List UInt8 := [27, 133, 9, 20, 0, 218, 184, 0, 126, 153, 0, 27, 42, 180, 0, 109, 42, 180, 0, 27, 182, 0, 34, 27]
abbrev dktX0_live_0 : List UInt8 := dkwX0_live_0 ++ dktX0_live_1
theorem dksX0_live_0 : cX0_live.data.toList.drop 0 = dktX0_live_0 := by decide +kernel
theorem dksX0_live_1 : cX0_live.data.toList.drop 24 = dktX0_live_1 := dk_seg dksX0_live_0 24 rfl rfl
theorem dX0_live_0 : decode cX0_live 0 = .ok (.iload_n 1, 1) := dk_27 (dk_at dksX0_live_0 0 rfl rfl)
theorem dX0_live_1 : decode cX0_live 1 = .ok (.i2l, 1) := dk_133 (dk_at dksX0_live_0 1 rfl rfl)
theorem dX0_live_2 : decode cX0_live 2 = .ok (.lconst 0, 1) := dk_9 (dk_at dksX0_live_0 2 rfl rfl)
theorem dX0_live_3 : decode cX0_live 3 = .ok (.ldc2_w 218, 3) := dk_20 0 218 (dk_at dksX0_live_0 3 rfl rfl)
theorem dX0_live_6 : decode cX0_live 6 = .ok (.invokestatic 126, 3) := dk_184 0 126 (dk_at dksX0_live_0 6 rfl rfl)
theorem dX0_live_9 : decode cX0_live 9 = .ok (.ifCond .eq 27, 3) := dk_153 0 27 (dk_at dksX0_live_0 9 rfl rfl)
theorem dX0_live_12 : decode cX0_live 12 = .ok (.aload_n 0, 1) := dk_42 (dk_at dksX0_live_0 12 rfl rfl)
theorem dX0_live_13 : decode cX0_live 13 = .ok (.getfield 109, 3) := dk_180 0 109 (dk_at dksX0_live_0 13 rfl rfl)
theorem dX0_live_16 : decode cX0_live 16 = .ok (.aload_n 0, 1) := dk_42 (dk_at dksX0_live_0 16 rfl rfl)
theorem dX0_live_17 : decode cX0_live 17 = .ok (.getfield 27, 3) := dk_180 0 27 (dk_at dksX0_live_0 17 rfl rfl)
theorem dX0_live_20 : decode cX0_live 20 = .ok (.invokevirtual 34, 3) := dk_182 0 34 (dk_at dksX0_live_0 20 rfl rfl)
theorem dX0_live_23 : decode cX0_live 23 = .ok (.iload_n 1, 1) := dk_27 (dk_at dksX0_live_0 23 rfl rfl)
theorem dX0_live_24 : decode cX0_live 24 = .ok (.invokevirtual 207, 3) := dk_182 0 207 (dk_at dksX0_live_1 0 rfl rfl)
theorem dX0_live_27 : decode cX0_live 27 = .ok (.invokevirtual 225, 3) := dk_182 0 225 (dk_at dksX0_live_1 3 rfl rfl)
theorem dX0_live_30 : decode cX0_live 30 = .ok (.invokestatic 228, 3) := dk_184 0 228 (dk_at dksX0_live_1 6 rfl rfl)
theorem dX0_live_33 : decode cX0_live 33 = .ok (.goto 5, 3) := dk_167 0 5 (dk_at dksX0_live_1 9 rfl rfl)
theorem dX0_live_36 : decode cX0_live 36 = .ok (.bipush (-3), 2) := dk_16 253 (dk_at dksX0_live_1 12 rfl rfl)
theorem dX0_live_38 : decode cX0_live 38 = .ok (.ireturn, 1) := dk_172 (dk_at dksX0_live_1 14 rfl rfl)
abbrev cX0_enough : ByteArray := prog_1_method_34_code
def yX0_enough : MethodName := ⟨RX0, "enough", "(II)I"⟩
def dkwX0_enough_4 : List UInt8 := [132, 3, 1, 167, 255, 191, 2, 172]
abbrev dktX0_enough_4 : List UInt8 := dkwX0_enough_4 ++ []
def dkwX0_enough_3 : List UInt8 := [180, 0, 109, 28, 182, 0, 207, 182, 0, 225, 42, 180, 0, 27, 182, 0, 225, 160, 0, 5, 29, 172]
abbrev dktX0_enough_3 : List UInt8 := dkwX0_enough_3 ++ dktX0_enough_4
def dkwX0_enough_2 : List UInt8 := [180, 0, 90, 27, 16, 99, 42, 180, 0, 27, 180, 0, 90, 27, 51, 29, 96, 184, 0, 235, 145, 84, 42]
abbrev dktX0_enough_2 : List UInt8 := dkwX0_enough_2 ++ dktX0_enough_3
def dkwX0_enough_1 : List UInt8 := [16, 253, 172, 3, 62, 29, 16, 60, 163, 0, 65, 42, 180, 0, 109, 42, 180, 0, 27, 182, 0, 34]
abbrev dktX0_enough_1 : List UInt8 := dkwX0_enough_1 ++ dktX0_enough_2
def dkwX0_enough_0 : List UInt8 := [42, 27, 182, 0, 159, 154, 0, 6, 16, 254, 172, 28, 133, 10, 20, 0, 233, 184, 0, 126, 154, 0, 6]
abbrev dktX0_enough_0 : List UInt8 := dkwX0_enough_0 ++ dktX0_enough_1
theorem dksX0_enough_0 : cX0_enough.data.toList.drop 0 = dktX0_enough_0 := by decide +kernel
theorem dksX0_enough_1 : cX0_enough.data.toList.drop 23 = dktX0_enough_1 := dk_seg dksX0_enough_0 23 rfl rfl
theorem dksX0_enough_2 : cX0_enough.data.toList.drop 45 = dktX0_enough_2 := dk_seg dksX0_enough_1 22 rfl rfl
theorem dksX0_enough_3 : cX0_enough.data.toList.drop 68 = dktX0_enough_3 := dk_seg dksX0_enough_2 23 rfl rfl
theorem dksX0_enough_4 : cX0_enough.data.toList.drop 90 = dktX0_enough_4 := dk_seg dksX0_enough_3 22 rfl rfl
theorem dX0_enough_0 : decode cX0_enough 0 = .ok (.aload_n 0, 1) := dk_42 (dk_at dksX0_enough_0 0 rfl rfl)
theorem dX0_enough_1 : decode cX0_enough 1 = .ok (.iload_n 1, 1) := dk_27 (dk_at dksX0_enough_0 1 rfl rfl)
theorem dX0_enough_2 : decode cX0_enough 2 = .ok (.invokevirtual 159, 3) := dk_182 0 159 (dk_at dksX0_enough_0 2 rfl rfl)
theorem dX0_enough_5 : decode cX0_enough 5 = .ok (.ifCond .ne 6, 3) := dk_154 0 6 (dk_at dksX0_enough_0 5 rfl rfl)
theorem dX0_enough_8 : decode cX0_enough 8 = .ok (.bipush (-2), 2) := dk_16 254 (dk_at dksX0_enough_0 8 rfl rfl)
theorem dX0_enough_10 : decode cX0_enough 10 = .ok (.ireturn, 1) := dk_172 (dk_at dksX0_enough_0 10 rfl rfl)
theorem dX0_enough_11 : decode cX0_enough 11 = .ok (.iload_n 2, 1) := dk_28 (dk_at dksX0_enough_0 11 rfl rfl)
theorem dX0_enough_12 : decode cX0_enough 12 = .ok (.i2l, 1) := dk_133 (dk_at dksX0_enough_0 12 rfl rfl)
theorem dX0_enough_13 : decode cX0_enough 13 = .ok (.lconst 1, 1) := dk_10 (dk_at dksX0_enough_0 13 rfl rfl)
theorem dX0_enough_14 : decode cX0_enough 14 = .ok (.ldc2_w 233, 3) := dk_20 0 233 (dk_at dksX0_enough_0 14 rfl rfl)
theorem dX0_enough_17 : decode cX0_enough 17 = .ok (.invokestatic 126, 3) := dk_184 0 126 (dk_at dksX0_enough_0 17 rfl rfl)
theorem dX0_enough_20 : decode cX0_enough 20 = .ok (.ifCond .ne 6, 3) := dk_154 0 6 (dk_at dksX0_enough_0 20 rfl rfl)
theorem dX0_enough_23 : decode cX0_enough 23 = .ok (.bipush (-3), 2) := dk_16 253 (dk_at dksX0_enough_1 0 rfl rfl)
theorem dX0_enough_25 : decode cX0_enough 25 = .ok (.ireturn, 1) := dk_172 (dk_at dksX0_enough_1 2 rfl rfl)
theorem dX0_enough_26 : decode cX0_enough 26 = .ok (.iconst 0, 1) := dk_3 (dk_at dksX0_enough_1 3 rfl rfl)
theorem dX0_enough_27 : decode cX0_enough 27 = .ok (.istore_n 3, 1) := dk_62 (dk_at dksX0_enough_1 4 rfl rfl)
theorem dX0_enough_28 : decode cX0_enough 28 = .ok (.iload_n 3, 1) := dk_29 (dk_at dksX0_enough_1 5 rfl rfl)
theorem dX0_enough_29 : decode cX0_enough 29 = .ok (.bipush 60, 2) := dk_16 60 (dk_at dksX0_enough_1 6 rfl rfl)
theorem dX0_enough_31 : decode cX0_enough 31 = .ok (.if_icmp .gt 65, 3) := dk_163 0 65 (dk_at dksX0_enough_1 8 rfl rfl)
theorem dX0_enough_34 : decode cX0_enough 34 = .ok (.aload_n 0, 1) := dk_42 (dk_at dksX0_enough_1 11 rfl rfl)
theorem dX0_enough_35 : decode cX0_enough 35 = .ok (.getfield 109, 3) := dk_180 0 109 (dk_at dksX0_enough_1 12 rfl rfl)
theorem dX0_enough_38 : decode cX0_enough 38 = .ok (.aload_n 0, 1) := dk_42 (dk_at dksX0_enough_1 15 rfl rfl)
theorem dX0_enough_39 : decode cX0_enough 39 = .ok (.getfield 27, 3) := dk_180 0 27 (dk_at dksX0_enough_1 16 rfl rfl)
theorem dX0_enough_42 : decode cX0_enough 42 = .ok (.invokevirtual 34, 3) := dk_182 0 34 (dk_at dksX0_enough_1 19 rfl rfl)
theorem dX0_enough_45 : decode cX0_enough 45 = .ok (.getfield 90, 3) := dk_180 0 90 (dk_at dksX0_enough_2 0 rfl rfl)
theorem dX0_enough_48 : decode cX0_enough 48 = .ok (.iload_n 1, 1) := dk_27 (dk_at dksX0_enough_2 3 rfl rfl)
theorem dX0_enough_49 : decode cX0_enough 49 = .ok (.bipush 99, 2) := dk_16 99 (dk_at dksX0_enough_2 4 rfl rfl)
theorem dX0_enough_51 : decode cX0_enough 51 = .ok (.aload_n 0, 1) := dk_42 (dk_at dksX0_enough_2 6 rfl rfl)
theorem dX0_enough_52 : decode cX0_enough 52 = .ok (.getfield 27, 3) := dk_180 0 27 (dk_at dksX0_enough_2 7 rfl rfl)
theorem dX0_enough_55 : decode cX0_enough 55 = .ok (.getfield 90, 3) := dk_180 0 90 (dk_at dksX0_enough_2 10 rfl rfl)
theorem dX0_enough_58 : decode cX0_enough 58 = .ok (.iload_n 1, 1) := dk_27 (dk_at dksX0_enough_2 13 rfl rfl)
theorem dX0_enough_59 : decode cX0_enough 59 = .ok (.baload, 1) := dk_51 (dk_at dksX0_enough_2 14 rfl rfl)
theorem dX0_enough_60 : decode cX0_enough 60 = .ok (.iload_n 3, 1) := dk_29 (dk_at dksX0_enough_2 15 rfl rfl)
theorem dX0_enough_61 : decode cX0_enough 61 = .ok (.iadd, 1) := dk_96 (dk_at dksX0_enough_2 16 rfl rfl)
theorem dX0_enough_62 : decode cX0_enough 62 = .ok (.invokestatic 235, 3) := dk_184 0 235 (dk_at dksX0_enough_2 17 rfl rfl)
theorem dX0_enough_65 : decode cX0_enough 65 = .ok (.i2b, 1) := dk_145 (dk_at dksX0_enough_2 20 rfl rfl)
theorem dX0_enough_66 : decode cX0_enough 66 = .ok (.bastore, 1) := dk_84 (dk_at dksX0_enough_2 21 rfl rfl)
theorem dX0_enough_67 : decode cX0_enough 67 = .ok (.aload_n 0, 1) := dk_42 (dk_at dksX0_enough_2 22 rfl rfl)
theorem dX0_enough_68 : decode cX0_enough 68 = .ok (.getfield 109, 3) := dk_180 0 109 (dk_at dksX0_enough_3 0 rfl rfl)
theorem dX0_enough_71 : decode cX0_enough 71 = .ok (.iload_n 2, 1) := dk_28 (dk_at dksX0_enough_3 3 rfl rfl)
theorem dX0_enough_72 : decode cX0_enough 72 = .ok (.invokevirtual 207, 3) := dk_182 0 207 (dk_at dksX0_enough_3 4 rfl rfl)
theorem dX0_enough_75 : decode cX0_enough 75 = .ok (.invokevirtual 225, 3) := dk_182 0 225 (dk_at dksX0_enough_3 7 rfl rfl)
theorem dX0_enough_78 : decode cX0_enough 78 = .ok (.aload_n 0, 1) := dk_42 (dk_at dksX0_enough_3 10 rfl rfl)
theorem dX0_enough_79 : decode cX0_enough 79 = .ok (.getfield 27, 3) := dk_180 0 27 (dk_at dksX0_enough_3 11 rfl rfl)
theorem dX0_enough_82 : decode cX0_enough 82 = .ok (.invokevirtual 225, 3) := dk_182 0 225 (dk_at dksX0_enough_3 14 rfl rfl)
theorem dX0_enough_85 : decode cX0_enough 85 = .ok (.if_icmp .ne 5, 3) := dk_160 0 5 (dk_at dksX0_enough_3 17 rfl rfl)
theorem dX0_enough_88 : decode cX0_enough 88 = .ok (.iload_n 3, 1) := dk_29 (dk_at dksX0_enough_3 20 rfl rfl)
theorem dX0_enough_89 : decode cX0_enough 89 = .ok (.ireturn, 1) := dk_172 (dk_at dksX0_enough_3 21 rfl rfl)
theorem dX0_enough_90 : decode cX0_enough 90 = .ok (.iinc 3 1, 3) := dk_132 3 1 (dk_at dksX0_enough_4 0 rfl rfl)
theorem dX0_enough_93 : decode cX0_enough 93 = .ok (.goto (-65), 3) := dk_167 255 191 (dk_at dksX0_enough_4 3 rfl rfl)
theorem dX0_enough_96 : decode cX0_enough 96 = .ok (.iconst (-1), 1) := dk_2 (dk_at dksX0_enough_4 6 rfl rfl)
theorem dX0_enough_97 : decode cX0_enough 97 = .ok (.ireturn, 1) := dk_172 (dk_at dksX0_enough_4 7 rfl rfl)
abbrev cX0_worst : ByteArray := prog_1_method_35_code
def yX0_worst : MethodName := ⟨RX0, "worst", "(II)I"⟩
def dkwX0_worst_5 : List UInt8 := [154, 0, 7, 29, 167, 0, 5, 21, 4, 172]
abbrev dktX0_worst_5 : List UInt8 := dkwX0_worst_5 ++ []
def dkwX0_worst_4 : List UInt8 := [62, 21, 4, 21, 6, 184, 0, 235, 54, 4, 132, 5, 1, 167, 255, 184, 29, 2, 159, 0, 7, 28]
abbrev dktX0_worst_4 : List UInt8 := dkwX0_worst_4 ++ dktX0_worst_5
def dkwX0_worst_3 : List UInt8 := [182, 0, 207, 182, 0, 225, 184, 0, 228, 54, 6, 21, 6, 21, 4, 162, 0, 8, 21, 5, 167, 0, 4, 29]
abbrev dktX0_worst_3 : List UInt8 := dkwX0_worst_3 ++ dktX0_worst_4
def dkwX0_worst_2 : List UInt8 := [180, 0, 109, 42, 180, 0, 27, 182, 0, 34, 180, 0, 90, 21, 5, 3, 84, 42, 180, 0, 109, 27]
abbrev dktX0_worst_2 : List UInt8 := dkwX0_worst_2 ++ dktX0_worst_3
def dkwX0_worst_1 : List UInt8 := [172, 2, 62, 18, 240, 54, 4, 3, 54, 5, 21, 5, 42, 180, 0, 27, 180, 0, 76, 162, 0, 66, 42]
abbrev dktX0_worst_1 : List UInt8 := dkwX0_worst_1 ++ dktX0_worst_2
def dkwX0_worst_0 : List UInt8 := [27, 133, 10, 20, 0, 233, 184, 0, 126, 153, 0, 13, 28, 133, 9, 10, 184, 0, 126, 154, 0, 6, 16, 253]
abbrev dktX0_worst_0 : List UInt8 := dkwX0_worst_0 ++ dktX0_worst_1
theorem dksX0_worst_0 : cX0_worst.data.toList.drop 0 = dktX0_worst_0 := by decide +kernel
theorem dksX0_worst_1 : cX0_worst.data.toList.drop 24 = dktX0_worst_1 := dk_seg dksX0_worst_0 24 rfl rfl
theorem dksX0_worst_2 : cX0_worst.data.toList.drop 47 = dktX0_worst_2 := dk_seg dksX0_worst_1 23 rfl rfl
theorem dksX0_worst_3 : cX0_worst.data.toList.drop 69 = dktX0_worst_3 := dk_seg dksX0_worst_2 22 rfl rfl
theorem dksX0_worst_4 : cX0_worst.data.toList.drop 93 = dktX0_worst_4 := dk_seg dksX0_worst_3 24 rfl rfl
theorem dksX0_worst_5 : cX0_worst.data.toList.drop 115 = dktX0_worst_5 := dk_seg dksX0_worst_4 22 rfl rfl
theorem dX0_worst_0 : decode cX0_worst 0 = .ok (.iload_n 1, 1) := dk_27 (dk_at dksX0_worst_0 0 rfl rfl)
theorem dX0_worst_1 : decode cX0_worst 1 = .ok (.i2l, 1) := dk_133 (dk_at dksX0_worst_0 1 rfl rfl)
theorem dX0_worst_2 : decode cX0_worst 2 = .ok (.lconst 1, 1) := dk_10 (dk_at dksX0_worst_0 2 rfl rfl)
theorem dX0_worst_3 : decode cX0_worst 3 = .ok (.ldc2_w 233, 3) := dk_20 0 233 (dk_at dksX0_worst_0 3 rfl rfl)
theorem dX0_worst_6 : decode cX0_worst 6 = .ok (.invokestatic 126, 3) := dk_184 0 126 (dk_at dksX0_worst_0 6 rfl rfl)
theorem dX0_worst_9 : decode cX0_worst 9 = .ok (.ifCond .eq 13, 3) := dk_153 0 13 (dk_at dksX0_worst_0 9 rfl rfl)
theorem dX0_worst_12 : decode cX0_worst 12 = .ok (.iload_n 2, 1) := dk_28 (dk_at dksX0_worst_0 12 rfl rfl)
theorem dX0_worst_13 : decode cX0_worst 13 = .ok (.i2l, 1) := dk_133 (dk_at dksX0_worst_0 13 rfl rfl)
theorem dX0_worst_14 : decode cX0_worst 14 = .ok (.lconst 0, 1) := dk_9 (dk_at dksX0_worst_0 14 rfl rfl)
theorem dX0_worst_15 : decode cX0_worst 15 = .ok (.lconst 1, 1) := dk_10 (dk_at dksX0_worst_0 15 rfl rfl)
theorem dX0_worst_16 : decode cX0_worst 16 = .ok (.invokestatic 126, 3) := dk_184 0 126 (dk_at dksX0_worst_0 16 rfl rfl)
theorem dX0_worst_19 : decode cX0_worst 19 = .ok (.ifCond .ne 6, 3) := dk_154 0 6 (dk_at dksX0_worst_0 19 rfl rfl)
theorem dX0_worst_22 : decode cX0_worst 22 = .ok (.bipush (-3), 2) := dk_16 253 (dk_at dksX0_worst_0 22 rfl rfl)
theorem dX0_worst_24 : decode cX0_worst 24 = .ok (.ireturn, 1) := dk_172 (dk_at dksX0_worst_1 0 rfl rfl)
theorem dX0_worst_25 : decode cX0_worst 25 = .ok (.iconst (-1), 1) := dk_2 (dk_at dksX0_worst_1 1 rfl rfl)
theorem dX0_worst_26 : decode cX0_worst 26 = .ok (.istore_n 3, 1) := dk_62 (dk_at dksX0_worst_1 2 rfl rfl)
theorem dX0_worst_27 : decode cX0_worst 27 = .ok (.ldc 240, 2) := dk_18 240 (dk_at dksX0_worst_1 3 rfl rfl)
theorem dX0_worst_29 : decode cX0_worst 29 = .ok (.istore 4, 2) := dk_54 4 (dk_at dksX0_worst_1 5 rfl rfl)
theorem dX0_worst_31 : decode cX0_worst 31 = .ok (.iconst 0, 1) := dk_3 (dk_at dksX0_worst_1 7 rfl rfl)
theorem dX0_worst_32 : decode cX0_worst 32 = .ok (.istore 5, 2) := dk_54 5 (dk_at dksX0_worst_1 8 rfl rfl)
theorem dX0_worst_34 : decode cX0_worst 34 = .ok (.iload 5, 2) := dk_21 5 (dk_at dksX0_worst_1 10 rfl rfl)
theorem dX0_worst_36 : decode cX0_worst 36 = .ok (.aload_n 0, 1) := dk_42 (dk_at dksX0_worst_1 12 rfl rfl)
theorem dX0_worst_37 : decode cX0_worst 37 = .ok (.getfield 27, 3) := dk_180 0 27 (dk_at dksX0_worst_1 13 rfl rfl)
theorem dX0_worst_40 : decode cX0_worst 40 = .ok (.getfield 76, 3) := dk_180 0 76 (dk_at dksX0_worst_1 16 rfl rfl)
theorem dX0_worst_43 : decode cX0_worst 43 = .ok (.if_icmp .ge 66, 3) := dk_162 0 66 (dk_at dksX0_worst_1 19 rfl rfl)
theorem dX0_worst_46 : decode cX0_worst 46 = .ok (.aload_n 0, 1) := dk_42 (dk_at dksX0_worst_1 22 rfl rfl)
theorem dX0_worst_47 : decode cX0_worst 47 = .ok (.getfield 109, 3) := dk_180 0 109 (dk_at dksX0_worst_2 0 rfl rfl)
theorem dX0_worst_50 : decode cX0_worst 50 = .ok (.aload_n 0, 1) := dk_42 (dk_at dksX0_worst_2 3 rfl rfl)
theorem dX0_worst_51 : decode cX0_worst 51 = .ok (.getfield 27, 3) := dk_180 0 27 (dk_at dksX0_worst_2 4 rfl rfl)
theorem dX0_worst_54 : decode cX0_worst 54 = .ok (.invokevirtual 34, 3) := dk_182 0 34 (dk_at dksX0_worst_2 7 rfl rfl)
theorem dX0_worst_57 : decode cX0_worst 57 = .ok (.getfield 90, 3) := dk_180 0 90 (dk_at dksX0_worst_2 10 rfl rfl)
theorem dX0_worst_60 : decode cX0_worst 60 = .ok (.iload 5, 2) := dk_21 5 (dk_at dksX0_worst_2 13 rfl rfl)
theorem dX0_worst_62 : decode cX0_worst 62 = .ok (.iconst 0, 1) := dk_3 (dk_at dksX0_worst_2 15 rfl rfl)
theorem dX0_worst_63 : decode cX0_worst 63 = .ok (.bastore, 1) := dk_84 (dk_at dksX0_worst_2 16 rfl rfl)
theorem dX0_worst_64 : decode cX0_worst 64 = .ok (.aload_n 0, 1) := dk_42 (dk_at dksX0_worst_2 17 rfl rfl)
theorem dX0_worst_65 : decode cX0_worst 65 = .ok (.getfield 109, 3) := dk_180 0 109 (dk_at dksX0_worst_2 18 rfl rfl)
theorem dX0_worst_68 : decode cX0_worst 68 = .ok (.iload_n 1, 1) := dk_27 (dk_at dksX0_worst_2 21 rfl rfl)
theorem dX0_worst_69 : decode cX0_worst 69 = .ok (.invokevirtual 207, 3) := dk_182 0 207 (dk_at dksX0_worst_3 0 rfl rfl)
theorem dX0_worst_72 : decode cX0_worst 72 = .ok (.invokevirtual 225, 3) := dk_182 0 225 (dk_at dksX0_worst_3 3 rfl rfl)
theorem dX0_worst_75 : decode cX0_worst 75 = .ok (.invokestatic 228, 3) := dk_184 0 228 (dk_at dksX0_worst_3 6 rfl rfl)
theorem dX0_worst_78 : decode cX0_worst 78 = .ok (.istore 6, 2) := dk_54 6 (dk_at dksX0_worst_3 9 rfl rfl)
theorem dX0_worst_80 : decode cX0_worst 80 = .ok (.iload 6, 2) := dk_21 6 (dk_at dksX0_worst_3 11 rfl rfl)
theorem dX0_worst_82 : decode cX0_worst 82 = .ok (.iload 4, 2) := dk_21 4 (dk_at dksX0_worst_3 13 rfl rfl)
theorem dX0_worst_84 : decode cX0_worst 84 = .ok (.if_icmp .ge 8, 3) := dk_162 0 8 (dk_at dksX0_worst_3 15 rfl rfl)
theorem dX0_worst_87 : decode cX0_worst 87 = .ok (.iload 5, 2) := dk_21 5 (dk_at dksX0_worst_3 18 rfl rfl)
theorem dX0_worst_89 : decode cX0_worst 89 = .ok (.goto 4, 3) := dk_167 0 4 (dk_at dksX0_worst_3 20 rfl rfl)
theorem dX0_worst_92 : decode cX0_worst 92 = .ok (.iload_n 3, 1) := dk_29 (dk_at dksX0_worst_3 23 rfl rfl)
theorem dX0_worst_93 : decode cX0_worst 93 = .ok (.istore_n 3, 1) := dk_62 (dk_at dksX0_worst_4 0 rfl rfl)
theorem dX0_worst_94 : decode cX0_worst 94 = .ok (.iload 4, 2) := dk_21 4 (dk_at dksX0_worst_4 1 rfl rfl)
theorem dX0_worst_96 : decode cX0_worst 96 = .ok (.iload 6, 2) := dk_21 6 (dk_at dksX0_worst_4 3 rfl rfl)
theorem dX0_worst_98 : decode cX0_worst 98 = .ok (.invokestatic 235, 3) := dk_184 0 235 (dk_at dksX0_worst_4 5 rfl rfl)
theorem dX0_worst_101 : decode cX0_worst 101 = .ok (.istore 4, 2) := dk_54 4 (dk_at dksX0_worst_4 8 rfl rfl)
theorem dX0_worst_103 : decode cX0_worst 103 = .ok (.iinc 5 1, 3) := dk_132 5 1 (dk_at dksX0_worst_4 10 rfl rfl)
theorem dX0_worst_106 : decode cX0_worst 106 = .ok (.goto (-72), 3) := dk_167 255 184 (dk_at dksX0_worst_4 13 rfl rfl)
theorem dX0_worst_109 : decode cX0_worst 109 = .ok (.iload_n 3, 1) := dk_29 (dk_at dksX0_worst_4 16 rfl rfl)
theorem dX0_worst_110 : decode cX0_worst 110 = .ok (.iconst (-1), 1) := dk_2 (dk_at dksX0_worst_4 17 rfl rfl)
theorem dX0_worst_111 : decode cX0_worst 111 = .ok (.if_icmp .eq 7, 3) := dk_159 0 7 (dk_at dksX0_worst_4 18 rfl rfl)
theorem dX0_worst_114 : decode cX0_worst 114 = .ok (.iload_n 2, 1) := dk_28 (dk_at dksX0_worst_4 21 rfl rfl)
theorem dX0_worst_115 : decode cX0_worst 115 = .ok (.ifCond .ne 7, 3) := dk_154 0 7 (dk_at dksX0_worst_5 0 rfl rfl)
theorem dX0_worst_118 : decode cX0_worst 118 = .ok (.iload_n 3, 1) := dk_29 (dk_at dksX0_worst_5 3 rfl rfl)
theorem dX0_worst_119 : decode cX0_worst 119 = .ok (.goto 5, 3) := dk_167 0 5 (dk_at dksX0_worst_5 4 rfl rfl)
theorem dX0_worst_122 : decode cX0_worst 122 = .ok (.iload 4, 2) := dk_21 4 (dk_at dksX0_worst_5 7 rfl rfl)
theorem dX0_worst_124 : decode cX0_worst 124 = .ok (.ireturn, 1) := dk_172 (dk_at dksX0_worst_5 9 rfl rfl)
abbrev cX0_whisper : ByteArray := prog_1_method_36_code
def yX0_whisper : MethodName := ⟨RX0, "whisper", "(I)I"⟩
def dkwX0_whisper_7 : List UInt8 := [167, 0, 4, 28, 61, 29, 21, 7, 184, 0, 241, 62, 132, 4, 1, 167, 255, 120, 28, 172]
abbrev dktX0_whisper_7 : List UInt8 := dkwX0_whisper_7 ++ []
def dkwX0_whisper_6 : List UInt8 := [180, 0, 109, 27, 182, 0, 207, 182, 0, 225, 184, 0, 228, 54, 7, 21, 7, 29, 164, 0, 8, 21, 4]
abbrev dktX0_whisper_6 : List UInt8 := dkwX0_whisper_6 ++ dktX0_whisper_7
def dkwX0_whisper_5 : List UInt8 := [42, 180, 0, 27, 182, 0, 34, 180, 0, 79, 21, 5, 92, 53, 4, 21, 6, 120, 147, 128, 147, 86, 42]
abbrev dktX0_whisper_5 : List UInt8 := dkwX0_whisper_5 ++ dktX0_whisper_6
def dkwX0_whisper_4 : List UInt8 := [180, 0, 27, 180, 0, 79, 21, 5, 53, 21, 6, 184, 0, 155, 153, 0, 6, 167, 0, 65, 42, 180, 0, 109]
abbrev dktX0_whisper_4 : List UInt8 := dkwX0_whisper_4 ++ dktX0_whisper_5
def dkwX0_whisper_3 : List UInt8 := [42, 180, 0, 27, 180, 0, 76, 162, 0, 98, 42, 180, 0, 27, 21, 5, 182, 0, 213, 154, 0, 86, 42]
abbrev dktX0_whisper_3 : List UInt8 := dkwX0_whisper_3 ++ dktX0_whisper_4
def dkwX0_whisper_2 : List UInt8 := [42, 180, 0, 73, 104, 162, 0, 130, 21, 4, 16, 10, 108, 54, 5, 21, 4, 16, 10, 112, 54, 6, 21, 6]
abbrev dktX0_whisper_2 : List UInt8 := dkwX0_whisper_2 ++ dktX0_whisper_3
def dkwX0_whisper_1 : List UInt8 := [180, 0, 27, 182, 0, 34, 27, 182, 0, 207, 182, 0, 225, 184, 0, 228, 62, 3, 54, 4, 21, 4, 16, 10]
abbrev dktX0_whisper_1 : List UInt8 := dkwX0_whisper_1 ++ dktX0_whisper_2
def dkwX0_whisper_0 : List UInt8 := [27, 133, 10, 20, 0, 233, 184, 0, 126, 154, 0, 6, 16, 253, 172, 2, 61, 42, 180, 0, 109, 42]
abbrev dktX0_whisper_0 : List UInt8 := dkwX0_whisper_0 ++ dktX0_whisper_1
theorem dksX0_whisper_0 : cX0_whisper.data.toList.drop 0 = dktX0_whisper_0 := by decide +kernel
theorem dksX0_whisper_1 : cX0_whisper.data.toList.drop 22 = dktX0_whisper_1 := dk_seg dksX0_whisper_0 22 rfl rfl
theorem dksX0_whisper_2 : cX0_whisper.data.toList.drop 46 = dktX0_whisper_2 := dk_seg dksX0_whisper_1 24 rfl rfl
theorem dksX0_whisper_3 : cX0_whisper.data.toList.drop 70 = dktX0_whisper_3 := dk_seg dksX0_whisper_2 24 rfl rfl
theorem dksX0_whisper_4 : cX0_whisper.data.toList.drop 93 = dktX0_whisper_4 := dk_seg dksX0_whisper_3 23 rfl rfl
theorem dksX0_whisper_5 : cX0_whisper.data.toList.drop 117 = dktX0_whisper_5 := dk_seg dksX0_whisper_4 24 rfl rfl
theorem dksX0_whisper_6 : cX0_whisper.data.toList.drop 140 = dktX0_whisper_6 := dk_seg dksX0_whisper_5 23 rfl rfl
theorem dksX0_whisper_7 : cX0_whisper.data.toList.drop 163 = dktX0_whisper_7 := dk_seg dksX0_whisper_6 23 rfl rfl
theorem dX0_whisper_0 : decode cX0_whisper 0 = .ok (.iload_n 1, 1) := dk_27 (dk_at dksX0_whisper_0 0 rfl rfl)
theorem dX0_whisper_1 : decode cX0_whisper 1 = .ok (.i2l, 1) := dk_133 (dk_at dksX0_whisper_0 1 rfl rfl)
theorem dX0_whisper_2 : decode cX0_whisper 2 = .ok (.lconst 1, 1) := dk_10 (dk_at dksX0_whisper_0 2 rfl rfl)
theorem dX0_whisper_3 : decode cX0_whisper 3 = .ok (.ldc2_w 233, 3) := dk_20 0 233 (dk_at dksX0_whisper_0 3 rfl rfl)
theorem dX0_whisper_6 : decode cX0_whisper 6 = .ok (.invokestatic 126, 3) := dk_184 0 126 (dk_at dksX0_whisper_0 6 rfl rfl)
theorem dX0_whisper_9 : decode cX0_whisper 9 = .ok (.ifCond .ne 6, 3) := dk_154 0 6 (dk_at dksX0_whisper_0 9 rfl rfl)
theorem dX0_whisper_12 : decode cX0_whisper 12 = .ok (.bipush (-3), 2) := dk_16 253 (dk_at dksX0_whisper_0 12 rfl rfl)
theorem dX0_whisper_14 : decode cX0_whisper 14 = .ok (.ireturn, 1) := dk_172 (dk_at dksX0_whisper_0 14 rfl rfl)
theorem dX0_whisper_15 : decode cX0_whisper 15 = .ok (.iconst (-1), 1) := dk_2 (dk_at dksX0_whisper_0 15 rfl rfl)
theorem dX0_whisper_16 : decode cX0_whisper 16 = .ok (.istore_n 2, 1) := dk_61 (dk_at dksX0_whisper_0 16 rfl rfl)
theorem dX0_whisper_17 : decode cX0_whisper 17 = .ok (.aload_n 0, 1) := dk_42 (dk_at dksX0_whisper_0 17 rfl rfl)
theorem dX0_whisper_18 : decode cX0_whisper 18 = .ok (.getfield 109, 3) := dk_180 0 109 (dk_at dksX0_whisper_0 18 rfl rfl)
theorem dX0_whisper_21 : decode cX0_whisper 21 = .ok (.aload_n 0, 1) := dk_42 (dk_at dksX0_whisper_0 21 rfl rfl)
theorem dX0_whisper_22 : decode cX0_whisper 22 = .ok (.getfield 27, 3) := dk_180 0 27 (dk_at dksX0_whisper_1 0 rfl rfl)
theorem dX0_whisper_25 : decode cX0_whisper 25 = .ok (.invokevirtual 34, 3) := dk_182 0 34 (dk_at dksX0_whisper_1 3 rfl rfl)
theorem dX0_whisper_28 : decode cX0_whisper 28 = .ok (.iload_n 1, 1) := dk_27 (dk_at dksX0_whisper_1 6 rfl rfl)
theorem dX0_whisper_29 : decode cX0_whisper 29 = .ok (.invokevirtual 207, 3) := dk_182 0 207 (dk_at dksX0_whisper_1 7 rfl rfl)
theorem dX0_whisper_32 : decode cX0_whisper 32 = .ok (.invokevirtual 225, 3) := dk_182 0 225 (dk_at dksX0_whisper_1 10 rfl rfl)
theorem dX0_whisper_35 : decode cX0_whisper 35 = .ok (.invokestatic 228, 3) := dk_184 0 228 (dk_at dksX0_whisper_1 13 rfl rfl)
theorem dX0_whisper_38 : decode cX0_whisper 38 = .ok (.istore_n 3, 1) := dk_62 (dk_at dksX0_whisper_1 16 rfl rfl)
theorem dX0_whisper_39 : decode cX0_whisper 39 = .ok (.iconst 0, 1) := dk_3 (dk_at dksX0_whisper_1 17 rfl rfl)
theorem dX0_whisper_40 : decode cX0_whisper 40 = .ok (.istore 4, 2) := dk_54 4 (dk_at dksX0_whisper_1 18 rfl rfl)
theorem dX0_whisper_42 : decode cX0_whisper 42 = .ok (.iload 4, 2) := dk_21 4 (dk_at dksX0_whisper_1 20 rfl rfl)
theorem dX0_whisper_44 : decode cX0_whisper 44 = .ok (.bipush 10, 2) := dk_16 10 (dk_at dksX0_whisper_1 22 rfl rfl)
theorem dX0_whisper_46 : decode cX0_whisper 46 = .ok (.aload_n 0, 1) := dk_42 (dk_at dksX0_whisper_2 0 rfl rfl)
theorem dX0_whisper_47 : decode cX0_whisper 47 = .ok (.getfield 73, 3) := dk_180 0 73 (dk_at dksX0_whisper_2 1 rfl rfl)
theorem dX0_whisper_50 : decode cX0_whisper 50 = .ok (.imul, 1) := dk_104 (dk_at dksX0_whisper_2 4 rfl rfl)
theorem dX0_whisper_51 : decode cX0_whisper 51 = .ok (.if_icmp .ge 130, 3) := dk_162 0 130 (dk_at dksX0_whisper_2 5 rfl rfl)
theorem dX0_whisper_54 : decode cX0_whisper 54 = .ok (.iload 4, 2) := dk_21 4 (dk_at dksX0_whisper_2 8 rfl rfl)
theorem dX0_whisper_56 : decode cX0_whisper 56 = .ok (.bipush 10, 2) := dk_16 10 (dk_at dksX0_whisper_2 10 rfl rfl)
theorem dX0_whisper_58 : decode cX0_whisper 58 = .ok (.idiv, 1) := dk_108 (dk_at dksX0_whisper_2 12 rfl rfl)
theorem dX0_whisper_59 : decode cX0_whisper 59 = .ok (.istore 5, 2) := dk_54 5 (dk_at dksX0_whisper_2 13 rfl rfl)
theorem dX0_whisper_61 : decode cX0_whisper 61 = .ok (.iload 4, 2) := dk_21 4 (dk_at dksX0_whisper_2 15 rfl rfl)
theorem dX0_whisper_63 : decode cX0_whisper 63 = .ok (.bipush 10, 2) := dk_16 10 (dk_at dksX0_whisper_2 17 rfl rfl)
theorem dX0_whisper_65 : decode cX0_whisper 65 = .ok (.irem, 1) := dk_112 (dk_at dksX0_whisper_2 19 rfl rfl)
theorem dX0_whisper_66 : decode cX0_whisper 66 = .ok (.istore 6, 2) := dk_54 6 (dk_at dksX0_whisper_2 20 rfl rfl)
theorem dX0_whisper_68 : decode cX0_whisper 68 = .ok (.iload 6, 2) := dk_21 6 (dk_at dksX0_whisper_2 22 rfl rfl)
theorem dX0_whisper_70 : decode cX0_whisper 70 = .ok (.aload_n 0, 1) := dk_42 (dk_at dksX0_whisper_3 0 rfl rfl)
theorem dX0_whisper_71 : decode cX0_whisper 71 = .ok (.getfield 27, 3) := dk_180 0 27 (dk_at dksX0_whisper_3 1 rfl rfl)
theorem dX0_whisper_74 : decode cX0_whisper 74 = .ok (.getfield 76, 3) := dk_180 0 76 (dk_at dksX0_whisper_3 4 rfl rfl)
theorem dX0_whisper_77 : decode cX0_whisper 77 = .ok (.if_icmp .ge 98, 3) := dk_162 0 98 (dk_at dksX0_whisper_3 7 rfl rfl)
theorem dX0_whisper_80 : decode cX0_whisper 80 = .ok (.aload_n 0, 1) := dk_42 (dk_at dksX0_whisper_3 10 rfl rfl)
theorem dX0_whisper_81 : decode cX0_whisper 81 = .ok (.getfield 27, 3) := dk_180 0 27 (dk_at dksX0_whisper_3 11 rfl rfl)
theorem dX0_whisper_84 : decode cX0_whisper 84 = .ok (.iload 5, 2) := dk_21 5 (dk_at dksX0_whisper_3 14 rfl rfl)
theorem dX0_whisper_86 : decode cX0_whisper 86 = .ok (.invokevirtual 213, 3) := dk_182 0 213 (dk_at dksX0_whisper_3 16 rfl rfl)
theorem dX0_whisper_89 : decode cX0_whisper 89 = .ok (.ifCond .ne 86, 3) := dk_154 0 86 (dk_at dksX0_whisper_3 19 rfl rfl)
theorem dX0_whisper_92 : decode cX0_whisper 92 = .ok (.aload_n 0, 1) := dk_42 (dk_at dksX0_whisper_3 22 rfl rfl)
theorem dX0_whisper_93 : decode cX0_whisper 93 = .ok (.getfield 27, 3) := dk_180 0 27 (dk_at dksX0_whisper_4 0 rfl rfl)
theorem dX0_whisper_96 : decode cX0_whisper 96 = .ok (.getfield 79, 3) := dk_180 0 79 (dk_at dksX0_whisper_4 3 rfl rfl)
theorem dX0_whisper_99 : decode cX0_whisper 99 = .ok (.iload 5, 2) := dk_21 5 (dk_at dksX0_whisper_4 6 rfl rfl)
theorem dX0_whisper_101 : decode cX0_whisper 101 = .ok (.saload, 1) := dk_53 (dk_at dksX0_whisper_4 8 rfl rfl)
theorem dX0_whisper_102 : decode cX0_whisper 102 = .ok (.iload 6, 2) := dk_21 6 (dk_at dksX0_whisper_4 9 rfl rfl)
theorem dX0_whisper_104 : decode cX0_whisper 104 = .ok (.invokestatic 155, 3) := dk_184 0 155 (dk_at dksX0_whisper_4 11 rfl rfl)
theorem dX0_whisper_107 : decode cX0_whisper 107 = .ok (.ifCond .eq 6, 3) := dk_153 0 6 (dk_at dksX0_whisper_4 14 rfl rfl)
theorem dX0_whisper_110 : decode cX0_whisper 110 = .ok (.goto 65, 3) := dk_167 0 65 (dk_at dksX0_whisper_4 17 rfl rfl)
theorem dX0_whisper_113 : decode cX0_whisper 113 = .ok (.aload_n 0, 1) := dk_42 (dk_at dksX0_whisper_4 20 rfl rfl)
theorem dX0_whisper_114 : decode cX0_whisper 114 = .ok (.getfield 109, 3) := dk_180 0 109 (dk_at dksX0_whisper_4 21 rfl rfl)
theorem dX0_whisper_117 : decode cX0_whisper 117 = .ok (.aload_n 0, 1) := dk_42 (dk_at dksX0_whisper_5 0 rfl rfl)
theorem dX0_whisper_118 : decode cX0_whisper 118 = .ok (.getfield 27, 3) := dk_180 0 27 (dk_at dksX0_whisper_5 1 rfl rfl)
theorem dX0_whisper_121 : decode cX0_whisper 121 = .ok (.invokevirtual 34, 3) := dk_182 0 34 (dk_at dksX0_whisper_5 4 rfl rfl)
theorem dX0_whisper_124 : decode cX0_whisper 124 = .ok (.getfield 79, 3) := dk_180 0 79 (dk_at dksX0_whisper_5 7 rfl rfl)
theorem dX0_whisper_127 : decode cX0_whisper 127 = .ok (.iload 5, 2) := dk_21 5 (dk_at dksX0_whisper_5 10 rfl rfl)
theorem dX0_whisper_129 : decode cX0_whisper 129 = .ok (.dup2, 1) := dk_92 (dk_at dksX0_whisper_5 12 rfl rfl)
theorem dX0_whisper_130 : decode cX0_whisper 130 = .ok (.saload, 1) := dk_53 (dk_at dksX0_whisper_5 13 rfl rfl)
theorem dX0_whisper_131 : decode cX0_whisper 131 = .ok (.iconst 1, 1) := dk_4 (dk_at dksX0_whisper_5 14 rfl rfl)
theorem dX0_whisper_132 : decode cX0_whisper 132 = .ok (.iload 6, 2) := dk_21 6 (dk_at dksX0_whisper_5 15 rfl rfl)
theorem dX0_whisper_134 : decode cX0_whisper 134 = .ok (.ishl, 1) := dk_120 (dk_at dksX0_whisper_5 17 rfl rfl)
theorem dX0_whisper_135 : decode cX0_whisper 135 = .ok (.i2s, 1) := dk_147 (dk_at dksX0_whisper_5 18 rfl rfl)
theorem dX0_whisper_136 : decode cX0_whisper 136 = .ok (.ior, 1) := dk_128 (dk_at dksX0_whisper_5 19 rfl rfl)
theorem dX0_whisper_137 : decode cX0_whisper 137 = .ok (.i2s, 1) := dk_147 (dk_at dksX0_whisper_5 20 rfl rfl)
theorem dX0_whisper_138 : decode cX0_whisper 138 = .ok (.sastore, 1) := dk_86 (dk_at dksX0_whisper_5 21 rfl rfl)
theorem dX0_whisper_139 : decode cX0_whisper 139 = .ok (.aload_n 0, 1) := dk_42 (dk_at dksX0_whisper_5 22 rfl rfl)
theorem dX0_whisper_140 : decode cX0_whisper 140 = .ok (.getfield 109, 3) := dk_180 0 109 (dk_at dksX0_whisper_6 0 rfl rfl)
theorem dX0_whisper_143 : decode cX0_whisper 143 = .ok (.iload_n 1, 1) := dk_27 (dk_at dksX0_whisper_6 3 rfl rfl)
theorem dX0_whisper_144 : decode cX0_whisper 144 = .ok (.invokevirtual 207, 3) := dk_182 0 207 (dk_at dksX0_whisper_6 4 rfl rfl)
theorem dX0_whisper_147 : decode cX0_whisper 147 = .ok (.invokevirtual 225, 3) := dk_182 0 225 (dk_at dksX0_whisper_6 7 rfl rfl)
theorem dX0_whisper_150 : decode cX0_whisper 150 = .ok (.invokestatic 228, 3) := dk_184 0 228 (dk_at dksX0_whisper_6 10 rfl rfl)
theorem dX0_whisper_153 : decode cX0_whisper 153 = .ok (.istore 7, 2) := dk_54 7 (dk_at dksX0_whisper_6 13 rfl rfl)
theorem dX0_whisper_155 : decode cX0_whisper 155 = .ok (.iload 7, 2) := dk_21 7 (dk_at dksX0_whisper_6 15 rfl rfl)
theorem dX0_whisper_157 : decode cX0_whisper 157 = .ok (.iload_n 3, 1) := dk_29 (dk_at dksX0_whisper_6 17 rfl rfl)
theorem dX0_whisper_158 : decode cX0_whisper 158 = .ok (.if_icmp .le 8, 3) := dk_164 0 8 (dk_at dksX0_whisper_6 18 rfl rfl)
theorem dX0_whisper_161 : decode cX0_whisper 161 = .ok (.iload 4, 2) := dk_21 4 (dk_at dksX0_whisper_6 21 rfl rfl)
theorem dX0_whisper_163 : decode cX0_whisper 163 = .ok (.goto 4, 3) := dk_167 0 4 (dk_at dksX0_whisper_7 0 rfl rfl)
theorem dX0_whisper_166 : decode cX0_whisper 166 = .ok (.iload_n 2, 1) := dk_28 (dk_at dksX0_whisper_7 3 rfl rfl)
theorem dX0_whisper_167 : decode cX0_whisper 167 = .ok (.istore_n 2, 1) := dk_61 (dk_at dksX0_whisper_7 4 rfl rfl)
theorem dX0_whisper_168 : decode cX0_whisper 168 = .ok (.iload_n 3, 1) := dk_29 (dk_at dksX0_whisper_7 5 rfl rfl)
theorem dX0_whisper_169 : decode cX0_whisper 169 = .ok (.iload 7, 2) := dk_21 7 (dk_at dksX0_whisper_7 6 rfl rfl)
theorem dX0_whisper_171 : decode cX0_whisper 171 = .ok (.invokestatic 241, 3) := dk_184 0 241 (dk_at dksX0_whisper_7 8 rfl rfl)
theorem dX0_whisper_174 : decode cX0_whisper 174 = .ok (.istore_n 3, 1) := dk_62 (dk_at dksX0_whisper_7 11 rfl rfl)
theorem dX0_whisper_175 : decode cX0_whisper 175 = .ok (.iinc 4 1, 3) := dk_132 4 1 (dk_at dksX0_whisper_7 12 rfl rfl)
theorem dX0_whisper_178 : decode cX0_whisper 178 = .ok (.goto (-136), 3) := dk_167 255 120 (dk_at dksX0_whisper_7 15 rfl rfl)
theorem dX0_whisper_181 : decode cX0_whisper 181 = .ok (.iload_n 2, 1) := dk_28 (dk_at dksX0_whisper_7 18 rfl rfl)
theorem dX0_whisper_182 : decode cX0_whisper 182 = .ok (.ireturn, 1) := dk_172 (dk_at dksX0_whisper_7 19 rfl rfl)
abbrev cX0_jay : ByteArray := prog_1_method_37_code
def yX0_jay : MethodName := ⟨RX0, "jay", "(III)I"⟩
def dkwX0_jay_12 : List UInt8 := [21, 6, 21, 5, 21, 6, 184, 0, 100, 108, 172]
abbrev dktX0_jay_12 : List UInt8 := dkwX0_jay_12 ++ []
def dkwX0_jay_11 : List UInt8 := [21, 8, 167, 0, 4, 3, 96, 54, 5, 132, 7, 1, 167, 255, 80, 29, 154, 0, 8, 21, 5, 167, 0, 5]
abbrev dktX0_jay_11 : List UInt8 := dkwX0_jay_11 ++ dktX0_jay_12
def dkwX0_jay_10 : List UInt8 := [21, 5, 42, 180, 0, 109, 180, 0, 167, 27, 51, 42, 180, 0, 27, 180, 0, 167, 27, 51, 163, 0, 8]
abbrev dktX0_jay_10 : List UInt8 := dkwX0_jay_10 ++ dktX0_jay_11
def dkwX0_jay_9 : List UInt8 := [180, 0, 109, 180, 0, 90, 21, 9, 51, 84, 132, 9, 1, 167, 255, 170, 42, 180, 0, 109, 182, 0, 220]
abbrev dktX0_jay_9 : List UInt8 := dkwX0_jay_9 ++ dktX0_jay_10
def dkwX0_jay_8 : List UInt8 := [42, 180, 0, 109, 180, 0, 90, 21, 9, 21, 7, 21, 9, 184, 0, 155, 153, 0, 7, 3, 167, 0, 13, 42]
abbrev dktX0_jay_8 : List UInt8 := dkwX0_jay_8 ++ dktX0_jay_9
def dkwX0_jay_7 : List UInt8 := [167, 0, 21, 21, 7, 21, 9, 184, 0, 155, 153, 0, 7, 28, 167, 0, 7, 16, 10, 28, 100, 104, 54, 8]
abbrev dktX0_jay_7 : List UInt8 := dkwX0_jay_7 ++ dktX0_jay_8
def dkwX0_jay_6 : List UInt8 := [180, 0, 27, 180, 0, 76, 162, 0, 80, 21, 8, 21, 4, 21, 9, 184, 0, 155, 154, 0, 7, 4]
abbrev dktX0_jay_6 : List UInt8 := dkwX0_jay_6 ++ dktX0_jay_7
def dkwX0_jay_5 : List UInt8 := [167, 0, 149, 4, 54, 8, 42, 180, 0, 109, 42, 180, 0, 27, 182, 0, 34, 87, 3, 54, 9, 21, 9, 42]
abbrev dktX0_jay_5 : List UInt8 := dkwX0_jay_5 ++ dktX0_jay_6
def dkwX0_jay_4 : List UInt8 := [21, 7, 4, 42, 180, 0, 27, 180, 0, 76, 120, 162, 0, 168, 21, 7, 21, 4, 2, 130, 126, 153, 0, 6]
abbrev dktX0_jay_4 : List UInt8 := dkwX0_jay_4 ++ dktX0_jay_5
def dkwX0_jay_3 : List UInt8 := [54, 7, 21, 7, 158, 0, 16, 21, 6, 16, 10, 104, 54, 6, 132, 7, 255, 167, 255, 241, 3, 54, 7]
abbrev dktX0_jay_3 : List UInt8 := dkwX0_jay_3 ++ dktX0_jay_4
def dkwX0_jay_2 : List UInt8 := [16, 252, 172, 42, 180, 0, 27, 182, 0, 246, 54, 4, 3, 54, 5, 4, 54, 6, 21, 4, 184, 0, 228]
abbrev dktX0_jay_2 : List UInt8 := dkwX0_jay_2 ++ dktX0_jay_3
def dkwX0_jay_1 : List UInt8 := [133, 9, 10, 184, 0, 126, 154, 0, 6, 16, 253, 172, 42, 180, 0, 27, 27, 182, 0, 213, 153, 0, 6]
abbrev dktX0_jay_1 : List UInt8 := dkwX0_jay_1 ++ dktX0_jay_2
def dkwX0_jay_0 : List UInt8 := [42, 27, 182, 0, 170, 154, 0, 6, 16, 254, 172, 28, 133, 9, 20, 0, 244, 184, 0, 126, 153, 0, 13, 29]
abbrev dktX0_jay_0 : List UInt8 := dkwX0_jay_0 ++ dktX0_jay_1
theorem dksX0_jay_0 : cX0_jay.data.toList.drop 0 = dktX0_jay_0 := by decide +kernel
theorem dksX0_jay_1 : cX0_jay.data.toList.drop 24 = dktX0_jay_1 := dk_seg dksX0_jay_0 24 rfl rfl
theorem dksX0_jay_2 : cX0_jay.data.toList.drop 47 = dktX0_jay_2 := dk_seg dksX0_jay_1 23 rfl rfl
theorem dksX0_jay_3 : cX0_jay.data.toList.drop 70 = dktX0_jay_3 := dk_seg dksX0_jay_2 23 rfl rfl
theorem dksX0_jay_4 : cX0_jay.data.toList.drop 93 = dktX0_jay_4 := dk_seg dksX0_jay_3 23 rfl rfl
theorem dksX0_jay_5 : cX0_jay.data.toList.drop 117 = dktX0_jay_5 := dk_seg dksX0_jay_4 24 rfl rfl
theorem dksX0_jay_6 : cX0_jay.data.toList.drop 141 = dktX0_jay_6 := dk_seg dksX0_jay_5 24 rfl rfl
theorem dksX0_jay_7 : cX0_jay.data.toList.drop 163 = dktX0_jay_7 := dk_seg dksX0_jay_6 22 rfl rfl
theorem dksX0_jay_8 : cX0_jay.data.toList.drop 187 = dktX0_jay_8 := dk_seg dksX0_jay_7 24 rfl rfl
theorem dksX0_jay_9 : cX0_jay.data.toList.drop 211 = dktX0_jay_9 := dk_seg dksX0_jay_8 24 rfl rfl
theorem dksX0_jay_10 : cX0_jay.data.toList.drop 234 = dktX0_jay_10 := dk_seg dksX0_jay_9 23 rfl rfl
theorem dksX0_jay_11 : cX0_jay.data.toList.drop 257 = dktX0_jay_11 := dk_seg dksX0_jay_10 23 rfl rfl
theorem dksX0_jay_12 : cX0_jay.data.toList.drop 281 = dktX0_jay_12 := dk_seg dksX0_jay_11 24 rfl rfl
theorem dX0_jay_0 : decode cX0_jay 0 = .ok (.aload_n 0, 1) := dk_42 (dk_at dksX0_jay_0 0 rfl rfl)
theorem dX0_jay_1 : decode cX0_jay 1 = .ok (.iload_n 1, 1) := dk_27 (dk_at dksX0_jay_0 1 rfl rfl)
theorem dX0_jay_2 : decode cX0_jay 2 = .ok (.invokevirtual 170, 3) := dk_182 0 170 (dk_at dksX0_jay_0 2 rfl rfl)
theorem dX0_jay_5 : decode cX0_jay 5 = .ok (.ifCond .ne 6, 3) := dk_154 0 6 (dk_at dksX0_jay_0 5 rfl rfl)
theorem dX0_jay_8 : decode cX0_jay 8 = .ok (.bipush (-2), 2) := dk_16 254 (dk_at dksX0_jay_0 8 rfl rfl)
theorem dX0_jay_10 : decode cX0_jay 10 = .ok (.ireturn, 1) := dk_172 (dk_at dksX0_jay_0 10 rfl rfl)
theorem dX0_jay_11 : decode cX0_jay 11 = .ok (.iload_n 2, 1) := dk_28 (dk_at dksX0_jay_0 11 rfl rfl)
theorem dX0_jay_12 : decode cX0_jay 12 = .ok (.i2l, 1) := dk_133 (dk_at dksX0_jay_0 12 rfl rfl)
theorem dX0_jay_13 : decode cX0_jay 13 = .ok (.lconst 0, 1) := dk_9 (dk_at dksX0_jay_0 13 rfl rfl)
theorem dX0_jay_14 : decode cX0_jay 14 = .ok (.ldc2_w 244, 3) := dk_20 0 244 (dk_at dksX0_jay_0 14 rfl rfl)
theorem dX0_jay_17 : decode cX0_jay 17 = .ok (.invokestatic 126, 3) := dk_184 0 126 (dk_at dksX0_jay_0 17 rfl rfl)
theorem dX0_jay_20 : decode cX0_jay 20 = .ok (.ifCond .eq 13, 3) := dk_153 0 13 (dk_at dksX0_jay_0 20 rfl rfl)
theorem dX0_jay_23 : decode cX0_jay 23 = .ok (.iload_n 3, 1) := dk_29 (dk_at dksX0_jay_0 23 rfl rfl)
theorem dX0_jay_24 : decode cX0_jay 24 = .ok (.i2l, 1) := dk_133 (dk_at dksX0_jay_1 0 rfl rfl)
theorem dX0_jay_25 : decode cX0_jay 25 = .ok (.lconst 0, 1) := dk_9 (dk_at dksX0_jay_1 1 rfl rfl)
theorem dX0_jay_26 : decode cX0_jay 26 = .ok (.lconst 1, 1) := dk_10 (dk_at dksX0_jay_1 2 rfl rfl)
theorem dX0_jay_27 : decode cX0_jay 27 = .ok (.invokestatic 126, 3) := dk_184 0 126 (dk_at dksX0_jay_1 3 rfl rfl)
theorem dX0_jay_30 : decode cX0_jay 30 = .ok (.ifCond .ne 6, 3) := dk_154 0 6 (dk_at dksX0_jay_1 6 rfl rfl)
theorem dX0_jay_33 : decode cX0_jay 33 = .ok (.bipush (-3), 2) := dk_16 253 (dk_at dksX0_jay_1 9 rfl rfl)
theorem dX0_jay_35 : decode cX0_jay 35 = .ok (.ireturn, 1) := dk_172 (dk_at dksX0_jay_1 11 rfl rfl)
theorem dX0_jay_36 : decode cX0_jay 36 = .ok (.aload_n 0, 1) := dk_42 (dk_at dksX0_jay_1 12 rfl rfl)
theorem dX0_jay_37 : decode cX0_jay 37 = .ok (.getfield 27, 3) := dk_180 0 27 (dk_at dksX0_jay_1 13 rfl rfl)
theorem dX0_jay_40 : decode cX0_jay 40 = .ok (.iload_n 1, 1) := dk_27 (dk_at dksX0_jay_1 16 rfl rfl)
theorem dX0_jay_41 : decode cX0_jay 41 = .ok (.invokevirtual 213, 3) := dk_182 0 213 (dk_at dksX0_jay_1 17 rfl rfl)
theorem dX0_jay_44 : decode cX0_jay 44 = .ok (.ifCond .eq 6, 3) := dk_153 0 6 (dk_at dksX0_jay_1 20 rfl rfl)
theorem dX0_jay_47 : decode cX0_jay 47 = .ok (.bipush (-4), 2) := dk_16 252 (dk_at dksX0_jay_2 0 rfl rfl)
theorem dX0_jay_49 : decode cX0_jay 49 = .ok (.ireturn, 1) := dk_172 (dk_at dksX0_jay_2 2 rfl rfl)
theorem dX0_jay_50 : decode cX0_jay 50 = .ok (.aload_n 0, 1) := dk_42 (dk_at dksX0_jay_2 3 rfl rfl)
theorem dX0_jay_51 : decode cX0_jay 51 = .ok (.getfield 27, 3) := dk_180 0 27 (dk_at dksX0_jay_2 4 rfl rfl)
theorem dX0_jay_54 : decode cX0_jay 54 = .ok (.invokevirtual 246, 3) := dk_182 0 246 (dk_at dksX0_jay_2 7 rfl rfl)
theorem dX0_jay_57 : decode cX0_jay 57 = .ok (.istore 4, 2) := dk_54 4 (dk_at dksX0_jay_2 10 rfl rfl)
theorem dX0_jay_59 : decode cX0_jay 59 = .ok (.iconst 0, 1) := dk_3 (dk_at dksX0_jay_2 12 rfl rfl)
theorem dX0_jay_60 : decode cX0_jay 60 = .ok (.istore 5, 2) := dk_54 5 (dk_at dksX0_jay_2 13 rfl rfl)
theorem dX0_jay_62 : decode cX0_jay 62 = .ok (.iconst 1, 1) := dk_4 (dk_at dksX0_jay_2 15 rfl rfl)
theorem dX0_jay_63 : decode cX0_jay 63 = .ok (.istore 6, 2) := dk_54 6 (dk_at dksX0_jay_2 16 rfl rfl)
theorem dX0_jay_65 : decode cX0_jay 65 = .ok (.iload 4, 2) := dk_21 4 (dk_at dksX0_jay_2 18 rfl rfl)
theorem dX0_jay_67 : decode cX0_jay 67 = .ok (.invokestatic 228, 3) := dk_184 0 228 (dk_at dksX0_jay_2 20 rfl rfl)
theorem dX0_jay_70 : decode cX0_jay 70 = .ok (.istore 7, 2) := dk_54 7 (dk_at dksX0_jay_3 0 rfl rfl)
theorem dX0_jay_72 : decode cX0_jay 72 = .ok (.iload 7, 2) := dk_21 7 (dk_at dksX0_jay_3 2 rfl rfl)
theorem dX0_jay_74 : decode cX0_jay 74 = .ok (.ifCond .le 16, 3) := dk_158 0 16 (dk_at dksX0_jay_3 4 rfl rfl)
theorem dX0_jay_77 : decode cX0_jay 77 = .ok (.iload 6, 2) := dk_21 6 (dk_at dksX0_jay_3 7 rfl rfl)
theorem dX0_jay_79 : decode cX0_jay 79 = .ok (.bipush 10, 2) := dk_16 10 (dk_at dksX0_jay_3 9 rfl rfl)
theorem dX0_jay_81 : decode cX0_jay 81 = .ok (.imul, 1) := dk_104 (dk_at dksX0_jay_3 11 rfl rfl)
theorem dX0_jay_82 : decode cX0_jay 82 = .ok (.istore 6, 2) := dk_54 6 (dk_at dksX0_jay_3 12 rfl rfl)
theorem dX0_jay_84 : decode cX0_jay 84 = .ok (.iinc 7 (-1), 3) := dk_132 7 255 (dk_at dksX0_jay_3 14 rfl rfl)
theorem dX0_jay_87 : decode cX0_jay 87 = .ok (.goto (-15), 3) := dk_167 255 241 (dk_at dksX0_jay_3 17 rfl rfl)
theorem dX0_jay_90 : decode cX0_jay 90 = .ok (.iconst 0, 1) := dk_3 (dk_at dksX0_jay_3 20 rfl rfl)
theorem dX0_jay_91 : decode cX0_jay 91 = .ok (.istore 7, 2) := dk_54 7 (dk_at dksX0_jay_3 21 rfl rfl)
theorem dX0_jay_93 : decode cX0_jay 93 = .ok (.iload 7, 2) := dk_21 7 (dk_at dksX0_jay_4 0 rfl rfl)
theorem dX0_jay_95 : decode cX0_jay 95 = .ok (.iconst 1, 1) := dk_4 (dk_at dksX0_jay_4 2 rfl rfl)
theorem dX0_jay_96 : decode cX0_jay 96 = .ok (.aload_n 0, 1) := dk_42 (dk_at dksX0_jay_4 3 rfl rfl)
theorem dX0_jay_97 : decode cX0_jay 97 = .ok (.getfield 27, 3) := dk_180 0 27 (dk_at dksX0_jay_4 4 rfl rfl)
theorem dX0_jay_100 : decode cX0_jay 100 = .ok (.getfield 76, 3) := dk_180 0 76 (dk_at dksX0_jay_4 7 rfl rfl)
theorem dX0_jay_103 : decode cX0_jay 103 = .ok (.ishl, 1) := dk_120 (dk_at dksX0_jay_4 10 rfl rfl)
theorem dX0_jay_104 : decode cX0_jay 104 = .ok (.if_icmp .ge 168, 3) := dk_162 0 168 (dk_at dksX0_jay_4 11 rfl rfl)
theorem dX0_jay_107 : decode cX0_jay 107 = .ok (.iload 7, 2) := dk_21 7 (dk_at dksX0_jay_4 14 rfl rfl)
theorem dX0_jay_109 : decode cX0_jay 109 = .ok (.iload 4, 2) := dk_21 4 (dk_at dksX0_jay_4 16 rfl rfl)
theorem dX0_jay_111 : decode cX0_jay 111 = .ok (.iconst (-1), 1) := dk_2 (dk_at dksX0_jay_4 18 rfl rfl)
theorem dX0_jay_112 : decode cX0_jay 112 = .ok (.ixor, 1) := dk_130 (dk_at dksX0_jay_4 19 rfl rfl)
theorem dX0_jay_113 : decode cX0_jay 113 = .ok (.iand, 1) := dk_126 (dk_at dksX0_jay_4 20 rfl rfl)
theorem dX0_jay_114 : decode cX0_jay 114 = .ok (.ifCond .eq 6, 3) := dk_153 0 6 (dk_at dksX0_jay_4 21 rfl rfl)
theorem dX0_jay_117 : decode cX0_jay 117 = .ok (.goto 149, 3) := dk_167 0 149 (dk_at dksX0_jay_5 0 rfl rfl)
theorem dX0_jay_120 : decode cX0_jay 120 = .ok (.iconst 1, 1) := dk_4 (dk_at dksX0_jay_5 3 rfl rfl)
theorem dX0_jay_121 : decode cX0_jay 121 = .ok (.istore 8, 2) := dk_54 8 (dk_at dksX0_jay_5 4 rfl rfl)
theorem dX0_jay_123 : decode cX0_jay 123 = .ok (.aload_n 0, 1) := dk_42 (dk_at dksX0_jay_5 6 rfl rfl)
theorem dX0_jay_124 : decode cX0_jay 124 = .ok (.getfield 109, 3) := dk_180 0 109 (dk_at dksX0_jay_5 7 rfl rfl)
theorem dX0_jay_127 : decode cX0_jay 127 = .ok (.aload_n 0, 1) := dk_42 (dk_at dksX0_jay_5 10 rfl rfl)
theorem dX0_jay_128 : decode cX0_jay 128 = .ok (.getfield 27, 3) := dk_180 0 27 (dk_at dksX0_jay_5 11 rfl rfl)
theorem dX0_jay_131 : decode cX0_jay 131 = .ok (.invokevirtual 34, 3) := dk_182 0 34 (dk_at dksX0_jay_5 14 rfl rfl)
theorem dX0_jay_134 : decode cX0_jay 134 = .ok (.pop, 1) := dk_87 (dk_at dksX0_jay_5 17 rfl rfl)
theorem dX0_jay_135 : decode cX0_jay 135 = .ok (.iconst 0, 1) := dk_3 (dk_at dksX0_jay_5 18 rfl rfl)
theorem dX0_jay_136 : decode cX0_jay 136 = .ok (.istore 9, 2) := dk_54 9 (dk_at dksX0_jay_5 19 rfl rfl)
theorem dX0_jay_138 : decode cX0_jay 138 = .ok (.iload 9, 2) := dk_21 9 (dk_at dksX0_jay_5 21 rfl rfl)
theorem dX0_jay_140 : decode cX0_jay 140 = .ok (.aload_n 0, 1) := dk_42 (dk_at dksX0_jay_5 23 rfl rfl)
theorem dX0_jay_141 : decode cX0_jay 141 = .ok (.getfield 27, 3) := dk_180 0 27 (dk_at dksX0_jay_6 0 rfl rfl)
theorem dX0_jay_144 : decode cX0_jay 144 = .ok (.getfield 76, 3) := dk_180 0 76 (dk_at dksX0_jay_6 3 rfl rfl)
theorem dX0_jay_147 : decode cX0_jay 147 = .ok (.if_icmp .ge 80, 3) := dk_162 0 80 (dk_at dksX0_jay_6 6 rfl rfl)
theorem dX0_jay_150 : decode cX0_jay 150 = .ok (.iload 8, 2) := dk_21 8 (dk_at dksX0_jay_6 9 rfl rfl)
theorem dX0_jay_152 : decode cX0_jay 152 = .ok (.iload 4, 2) := dk_21 4 (dk_at dksX0_jay_6 11 rfl rfl)
theorem dX0_jay_154 : decode cX0_jay 154 = .ok (.iload 9, 2) := dk_21 9 (dk_at dksX0_jay_6 13 rfl rfl)
theorem dX0_jay_156 : decode cX0_jay 156 = .ok (.invokestatic 155, 3) := dk_184 0 155 (dk_at dksX0_jay_6 15 rfl rfl)
theorem dX0_jay_159 : decode cX0_jay 159 = .ok (.ifCond .ne 7, 3) := dk_154 0 7 (dk_at dksX0_jay_6 18 rfl rfl)
theorem dX0_jay_162 : decode cX0_jay 162 = .ok (.iconst 1, 1) := dk_4 (dk_at dksX0_jay_6 21 rfl rfl)
theorem dX0_jay_163 : decode cX0_jay 163 = .ok (.goto 21, 3) := dk_167 0 21 (dk_at dksX0_jay_7 0 rfl rfl)
theorem dX0_jay_166 : decode cX0_jay 166 = .ok (.iload 7, 2) := dk_21 7 (dk_at dksX0_jay_7 3 rfl rfl)
theorem dX0_jay_168 : decode cX0_jay 168 = .ok (.iload 9, 2) := dk_21 9 (dk_at dksX0_jay_7 5 rfl rfl)
theorem dX0_jay_170 : decode cX0_jay 170 = .ok (.invokestatic 155, 3) := dk_184 0 155 (dk_at dksX0_jay_7 7 rfl rfl)
theorem dX0_jay_173 : decode cX0_jay 173 = .ok (.ifCond .eq 7, 3) := dk_153 0 7 (dk_at dksX0_jay_7 10 rfl rfl)
theorem dX0_jay_176 : decode cX0_jay 176 = .ok (.iload_n 2, 1) := dk_28 (dk_at dksX0_jay_7 13 rfl rfl)
theorem dX0_jay_177 : decode cX0_jay 177 = .ok (.goto 7, 3) := dk_167 0 7 (dk_at dksX0_jay_7 14 rfl rfl)
theorem dX0_jay_180 : decode cX0_jay 180 = .ok (.bipush 10, 2) := dk_16 10 (dk_at dksX0_jay_7 17 rfl rfl)
theorem dX0_jay_182 : decode cX0_jay 182 = .ok (.iload_n 2, 1) := dk_28 (dk_at dksX0_jay_7 19 rfl rfl)
theorem dX0_jay_183 : decode cX0_jay 183 = .ok (.isub, 1) := dk_100 (dk_at dksX0_jay_7 20 rfl rfl)
theorem dX0_jay_184 : decode cX0_jay 184 = .ok (.imul, 1) := dk_104 (dk_at dksX0_jay_7 21 rfl rfl)
theorem dX0_jay_185 : decode cX0_jay 185 = .ok (.istore 8, 2) := dk_54 8 (dk_at dksX0_jay_7 22 rfl rfl)
theorem dX0_jay_187 : decode cX0_jay 187 = .ok (.aload_n 0, 1) := dk_42 (dk_at dksX0_jay_8 0 rfl rfl)
theorem dX0_jay_188 : decode cX0_jay 188 = .ok (.getfield 109, 3) := dk_180 0 109 (dk_at dksX0_jay_8 1 rfl rfl)
theorem dX0_jay_191 : decode cX0_jay 191 = .ok (.getfield 90, 3) := dk_180 0 90 (dk_at dksX0_jay_8 4 rfl rfl)
theorem dX0_jay_194 : decode cX0_jay 194 = .ok (.iload 9, 2) := dk_21 9 (dk_at dksX0_jay_8 7 rfl rfl)
theorem dX0_jay_196 : decode cX0_jay 196 = .ok (.iload 7, 2) := dk_21 7 (dk_at dksX0_jay_8 9 rfl rfl)
theorem dX0_jay_198 : decode cX0_jay 198 = .ok (.iload 9, 2) := dk_21 9 (dk_at dksX0_jay_8 11 rfl rfl)
theorem dX0_jay_200 : decode cX0_jay 200 = .ok (.invokestatic 155, 3) := dk_184 0 155 (dk_at dksX0_jay_8 13 rfl rfl)
theorem dX0_jay_203 : decode cX0_jay 203 = .ok (.ifCond .eq 7, 3) := dk_153 0 7 (dk_at dksX0_jay_8 16 rfl rfl)
theorem dX0_jay_206 : decode cX0_jay 206 = .ok (.iconst 0, 1) := dk_3 (dk_at dksX0_jay_8 19 rfl rfl)
theorem dX0_jay_207 : decode cX0_jay 207 = .ok (.goto 13, 3) := dk_167 0 13 (dk_at dksX0_jay_8 20 rfl rfl)
theorem dX0_jay_210 : decode cX0_jay 210 = .ok (.aload_n 0, 1) := dk_42 (dk_at dksX0_jay_8 23 rfl rfl)
theorem dX0_jay_211 : decode cX0_jay 211 = .ok (.getfield 109, 3) := dk_180 0 109 (dk_at dksX0_jay_9 0 rfl rfl)
theorem dX0_jay_214 : decode cX0_jay 214 = .ok (.getfield 90, 3) := dk_180 0 90 (dk_at dksX0_jay_9 3 rfl rfl)
theorem dX0_jay_217 : decode cX0_jay 217 = .ok (.iload 9, 2) := dk_21 9 (dk_at dksX0_jay_9 6 rfl rfl)
theorem dX0_jay_219 : decode cX0_jay 219 = .ok (.baload, 1) := dk_51 (dk_at dksX0_jay_9 8 rfl rfl)
theorem dX0_jay_220 : decode cX0_jay 220 = .ok (.bastore, 1) := dk_84 (dk_at dksX0_jay_9 9 rfl rfl)
theorem dX0_jay_221 : decode cX0_jay 221 = .ok (.iinc 9 1, 3) := dk_132 9 1 (dk_at dksX0_jay_9 10 rfl rfl)
theorem dX0_jay_224 : decode cX0_jay 224 = .ok (.goto (-86), 3) := dk_167 255 170 (dk_at dksX0_jay_9 13 rfl rfl)
theorem dX0_jay_227 : decode cX0_jay 227 = .ok (.aload_n 0, 1) := dk_42 (dk_at dksX0_jay_9 16 rfl rfl)
theorem dX0_jay_228 : decode cX0_jay 228 = .ok (.getfield 109, 3) := dk_180 0 109 (dk_at dksX0_jay_9 17 rfl rfl)
theorem dX0_jay_231 : decode cX0_jay 231 = .ok (.invokevirtual 220, 3) := dk_182 0 220 (dk_at dksX0_jay_9 20 rfl rfl)
theorem dX0_jay_234 : decode cX0_jay 234 = .ok (.iload 5, 2) := dk_21 5 (dk_at dksX0_jay_10 0 rfl rfl)
theorem dX0_jay_236 : decode cX0_jay 236 = .ok (.aload_n 0, 1) := dk_42 (dk_at dksX0_jay_10 2 rfl rfl)
theorem dX0_jay_237 : decode cX0_jay 237 = .ok (.getfield 109, 3) := dk_180 0 109 (dk_at dksX0_jay_10 3 rfl rfl)
theorem dX0_jay_240 : decode cX0_jay 240 = .ok (.getfield 167, 3) := dk_180 0 167 (dk_at dksX0_jay_10 6 rfl rfl)
theorem dX0_jay_243 : decode cX0_jay 243 = .ok (.iload_n 1, 1) := dk_27 (dk_at dksX0_jay_10 9 rfl rfl)
theorem dX0_jay_244 : decode cX0_jay 244 = .ok (.baload, 1) := dk_51 (dk_at dksX0_jay_10 10 rfl rfl)
theorem dX0_jay_245 : decode cX0_jay 245 = .ok (.aload_n 0, 1) := dk_42 (dk_at dksX0_jay_10 11 rfl rfl)
theorem dX0_jay_246 : decode cX0_jay 246 = .ok (.getfield 27, 3) := dk_180 0 27 (dk_at dksX0_jay_10 12 rfl rfl)
theorem dX0_jay_249 : decode cX0_jay 249 = .ok (.getfield 167, 3) := dk_180 0 167 (dk_at dksX0_jay_10 15 rfl rfl)
theorem dX0_jay_252 : decode cX0_jay 252 = .ok (.iload_n 1, 1) := dk_27 (dk_at dksX0_jay_10 18 rfl rfl)
theorem dX0_jay_253 : decode cX0_jay 253 = .ok (.baload, 1) := dk_51 (dk_at dksX0_jay_10 19 rfl rfl)
theorem dX0_jay_254 : decode cX0_jay 254 = .ok (.if_icmp .gt 8, 3) := dk_163 0 8 (dk_at dksX0_jay_10 20 rfl rfl)
theorem dX0_jay_257 : decode cX0_jay 257 = .ok (.iload 8, 2) := dk_21 8 (dk_at dksX0_jay_11 0 rfl rfl)
theorem dX0_jay_259 : decode cX0_jay 259 = .ok (.goto 4, 3) := dk_167 0 4 (dk_at dksX0_jay_11 2 rfl rfl)
theorem dX0_jay_262 : decode cX0_jay 262 = .ok (.iconst 0, 1) := dk_3 (dk_at dksX0_jay_11 5 rfl rfl)
theorem dX0_jay_263 : decode cX0_jay 263 = .ok (.iadd, 1) := dk_96 (dk_at dksX0_jay_11 6 rfl rfl)
theorem dX0_jay_264 : decode cX0_jay 264 = .ok (.istore 5, 2) := dk_54 5 (dk_at dksX0_jay_11 7 rfl rfl)
theorem dX0_jay_266 : decode cX0_jay 266 = .ok (.iinc 7 1, 3) := dk_132 7 1 (dk_at dksX0_jay_11 9 rfl rfl)
theorem dX0_jay_269 : decode cX0_jay 269 = .ok (.goto (-176), 3) := dk_167 255 80 (dk_at dksX0_jay_11 12 rfl rfl)
theorem dX0_jay_272 : decode cX0_jay 272 = .ok (.iload_n 3, 1) := dk_29 (dk_at dksX0_jay_11 15 rfl rfl)
theorem dX0_jay_273 : decode cX0_jay 273 = .ok (.ifCond .ne 8, 3) := dk_154 0 8 (dk_at dksX0_jay_11 16 rfl rfl)
theorem dX0_jay_276 : decode cX0_jay 276 = .ok (.iload 5, 2) := dk_21 5 (dk_at dksX0_jay_11 19 rfl rfl)
theorem dX0_jay_278 : decode cX0_jay 278 = .ok (.goto 5, 3) := dk_167 0 5 (dk_at dksX0_jay_11 21 rfl rfl)
theorem dX0_jay_281 : decode cX0_jay 281 = .ok (.iload 6, 2) := dk_21 6 (dk_at dksX0_jay_12 0 rfl rfl)
theorem dX0_jay_283 : decode cX0_jay 283 = .ok (.iload 5, 2) := dk_21 5 (dk_at dksX0_jay_12 2 rfl rfl)
theorem dX0_jay_285 : decode cX0_jay 285 = .ok (.iload 6, 2) := dk_21 6 (dk_at dksX0_jay_12 4 rfl rfl)
theorem dX0_jay_287 : decode cX0_jay 287 = .ok (.invokestatic 100, 3) := dk_184 0 100 (dk_at dksX0_jay_12 6 rfl rfl)
theorem dX0_jay_290 : decode cX0_jay 290 = .ok (.idiv, 1) := dk_108 (dk_at dksX0_jay_12 9 rfl rfl)
theorem dX0_jay_291 : decode cX0_jay 291 = .ok (.ireturn, 1) := dk_172 (dk_at dksX0_jay_12 10 rfl rfl)
abbrev cX0_gcd : ByteArray := prog_1_method_9_code
def yX0_gcd : MethodName := ⟨RX0, "gcd", "(II)I"⟩
def dkwX0_gcd_0 : List UInt8 := [27, 154, 0, 7, 26, 167, 0, 10, 27, 26, 27, 112, 184, 0, 100, 172]
abbrev dktX0_gcd_0 : List UInt8 := dkwX0_gcd_0 ++ []
theorem dksX0_gcd_0 : cX0_gcd.data.toList.drop 0 = dktX0_gcd_0 := by decide +kernel
theorem dX0_gcd_0 : decode cX0_gcd 0 = .ok (.iload_n 1, 1) := dk_27 (dk_at dksX0_gcd_0 0 rfl rfl)
theorem dX0_gcd_1 : decode cX0_gcd 1 = .ok (.ifCond .ne 7, 3) := dk_154 0 7 (dk_at dksX0_gcd_0 1 rfl rfl)
theorem dX0_gcd_4 : decode cX0_gcd 4 = .ok (.iload_n 0, 1) := dk_26 (dk_at dksX0_gcd_0 4 rfl rfl)
theorem dX0_gcd_5 : decode cX0_gcd 5 = .ok (.goto 10, 3) := dk_167 0 10 (dk_at dksX0_gcd_0 5 rfl rfl)
theorem dX0_gcd_8 : decode cX0_gcd 8 = .ok (.iload_n 1, 1) := dk_27 (dk_at dksX0_gcd_0 8 rfl rfl)
theorem dX0_gcd_9 : decode cX0_gcd 9 = .ok (.iload_n 0, 1) := dk_26 (dk_at dksX0_gcd_0 9 rfl rfl)
theorem dX0_gcd_10 : decode cX0_gcd 10 = .ok (.iload_n 1, 1) := dk_27 (dk_at dksX0_gcd_0 10 rfl rfl)
theorem dX0_gcd_11 : decode cX0_gcd 11 = .ok (.irem, 1) := dk_112 (dk_at dksX0_gcd_0 11 rfl rfl)
theorem dX0_gcd_12 : decode cX0_gcd 12 = .ok (.invokestatic 100, 3) := dk_184 0 100 (dk_at dksX0_gcd_0 12 rfl rfl)
theorem dX0_gcd_15 : decode cX0_gcd 15 = .ok (.ireturn, 1) := dk_172 (dk_at dksX0_gcd_0 15 rfl rfl)
abbrev cX0_seen : ByteArray := prog_1_method_38_code
def yX0_seen : MethodName := ⟨RX0, "seen", "(IIII)I"⟩
def dkwX0_seen_4 : List UInt8 := [180, 0, 44, 4, 96, 90, 181, 0, 44, 172]
abbrev dktX0_seen_4 : List UInt8 := dkwX0_seen_4 ++ []
def dkwX0_seen_3 : List UInt8 := [188, 10, 89, 3, 27, 79, 89, 4, 28, 79, 89, 5, 29, 79, 89, 6, 21, 4, 79, 83, 42, 89]
abbrev dktX0_seen_3 : List UInt8 := dkwX0_seen_3 ++ dktX0_seen_4
def dkwX0_seen_2 : List UInt8 := [16, 253, 172, 42, 180, 0, 44, 16, 6, 160, 0, 6, 16, 251, 172, 42, 180, 0, 114, 42, 180, 0, 44, 7]
abbrev dktX0_seen_2 : List UInt8 := dkwX0_seen_2 ++ dktX0_seen_3
def dkwX0_seen_1 : List UInt8 := [9, 20, 0, 251, 184, 0, 126, 153, 0, 16, 21, 4, 133, 9, 20, 0, 253, 184, 0, 126, 154, 0, 6]
abbrev dktX0_seen_1 : List UInt8 := dkwX0_seen_1 ++ dktX0_seen_2
def dkwX0_seen_0 : List UInt8 := [27, 133, 10, 20, 0, 249, 184, 0, 126, 153, 0, 38, 28, 133, 9, 10, 184, 0, 126, 153, 0, 28, 29, 133]
abbrev dktX0_seen_0 : List UInt8 := dkwX0_seen_0 ++ dktX0_seen_1
theorem dksX0_seen_0 : cX0_seen.data.toList.drop 0 = dktX0_seen_0 := by decide +kernel
theorem dksX0_seen_1 : cX0_seen.data.toList.drop 24 = dktX0_seen_1 := dk_seg dksX0_seen_0 24 rfl rfl
theorem dksX0_seen_2 : cX0_seen.data.toList.drop 47 = dktX0_seen_2 := dk_seg dksX0_seen_1 23 rfl rfl
theorem dksX0_seen_3 : cX0_seen.data.toList.drop 71 = dktX0_seen_3 := dk_seg dksX0_seen_2 24 rfl rfl
theorem dksX0_seen_4 : cX0_seen.data.toList.drop 93 = dktX0_seen_4 := dk_seg dksX0_seen_3 22 rfl rfl
theorem dX0_seen_0 : decode cX0_seen 0 = .ok (.iload_n 1, 1) := dk_27 (dk_at dksX0_seen_0 0 rfl rfl)
theorem dX0_seen_1 : decode cX0_seen 1 = .ok (.i2l, 1) := dk_133 (dk_at dksX0_seen_0 1 rfl rfl)
theorem dX0_seen_2 : decode cX0_seen 2 = .ok (.lconst 1, 1) := dk_10 (dk_at dksX0_seen_0 2 rfl rfl)
theorem dX0_seen_3 : decode cX0_seen 3 = .ok (.ldc2_w 249, 3) := dk_20 0 249 (dk_at dksX0_seen_0 3 rfl rfl)
theorem dX0_seen_6 : decode cX0_seen 6 = .ok (.invokestatic 126, 3) := dk_184 0 126 (dk_at dksX0_seen_0 6 rfl rfl)
theorem dX0_seen_9 : decode cX0_seen 9 = .ok (.ifCond .eq 38, 3) := dk_153 0 38 (dk_at dksX0_seen_0 9 rfl rfl)
theorem dX0_seen_12 : decode cX0_seen 12 = .ok (.iload_n 2, 1) := dk_28 (dk_at dksX0_seen_0 12 rfl rfl)
theorem dX0_seen_13 : decode cX0_seen 13 = .ok (.i2l, 1) := dk_133 (dk_at dksX0_seen_0 13 rfl rfl)
theorem dX0_seen_14 : decode cX0_seen 14 = .ok (.lconst 0, 1) := dk_9 (dk_at dksX0_seen_0 14 rfl rfl)
theorem dX0_seen_15 : decode cX0_seen 15 = .ok (.lconst 1, 1) := dk_10 (dk_at dksX0_seen_0 15 rfl rfl)
theorem dX0_seen_16 : decode cX0_seen 16 = .ok (.invokestatic 126, 3) := dk_184 0 126 (dk_at dksX0_seen_0 16 rfl rfl)
theorem dX0_seen_19 : decode cX0_seen 19 = .ok (.ifCond .eq 28, 3) := dk_153 0 28 (dk_at dksX0_seen_0 19 rfl rfl)
theorem dX0_seen_22 : decode cX0_seen 22 = .ok (.iload_n 3, 1) := dk_29 (dk_at dksX0_seen_0 22 rfl rfl)
theorem dX0_seen_23 : decode cX0_seen 23 = .ok (.i2l, 1) := dk_133 (dk_at dksX0_seen_0 23 rfl rfl)
theorem dX0_seen_24 : decode cX0_seen 24 = .ok (.lconst 0, 1) := dk_9 (dk_at dksX0_seen_1 0 rfl rfl)
theorem dX0_seen_25 : decode cX0_seen 25 = .ok (.ldc2_w 251, 3) := dk_20 0 251 (dk_at dksX0_seen_1 1 rfl rfl)
theorem dX0_seen_28 : decode cX0_seen 28 = .ok (.invokestatic 126, 3) := dk_184 0 126 (dk_at dksX0_seen_1 4 rfl rfl)
theorem dX0_seen_31 : decode cX0_seen 31 = .ok (.ifCond .eq 16, 3) := dk_153 0 16 (dk_at dksX0_seen_1 7 rfl rfl)
theorem dX0_seen_34 : decode cX0_seen 34 = .ok (.iload 4, 2) := dk_21 4 (dk_at dksX0_seen_1 10 rfl rfl)
theorem dX0_seen_36 : decode cX0_seen 36 = .ok (.i2l, 1) := dk_133 (dk_at dksX0_seen_1 12 rfl rfl)
theorem dX0_seen_37 : decode cX0_seen 37 = .ok (.lconst 0, 1) := dk_9 (dk_at dksX0_seen_1 13 rfl rfl)
theorem dX0_seen_38 : decode cX0_seen 38 = .ok (.ldc2_w 253, 3) := dk_20 0 253 (dk_at dksX0_seen_1 14 rfl rfl)
theorem dX0_seen_41 : decode cX0_seen 41 = .ok (.invokestatic 126, 3) := dk_184 0 126 (dk_at dksX0_seen_1 17 rfl rfl)
theorem dX0_seen_44 : decode cX0_seen 44 = .ok (.ifCond .ne 6, 3) := dk_154 0 6 (dk_at dksX0_seen_1 20 rfl rfl)
theorem dX0_seen_47 : decode cX0_seen 47 = .ok (.bipush (-3), 2) := dk_16 253 (dk_at dksX0_seen_2 0 rfl rfl)
theorem dX0_seen_49 : decode cX0_seen 49 = .ok (.ireturn, 1) := dk_172 (dk_at dksX0_seen_2 2 rfl rfl)
theorem dX0_seen_50 : decode cX0_seen 50 = .ok (.aload_n 0, 1) := dk_42 (dk_at dksX0_seen_2 3 rfl rfl)
theorem dX0_seen_51 : decode cX0_seen 51 = .ok (.getfield 44, 3) := dk_180 0 44 (dk_at dksX0_seen_2 4 rfl rfl)
theorem dX0_seen_54 : decode cX0_seen 54 = .ok (.bipush 6, 2) := dk_16 6 (dk_at dksX0_seen_2 7 rfl rfl)
theorem dX0_seen_56 : decode cX0_seen 56 = .ok (.if_icmp .ne 6, 3) := dk_160 0 6 (dk_at dksX0_seen_2 9 rfl rfl)
theorem dX0_seen_59 : decode cX0_seen 59 = .ok (.bipush (-5), 2) := dk_16 251 (dk_at dksX0_seen_2 12 rfl rfl)
theorem dX0_seen_61 : decode cX0_seen 61 = .ok (.ireturn, 1) := dk_172 (dk_at dksX0_seen_2 14 rfl rfl)
theorem dX0_seen_62 : decode cX0_seen 62 = .ok (.aload_n 0, 1) := dk_42 (dk_at dksX0_seen_2 15 rfl rfl)
theorem dX0_seen_63 : decode cX0_seen 63 = .ok (.getfield 114, 3) := dk_180 0 114 (dk_at dksX0_seen_2 16 rfl rfl)
theorem dX0_seen_66 : decode cX0_seen 66 = .ok (.aload_n 0, 1) := dk_42 (dk_at dksX0_seen_2 19 rfl rfl)
theorem dX0_seen_67 : decode cX0_seen 67 = .ok (.getfield 44, 3) := dk_180 0 44 (dk_at dksX0_seen_2 20 rfl rfl)
theorem dX0_seen_70 : decode cX0_seen 70 = .ok (.iconst 4, 1) := dk_7 (dk_at dksX0_seen_2 23 rfl rfl)
theorem dX0_seen_71 : decode cX0_seen 71 = .ok (.newarray .int, 2) := dk_188_10 (dk_at dksX0_seen_3 0 rfl rfl)
theorem dX0_seen_73 : decode cX0_seen 73 = .ok (.dup, 1) := dk_89 (dk_at dksX0_seen_3 2 rfl rfl)
theorem dX0_seen_74 : decode cX0_seen 74 = .ok (.iconst 0, 1) := dk_3 (dk_at dksX0_seen_3 3 rfl rfl)
theorem dX0_seen_75 : decode cX0_seen 75 = .ok (.iload_n 1, 1) := dk_27 (dk_at dksX0_seen_3 4 rfl rfl)
theorem dX0_seen_76 : decode cX0_seen 76 = .ok (.iastore, 1) := dk_79 (dk_at dksX0_seen_3 5 rfl rfl)
theorem dX0_seen_77 : decode cX0_seen 77 = .ok (.dup, 1) := dk_89 (dk_at dksX0_seen_3 6 rfl rfl)
theorem dX0_seen_78 : decode cX0_seen 78 = .ok (.iconst 1, 1) := dk_4 (dk_at dksX0_seen_3 7 rfl rfl)
theorem dX0_seen_79 : decode cX0_seen 79 = .ok (.iload_n 2, 1) := dk_28 (dk_at dksX0_seen_3 8 rfl rfl)
theorem dX0_seen_80 : decode cX0_seen 80 = .ok (.iastore, 1) := dk_79 (dk_at dksX0_seen_3 9 rfl rfl)
theorem dX0_seen_81 : decode cX0_seen 81 = .ok (.dup, 1) := dk_89 (dk_at dksX0_seen_3 10 rfl rfl)
theorem dX0_seen_82 : decode cX0_seen 82 = .ok (.iconst 2, 1) := dk_5 (dk_at dksX0_seen_3 11 rfl rfl)
theorem dX0_seen_83 : decode cX0_seen 83 = .ok (.iload_n 3, 1) := dk_29 (dk_at dksX0_seen_3 12 rfl rfl)
theorem dX0_seen_84 : decode cX0_seen 84 = .ok (.iastore, 1) := dk_79 (dk_at dksX0_seen_3 13 rfl rfl)
theorem dX0_seen_85 : decode cX0_seen 85 = .ok (.dup, 1) := dk_89 (dk_at dksX0_seen_3 14 rfl rfl)
theorem dX0_seen_86 : decode cX0_seen 86 = .ok (.iconst 3, 1) := dk_6 (dk_at dksX0_seen_3 15 rfl rfl)
theorem dX0_seen_87 : decode cX0_seen 87 = .ok (.iload 4, 2) := dk_21 4 (dk_at dksX0_seen_3 16 rfl rfl)
theorem dX0_seen_89 : decode cX0_seen 89 = .ok (.iastore, 1) := dk_79 (dk_at dksX0_seen_3 18 rfl rfl)
theorem dX0_seen_90 : decode cX0_seen 90 = .ok (.aastore, 1) := dk_83 (dk_at dksX0_seen_3 19 rfl rfl)
theorem dX0_seen_91 : decode cX0_seen 91 = .ok (.aload_n 0, 1) := dk_42 (dk_at dksX0_seen_3 20 rfl rfl)
theorem dX0_seen_92 : decode cX0_seen 92 = .ok (.dup, 1) := dk_89 (dk_at dksX0_seen_3 21 rfl rfl)
theorem dX0_seen_93 : decode cX0_seen 93 = .ok (.getfield 44, 3) := dk_180 0 44 (dk_at dksX0_seen_4 0 rfl rfl)
theorem dX0_seen_96 : decode cX0_seen 96 = .ok (.iconst 1, 1) := dk_4 (dk_at dksX0_seen_4 3 rfl rfl)
theorem dX0_seen_97 : decode cX0_seen 97 = .ok (.iadd, 1) := dk_96 (dk_at dksX0_seen_4 4 rfl rfl)
theorem dX0_seen_98 : decode cX0_seen 98 = .ok (.dup_x1, 1) := dk_90 (dk_at dksX0_seen_4 5 rfl rfl)
theorem dX0_seen_99 : decode cX0_seen 99 = .ok (.putfield 44, 3) := dk_181 0 44 (dk_at dksX0_seen_4 6 rfl rfl)
theorem dX0_seen_102 : decode cX0_seen 102 = .ok (.ireturn, 1) := dk_172 (dk_at dksX0_seen_4 9 rfl rfl)
abbrev cX0_forget : ByteArray := prog_1_method_39_code
def yX0_forget : MethodName := ⟨RX0, "forget", "()I"⟩
def dkwX0_forget_0 : List UInt8 := [42, 180, 0, 44, 60, 42, 3, 181, 0, 44, 27, 172]
abbrev dktX0_forget_0 : List UInt8 := dkwX0_forget_0 ++ []
theorem dksX0_forget_0 : cX0_forget.data.toList.drop 0 = dktX0_forget_0 := by decide +kernel
theorem dX0_forget_0 : decode cX0_forget 0 = .ok (.aload_n 0, 1) := dk_42 (dk_at dksX0_forget_0 0 rfl rfl)
theorem dX0_forget_1 : decode cX0_forget 1 = .ok (.getfield 44, 3) := dk_180 0 44 (dk_at dksX0_forget_0 1 rfl rfl)
theorem dX0_forget_4 : decode cX0_forget 4 = .ok (.istore_n 1, 1) := dk_60 (dk_at dksX0_forget_0 4 rfl rfl)
theorem dX0_forget_5 : decode cX0_forget 5 = .ok (.aload_n 0, 1) := dk_42 (dk_at dksX0_forget_0 5 rfl rfl)
theorem dX0_forget_6 : decode cX0_forget 6 = .ok (.iconst 0, 1) := dk_3 (dk_at dksX0_forget_0 6 rfl rfl)
theorem dX0_forget_7 : decode cX0_forget 7 = .ok (.putfield 44, 3) := dk_181 0 44 (dk_at dksX0_forget_0 7 rfl rfl)
theorem dX0_forget_10 : decode cX0_forget 10 = .ok (.iload_n 1, 1) := dk_27 (dk_at dksX0_forget_0 10 rfl rfl)
theorem dX0_forget_11 : decode cX0_forget 11 = .ok (.ireturn, 1) := dk_172 (dk_at dksX0_forget_0 11 rfl rfl)
abbrev cX0_kinds : ByteArray := prog_1_method_42_code
def yX0_kinds : MethodName := ⟨RX0, "kinds", "()I"⟩
theorem dX0_kinds_0 : decode cX0_kinds 0 = .ok (.aload_n 0, 1) := by decide +kernel
theorem dX0_kinds_1 : decode cX0_kinds 1 = .ok (.invokevirtual 266, 3) := by decide +kernel
theorem dX0_kinds_4 : decode cX0_kinds 4 = .ok (.ireturn, 1) := by decide +kernel
abbrev cX0_kindsSeen : ByteArray := prog_1_method_41_code
def yX0_kindsSeen : MethodName := ⟨RX0, "kindsSeen", "()I"⟩
def dkwX0_kindsSeen_3 : List UInt8 := [167, 255, 188, 27, 172]
abbrev dktX0_kindsSeen_3 : List UInt8 := dkwX0_kindsSeen_3 ++ []
def dkwX0_kindsSeen_2 : List UInt8 := [46, 104, 96, 159, 0, 6, 167, 0, 15, 132, 3, 1, 167, 255, 207, 27, 4, 28, 120, 128, 60, 132, 2, 1]
abbrev dktX0_kindsSeen_2 : List UInt8 := dkwX0_kindsSeen_2 ++ dktX0_kindsSeen_3
def dkwX0_kindsSeen_1 : List UInt8 := [50, 58, 4, 28, 25, 4, 3, 46, 25, 4, 4, 46, 184, 1, 6, 25, 4, 5, 46, 16, 100, 25, 4, 6]
abbrev dktX0_kindsSeen_1 : List UInt8 := dkwX0_kindsSeen_1 ++ dktX0_kindsSeen_2
def dkwX0_kindsSeen_0 : List UInt8 := [3, 60, 3, 61, 28, 8, 162, 0, 69, 3, 62, 29, 42, 180, 0, 44, 162, 0, 47, 42, 180, 0, 114, 29]
abbrev dktX0_kindsSeen_0 : List UInt8 := dkwX0_kindsSeen_0 ++ dktX0_kindsSeen_1
theorem dksX0_kindsSeen_0 : cX0_kindsSeen.data.toList.drop 0 = dktX0_kindsSeen_0 := by decide +kernel
theorem dksX0_kindsSeen_1 : cX0_kindsSeen.data.toList.drop 24 = dktX0_kindsSeen_1 := dk_seg dksX0_kindsSeen_0 24 rfl rfl
theorem dksX0_kindsSeen_2 : cX0_kindsSeen.data.toList.drop 48 = dktX0_kindsSeen_2 := dk_seg dksX0_kindsSeen_1 24 rfl rfl
theorem dksX0_kindsSeen_3 : cX0_kindsSeen.data.toList.drop 72 = dktX0_kindsSeen_3 := dk_seg dksX0_kindsSeen_2 24 rfl rfl
theorem dX0_kindsSeen_0 : decode cX0_kindsSeen 0 = .ok (.iconst 0, 1) := dk_3 (dk_at dksX0_kindsSeen_0 0 rfl rfl)
theorem dX0_kindsSeen_1 : decode cX0_kindsSeen 1 = .ok (.istore_n 1, 1) := dk_60 (dk_at dksX0_kindsSeen_0 1 rfl rfl)
theorem dX0_kindsSeen_2 : decode cX0_kindsSeen 2 = .ok (.iconst 0, 1) := dk_3 (dk_at dksX0_kindsSeen_0 2 rfl rfl)
theorem dX0_kindsSeen_3 : decode cX0_kindsSeen 3 = .ok (.istore_n 2, 1) := dk_61 (dk_at dksX0_kindsSeen_0 3 rfl rfl)
theorem dX0_kindsSeen_4 : decode cX0_kindsSeen 4 = .ok (.iload_n 2, 1) := dk_28 (dk_at dksX0_kindsSeen_0 4 rfl rfl)
theorem dX0_kindsSeen_5 : decode cX0_kindsSeen 5 = .ok (.iconst 5, 1) := dk_8 (dk_at dksX0_kindsSeen_0 5 rfl rfl)
theorem dX0_kindsSeen_6 : decode cX0_kindsSeen 6 = .ok (.if_icmp .ge 69, 3) := dk_162 0 69 (dk_at dksX0_kindsSeen_0 6 rfl rfl)
theorem dX0_kindsSeen_9 : decode cX0_kindsSeen 9 = .ok (.iconst 0, 1) := dk_3 (dk_at dksX0_kindsSeen_0 9 rfl rfl)
theorem dX0_kindsSeen_10 : decode cX0_kindsSeen 10 = .ok (.istore_n 3, 1) := dk_62 (dk_at dksX0_kindsSeen_0 10 rfl rfl)
theorem dX0_kindsSeen_11 : decode cX0_kindsSeen 11 = .ok (.iload_n 3, 1) := dk_29 (dk_at dksX0_kindsSeen_0 11 rfl rfl)
theorem dX0_kindsSeen_12 : decode cX0_kindsSeen 12 = .ok (.aload_n 0, 1) := dk_42 (dk_at dksX0_kindsSeen_0 12 rfl rfl)
theorem dX0_kindsSeen_13 : decode cX0_kindsSeen 13 = .ok (.getfield 44, 3) := dk_180 0 44 (dk_at dksX0_kindsSeen_0 13 rfl rfl)
theorem dX0_kindsSeen_16 : decode cX0_kindsSeen 16 = .ok (.if_icmp .ge 47, 3) := dk_162 0 47 (dk_at dksX0_kindsSeen_0 16 rfl rfl)
theorem dX0_kindsSeen_19 : decode cX0_kindsSeen 19 = .ok (.aload_n 0, 1) := dk_42 (dk_at dksX0_kindsSeen_0 19 rfl rfl)
theorem dX0_kindsSeen_20 : decode cX0_kindsSeen 20 = .ok (.getfield 114, 3) := dk_180 0 114 (dk_at dksX0_kindsSeen_0 20 rfl rfl)
theorem dX0_kindsSeen_23 : decode cX0_kindsSeen 23 = .ok (.iload_n 3, 1) := dk_29 (dk_at dksX0_kindsSeen_0 23 rfl rfl)
theorem dX0_kindsSeen_24 : decode cX0_kindsSeen 24 = .ok (.aaload, 1) := dk_50 (dk_at dksX0_kindsSeen_1 0 rfl rfl)
theorem dX0_kindsSeen_25 : decode cX0_kindsSeen 25 = .ok (.astore 4, 2) := dk_58 4 (dk_at dksX0_kindsSeen_1 1 rfl rfl)
theorem dX0_kindsSeen_27 : decode cX0_kindsSeen 27 = .ok (.iload_n 2, 1) := dk_28 (dk_at dksX0_kindsSeen_1 3 rfl rfl)
theorem dX0_kindsSeen_28 : decode cX0_kindsSeen 28 = .ok (.aload 4, 2) := dk_25 4 (dk_at dksX0_kindsSeen_1 4 rfl rfl)
theorem dX0_kindsSeen_30 : decode cX0_kindsSeen 30 = .ok (.iconst 0, 1) := dk_3 (dk_at dksX0_kindsSeen_1 6 rfl rfl)
theorem dX0_kindsSeen_31 : decode cX0_kindsSeen 31 = .ok (.iaload, 1) := dk_46 (dk_at dksX0_kindsSeen_1 7 rfl rfl)
theorem dX0_kindsSeen_32 : decode cX0_kindsSeen 32 = .ok (.aload 4, 2) := dk_25 4 (dk_at dksX0_kindsSeen_1 8 rfl rfl)
theorem dX0_kindsSeen_34 : decode cX0_kindsSeen 34 = .ok (.iconst 1, 1) := dk_4 (dk_at dksX0_kindsSeen_1 10 rfl rfl)
theorem dX0_kindsSeen_35 : decode cX0_kindsSeen 35 = .ok (.iaload, 1) := dk_46 (dk_at dksX0_kindsSeen_1 11 rfl rfl)
theorem dX0_kindsSeen_36 : decode cX0_kindsSeen 36 = .ok (.invokestatic 262, 3) := dk_184 1 6 (dk_at dksX0_kindsSeen_1 12 rfl rfl)
theorem dX0_kindsSeen_39 : decode cX0_kindsSeen 39 = .ok (.aload 4, 2) := dk_25 4 (dk_at dksX0_kindsSeen_1 15 rfl rfl)
theorem dX0_kindsSeen_41 : decode cX0_kindsSeen 41 = .ok (.iconst 2, 1) := dk_5 (dk_at dksX0_kindsSeen_1 17 rfl rfl)
theorem dX0_kindsSeen_42 : decode cX0_kindsSeen 42 = .ok (.iaload, 1) := dk_46 (dk_at dksX0_kindsSeen_1 18 rfl rfl)
theorem dX0_kindsSeen_43 : decode cX0_kindsSeen 43 = .ok (.bipush 100, 2) := dk_16 100 (dk_at dksX0_kindsSeen_1 19 rfl rfl)
theorem dX0_kindsSeen_45 : decode cX0_kindsSeen 45 = .ok (.aload 4, 2) := dk_25 4 (dk_at dksX0_kindsSeen_1 21 rfl rfl)
theorem dX0_kindsSeen_47 : decode cX0_kindsSeen 47 = .ok (.iconst 3, 1) := dk_6 (dk_at dksX0_kindsSeen_1 23 rfl rfl)
theorem dX0_kindsSeen_48 : decode cX0_kindsSeen 48 = .ok (.iaload, 1) := dk_46 (dk_at dksX0_kindsSeen_2 0 rfl rfl)
theorem dX0_kindsSeen_49 : decode cX0_kindsSeen 49 = .ok (.imul, 1) := dk_104 (dk_at dksX0_kindsSeen_2 1 rfl rfl)
theorem dX0_kindsSeen_50 : decode cX0_kindsSeen 50 = .ok (.iadd, 1) := dk_96 (dk_at dksX0_kindsSeen_2 2 rfl rfl)
theorem dX0_kindsSeen_51 : decode cX0_kindsSeen 51 = .ok (.if_icmp .eq 6, 3) := dk_159 0 6 (dk_at dksX0_kindsSeen_2 3 rfl rfl)
theorem dX0_kindsSeen_54 : decode cX0_kindsSeen 54 = .ok (.goto 15, 3) := dk_167 0 15 (dk_at dksX0_kindsSeen_2 6 rfl rfl)
theorem dX0_kindsSeen_57 : decode cX0_kindsSeen 57 = .ok (.iinc 3 1, 3) := dk_132 3 1 (dk_at dksX0_kindsSeen_2 9 rfl rfl)
theorem dX0_kindsSeen_60 : decode cX0_kindsSeen 60 = .ok (.goto (-49), 3) := dk_167 255 207 (dk_at dksX0_kindsSeen_2 12 rfl rfl)
theorem dX0_kindsSeen_63 : decode cX0_kindsSeen 63 = .ok (.iload_n 1, 1) := dk_27 (dk_at dksX0_kindsSeen_2 15 rfl rfl)
theorem dX0_kindsSeen_64 : decode cX0_kindsSeen 64 = .ok (.iconst 1, 1) := dk_4 (dk_at dksX0_kindsSeen_2 16 rfl rfl)
theorem dX0_kindsSeen_65 : decode cX0_kindsSeen 65 = .ok (.iload_n 2, 1) := dk_28 (dk_at dksX0_kindsSeen_2 17 rfl rfl)
theorem dX0_kindsSeen_66 : decode cX0_kindsSeen 66 = .ok (.ishl, 1) := dk_120 (dk_at dksX0_kindsSeen_2 18 rfl rfl)
theorem dX0_kindsSeen_67 : decode cX0_kindsSeen 67 = .ok (.ior, 1) := dk_128 (dk_at dksX0_kindsSeen_2 19 rfl rfl)
theorem dX0_kindsSeen_68 : decode cX0_kindsSeen 68 = .ok (.istore_n 1, 1) := dk_60 (dk_at dksX0_kindsSeen_2 20 rfl rfl)
theorem dX0_kindsSeen_69 : decode cX0_kindsSeen 69 = .ok (.iinc 2 1, 3) := dk_132 2 1 (dk_at dksX0_kindsSeen_2 21 rfl rfl)
theorem dX0_kindsSeen_72 : decode cX0_kindsSeen 72 = .ok (.goto (-68), 3) := dk_167 255 188 (dk_at dksX0_kindsSeen_3 0 rfl rfl)
theorem dX0_kindsSeen_75 : decode cX0_kindsSeen 75 = .ok (.iload_n 1, 1) := dk_27 (dk_at dksX0_kindsSeen_3 3 rfl rfl)
theorem dX0_kindsSeen_76 : decode cX0_kindsSeen 76 = .ok (.ireturn, 1) := dk_172 (dk_at dksX0_kindsSeen_3 4 rfl rfl)
abbrev cX0_does : ByteArray := prog_1_method_40_code
def yX0_does : MethodName := ⟨RX0, "does", "(III)I"⟩
def dkwX0_does_4 : List UInt8 := [182, 0, 188, 16, 100, 21, 7, 104, 96, 172]
abbrev dktX0_does_4 : List UInt8 := dkwX0_does_4 ++ []
def dkwX0_does_3 : List UInt8 := [162, 0, 7, 3, 167, 0, 15, 21, 5, 21, 6, 162, 0, 7, 4, 167, 0, 4, 5, 54, 7, 45]
abbrev dktX0_does_3 : List UInt8 := dkwX0_does_3 ++ dktX0_does_4
def dkwX0_does_2 : List UInt8 := [5, 16, 9, 16, 50, 7, 182, 1, 2, 54, 6, 21, 4, 21, 5, 162, 0, 14, 21, 4, 21, 6]
abbrev dktX0_does_2 : List UInt8 := dkwX0_does_2 ++ dktX0_does_3
def dkwX0_does_1 : List UInt8 := [16, 9, 16, 40, 8, 182, 1, 2, 54, 4, 45, 6, 16, 9, 16, 30, 16, 6, 182, 1, 2, 54, 5, 45]
abbrev dktX0_does_1 : List UInt8 := dkwX0_does_1 ++ dktX0_does_2
def dkwX0_does_0 : List UInt8 := [26, 3, 27, 184, 0, 93, 78, 45, 4, 28, 96, 182, 0, 255, 154, 0, 7, 17, 1, 44, 172, 45, 4]
abbrev dktX0_does_0 : List UInt8 := dkwX0_does_0 ++ dktX0_does_1
theorem dksX0_does_0 : cX0_does.data.toList.drop 0 = dktX0_does_0 := by decide +kernel
theorem dksX0_does_1 : cX0_does.data.toList.drop 23 = dktX0_does_1 := dk_seg dksX0_does_0 23 rfl rfl
theorem dksX0_does_2 : cX0_does.data.toList.drop 47 = dktX0_does_2 := dk_seg dksX0_does_1 24 rfl rfl
theorem dksX0_does_3 : cX0_does.data.toList.drop 69 = dktX0_does_3 := dk_seg dksX0_does_2 22 rfl rfl
theorem dksX0_does_4 : cX0_does.data.toList.drop 91 = dktX0_does_4 := dk_seg dksX0_does_3 22 rfl rfl
theorem dX0_does_0 : decode cX0_does 0 = .ok (.iload_n 0, 1) := dk_26 (dk_at dksX0_does_0 0 rfl rfl)
theorem dX0_does_1 : decode cX0_does 1 = .ok (.iconst 0, 1) := dk_3 (dk_at dksX0_does_0 1 rfl rfl)
theorem dX0_does_2 : decode cX0_does 2 = .ok (.iload_n 1, 1) := dk_27 (dk_at dksX0_does_0 2 rfl rfl)
theorem dX0_does_3 : decode cX0_does 3 = .ok (.invokestatic 93, 3) := dk_184 0 93 (dk_at dksX0_does_0 3 rfl rfl)
theorem dX0_does_6 : decode cX0_does 6 = .ok (.astore_n 3, 1) := dk_78 (dk_at dksX0_does_0 6 rfl rfl)
theorem dX0_does_7 : decode cX0_does 7 = .ok (.aload_n 3, 1) := dk_45 (dk_at dksX0_does_0 7 rfl rfl)
theorem dX0_does_8 : decode cX0_does 8 = .ok (.iconst 1, 1) := dk_4 (dk_at dksX0_does_0 8 rfl rfl)
theorem dX0_does_9 : decode cX0_does 9 = .ok (.iload_n 2, 1) := dk_28 (dk_at dksX0_does_0 9 rfl rfl)
theorem dX0_does_10 : decode cX0_does 10 = .ok (.iadd, 1) := dk_96 (dk_at dksX0_does_0 10 rfl rfl)
theorem dX0_does_11 : decode cX0_does 11 = .ok (.invokevirtual 255, 3) := dk_182 0 255 (dk_at dksX0_does_0 11 rfl rfl)
theorem dX0_does_14 : decode cX0_does 14 = .ok (.ifCond .ne 7, 3) := dk_154 0 7 (dk_at dksX0_does_0 14 rfl rfl)
theorem dX0_does_17 : decode cX0_does 17 = .ok (.sipush 300, 3) := dk_17 1 44 (dk_at dksX0_does_0 17 rfl rfl)
theorem dX0_does_20 : decode cX0_does 20 = .ok (.ireturn, 1) := dk_172 (dk_at dksX0_does_0 20 rfl rfl)
theorem dX0_does_21 : decode cX0_does 21 = .ok (.aload_n 3, 1) := dk_45 (dk_at dksX0_does_0 21 rfl rfl)
theorem dX0_does_22 : decode cX0_does 22 = .ok (.iconst 1, 1) := dk_4 (dk_at dksX0_does_0 22 rfl rfl)
theorem dX0_does_23 : decode cX0_does 23 = .ok (.bipush 9, 2) := dk_16 9 (dk_at dksX0_does_1 0 rfl rfl)
theorem dX0_does_25 : decode cX0_does 25 = .ok (.bipush 40, 2) := dk_16 40 (dk_at dksX0_does_1 2 rfl rfl)
theorem dX0_does_27 : decode cX0_does 27 = .ok (.iconst 5, 1) := dk_8 (dk_at dksX0_does_1 4 rfl rfl)
theorem dX0_does_28 : decode cX0_does 28 = .ok (.invokevirtual 258, 3) := dk_182 1 2 (dk_at dksX0_does_1 5 rfl rfl)
theorem dX0_does_31 : decode cX0_does 31 = .ok (.istore 4, 2) := dk_54 4 (dk_at dksX0_does_1 8 rfl rfl)
theorem dX0_does_33 : decode cX0_does 33 = .ok (.aload_n 3, 1) := dk_45 (dk_at dksX0_does_1 10 rfl rfl)
theorem dX0_does_34 : decode cX0_does 34 = .ok (.iconst 3, 1) := dk_6 (dk_at dksX0_does_1 11 rfl rfl)
theorem dX0_does_35 : decode cX0_does 35 = .ok (.bipush 9, 2) := dk_16 9 (dk_at dksX0_does_1 12 rfl rfl)
theorem dX0_does_37 : decode cX0_does 37 = .ok (.bipush 30, 2) := dk_16 30 (dk_at dksX0_does_1 14 rfl rfl)
theorem dX0_does_39 : decode cX0_does 39 = .ok (.bipush 6, 2) := dk_16 6 (dk_at dksX0_does_1 16 rfl rfl)
theorem dX0_does_41 : decode cX0_does 41 = .ok (.invokevirtual 258, 3) := dk_182 1 2 (dk_at dksX0_does_1 18 rfl rfl)
theorem dX0_does_44 : decode cX0_does 44 = .ok (.istore 5, 2) := dk_54 5 (dk_at dksX0_does_1 21 rfl rfl)
theorem dX0_does_46 : decode cX0_does 46 = .ok (.aload_n 3, 1) := dk_45 (dk_at dksX0_does_1 23 rfl rfl)
theorem dX0_does_47 : decode cX0_does 47 = .ok (.iconst 2, 1) := dk_5 (dk_at dksX0_does_2 0 rfl rfl)
theorem dX0_does_48 : decode cX0_does 48 = .ok (.bipush 9, 2) := dk_16 9 (dk_at dksX0_does_2 1 rfl rfl)
theorem dX0_does_50 : decode cX0_does 50 = .ok (.bipush 50, 2) := dk_16 50 (dk_at dksX0_does_2 3 rfl rfl)
theorem dX0_does_52 : decode cX0_does 52 = .ok (.iconst 4, 1) := dk_7 (dk_at dksX0_does_2 5 rfl rfl)
theorem dX0_does_53 : decode cX0_does 53 = .ok (.invokevirtual 258, 3) := dk_182 1 2 (dk_at dksX0_does_2 6 rfl rfl)
theorem dX0_does_56 : decode cX0_does 56 = .ok (.istore 6, 2) := dk_54 6 (dk_at dksX0_does_2 9 rfl rfl)
theorem dX0_does_58 : decode cX0_does 58 = .ok (.iload 4, 2) := dk_21 4 (dk_at dksX0_does_2 11 rfl rfl)
theorem dX0_does_60 : decode cX0_does 60 = .ok (.iload 5, 2) := dk_21 5 (dk_at dksX0_does_2 13 rfl rfl)
theorem dX0_does_62 : decode cX0_does 62 = .ok (.if_icmp .ge 14, 3) := dk_162 0 14 (dk_at dksX0_does_2 15 rfl rfl)
theorem dX0_does_65 : decode cX0_does 65 = .ok (.iload 4, 2) := dk_21 4 (dk_at dksX0_does_2 18 rfl rfl)
theorem dX0_does_67 : decode cX0_does 67 = .ok (.iload 6, 2) := dk_21 6 (dk_at dksX0_does_2 20 rfl rfl)
theorem dX0_does_69 : decode cX0_does 69 = .ok (.if_icmp .ge 7, 3) := dk_162 0 7 (dk_at dksX0_does_3 0 rfl rfl)
theorem dX0_does_72 : decode cX0_does 72 = .ok (.iconst 0, 1) := dk_3 (dk_at dksX0_does_3 3 rfl rfl)
theorem dX0_does_73 : decode cX0_does 73 = .ok (.goto 15, 3) := dk_167 0 15 (dk_at dksX0_does_3 4 rfl rfl)
theorem dX0_does_76 : decode cX0_does 76 = .ok (.iload 5, 2) := dk_21 5 (dk_at dksX0_does_3 7 rfl rfl)
theorem dX0_does_78 : decode cX0_does 78 = .ok (.iload 6, 2) := dk_21 6 (dk_at dksX0_does_3 9 rfl rfl)
theorem dX0_does_80 : decode cX0_does 80 = .ok (.if_icmp .ge 7, 3) := dk_162 0 7 (dk_at dksX0_does_3 11 rfl rfl)
theorem dX0_does_83 : decode cX0_does 83 = .ok (.iconst 1, 1) := dk_4 (dk_at dksX0_does_3 14 rfl rfl)
theorem dX0_does_84 : decode cX0_does 84 = .ok (.goto 4, 3) := dk_167 0 4 (dk_at dksX0_does_3 15 rfl rfl)
theorem dX0_does_87 : decode cX0_does 87 = .ok (.iconst 2, 1) := dk_5 (dk_at dksX0_does_3 18 rfl rfl)
theorem dX0_does_88 : decode cX0_does 88 = .ok (.istore 7, 2) := dk_54 7 (dk_at dksX0_does_3 19 rfl rfl)
theorem dX0_does_90 : decode cX0_does 90 = .ok (.aload_n 3, 1) := dk_45 (dk_at dksX0_does_3 21 rfl rfl)
theorem dX0_does_91 : decode cX0_does 91 = .ok (.invokevirtual 188, 3) := dk_182 0 188 (dk_at dksX0_does_4 0 rfl rfl)
theorem dX0_does_94 : decode cX0_does 94 = .ok (.bipush 100, 2) := dk_16 100 (dk_at dksX0_does_4 3 rfl rfl)
theorem dX0_does_96 : decode cX0_does 96 = .ok (.iload 7, 2) := dk_21 7 (dk_at dksX0_does_4 5 rfl rfl)
theorem dX0_does_98 : decode cX0_does 98 = .ok (.imul, 1) := dk_104 (dk_at dksX0_does_4 7 rfl rfl)
theorem dX0_does_99 : decode cX0_does 99 = .ok (.iadd, 1) := dk_96 (dk_at dksX0_does_4 8 rfl rfl)
theorem dX0_does_100 : decode cX0_does 100 = .ok (.ireturn, 1) := dk_172 (dk_at dksX0_does_4 9 rfl rfl)
abbrev cX0_ask : ByteArray := prog_1_method_43_code
def yX0_ask : MethodName := ⟨RX0, "ask", "()I"⟩
def dkwX0_ask_6 : List UInt8 := [28, 61, 29, 21, 6, 184, 0, 235, 62, 132, 5, 1, 167, 255, 123, 28, 172]
abbrev dktX0_ask_6 : List UInt8 := dkwX0_ask_6 ++ []
def dkwX0_ask_5 : List UInt8 := [21, 8, 184, 0, 241, 54, 6, 132, 7, 1, 167, 255, 162, 21, 6, 29, 162, 0, 8, 21, 5, 167, 0, 4]
abbrev dktX0_ask_5 : List UInt8 := dkwX0_ask_5 ++ dktX0_ask_6
def dkwX0_ask_4 : List UInt8 := [25, 4, 21, 7, 46, 160, 0, 7, 4, 167, 0, 4, 3, 96, 54, 8, 132, 9, 1, 167, 255, 223, 21, 6]
abbrev dktX0_ask_4 : List UInt8 := dkwX0_ask_4 ++ dktX0_ask_5
def dkwX0_ask_3 : List UInt8 := [21, 7, 100, 79, 3, 54, 8, 3, 54, 9, 21, 9, 21, 7, 163, 0, 32, 21, 8, 25, 4, 21, 9, 46]
abbrev dktX0_ask_3 : List UInt8 := dkwX0_ask_3 ++ dktX0_ask_4
def dkwX0_ask_2 : List UInt8 := [184, 0, 155, 153, 0, 19, 21, 7, 21, 5, 5, 108, 21, 5, 5, 112, 184, 1, 6, 167, 0, 7, 2]
abbrev dktX0_ask_2 : List UInt8 := dkwX0_ask_2 ++ dktX0_ask_3
def dkwX0_ask_1 : List UInt8 := [162, 0, 132, 3, 54, 6, 3, 54, 7, 21, 7, 8, 162, 0, 94, 25, 4, 21, 7, 27, 21, 7]
abbrev dktX0_ask_1 : List UInt8 := dkwX0_ask_1 ++ dktX0_ask_2
def dkwX0_ask_0 : List UInt8 := [42, 182, 1, 10, 60, 2, 61, 27, 184, 0, 228, 62, 8, 188, 10, 58, 4, 5, 54, 5, 21, 5, 16, 20]
abbrev dktX0_ask_0 : List UInt8 := dkwX0_ask_0 ++ dktX0_ask_1
theorem dksX0_ask_0 : cX0_ask.data.toList.drop 0 = dktX0_ask_0 := by decide +kernel
theorem dksX0_ask_1 : cX0_ask.data.toList.drop 24 = dktX0_ask_1 := dk_seg dksX0_ask_0 24 rfl rfl
theorem dksX0_ask_2 : cX0_ask.data.toList.drop 46 = dktX0_ask_2 := dk_seg dksX0_ask_1 22 rfl rfl
theorem dksX0_ask_3 : cX0_ask.data.toList.drop 69 = dktX0_ask_3 := dk_seg dksX0_ask_2 23 rfl rfl
theorem dksX0_ask_4 : cX0_ask.data.toList.drop 93 = dktX0_ask_4 := dk_seg dksX0_ask_3 24 rfl rfl
theorem dksX0_ask_5 : cX0_ask.data.toList.drop 117 = dktX0_ask_5 := dk_seg dksX0_ask_4 24 rfl rfl
theorem dksX0_ask_6 : cX0_ask.data.toList.drop 141 = dktX0_ask_6 := dk_seg dksX0_ask_5 24 rfl rfl
theorem dX0_ask_0 : decode cX0_ask 0 = .ok (.aload_n 0, 1) := dk_42 (dk_at dksX0_ask_0 0 rfl rfl)
theorem dX0_ask_1 : decode cX0_ask 1 = .ok (.invokevirtual 266, 3) := dk_182 1 10 (dk_at dksX0_ask_0 1 rfl rfl)
theorem dX0_ask_4 : decode cX0_ask 4 = .ok (.istore_n 1, 1) := dk_60 (dk_at dksX0_ask_0 4 rfl rfl)
theorem dX0_ask_5 : decode cX0_ask 5 = .ok (.iconst (-1), 1) := dk_2 (dk_at dksX0_ask_0 5 rfl rfl)
theorem dX0_ask_6 : decode cX0_ask 6 = .ok (.istore_n 2, 1) := dk_61 (dk_at dksX0_ask_0 6 rfl rfl)
theorem dX0_ask_7 : decode cX0_ask 7 = .ok (.iload_n 1, 1) := dk_27 (dk_at dksX0_ask_0 7 rfl rfl)
theorem dX0_ask_8 : decode cX0_ask 8 = .ok (.invokestatic 228, 3) := dk_184 0 228 (dk_at dksX0_ask_0 8 rfl rfl)
theorem dX0_ask_11 : decode cX0_ask 11 = .ok (.istore_n 3, 1) := dk_62 (dk_at dksX0_ask_0 11 rfl rfl)
theorem dX0_ask_12 : decode cX0_ask 12 = .ok (.iconst 5, 1) := dk_8 (dk_at dksX0_ask_0 12 rfl rfl)
theorem dX0_ask_13 : decode cX0_ask 13 = .ok (.newarray .int, 2) := dk_188_10 (dk_at dksX0_ask_0 13 rfl rfl)
theorem dX0_ask_15 : decode cX0_ask 15 = .ok (.astore 4, 2) := dk_58 4 (dk_at dksX0_ask_0 15 rfl rfl)
theorem dX0_ask_17 : decode cX0_ask 17 = .ok (.iconst 2, 1) := dk_5 (dk_at dksX0_ask_0 17 rfl rfl)
theorem dX0_ask_18 : decode cX0_ask 18 = .ok (.istore 5, 2) := dk_54 5 (dk_at dksX0_ask_0 18 rfl rfl)
theorem dX0_ask_20 : decode cX0_ask 20 = .ok (.iload 5, 2) := dk_21 5 (dk_at dksX0_ask_0 20 rfl rfl)
theorem dX0_ask_22 : decode cX0_ask 22 = .ok (.bipush 20, 2) := dk_16 20 (dk_at dksX0_ask_0 22 rfl rfl)
theorem dX0_ask_24 : decode cX0_ask 24 = .ok (.if_icmp .ge 132, 3) := dk_162 0 132 (dk_at dksX0_ask_1 0 rfl rfl)
theorem dX0_ask_27 : decode cX0_ask 27 = .ok (.iconst 0, 1) := dk_3 (dk_at dksX0_ask_1 3 rfl rfl)
theorem dX0_ask_28 : decode cX0_ask 28 = .ok (.istore 6, 2) := dk_54 6 (dk_at dksX0_ask_1 4 rfl rfl)
theorem dX0_ask_30 : decode cX0_ask 30 = .ok (.iconst 0, 1) := dk_3 (dk_at dksX0_ask_1 6 rfl rfl)
theorem dX0_ask_31 : decode cX0_ask 31 = .ok (.istore 7, 2) := dk_54 7 (dk_at dksX0_ask_1 7 rfl rfl)
theorem dX0_ask_33 : decode cX0_ask 33 = .ok (.iload 7, 2) := dk_21 7 (dk_at dksX0_ask_1 9 rfl rfl)
theorem dX0_ask_35 : decode cX0_ask 35 = .ok (.iconst 5, 1) := dk_8 (dk_at dksX0_ask_1 11 rfl rfl)
theorem dX0_ask_36 : decode cX0_ask 36 = .ok (.if_icmp .ge 94, 3) := dk_162 0 94 (dk_at dksX0_ask_1 12 rfl rfl)
theorem dX0_ask_39 : decode cX0_ask 39 = .ok (.aload 4, 2) := dk_25 4 (dk_at dksX0_ask_1 15 rfl rfl)
theorem dX0_ask_41 : decode cX0_ask 41 = .ok (.iload 7, 2) := dk_21 7 (dk_at dksX0_ask_1 17 rfl rfl)
theorem dX0_ask_43 : decode cX0_ask 43 = .ok (.iload_n 1, 1) := dk_27 (dk_at dksX0_ask_1 19 rfl rfl)
theorem dX0_ask_44 : decode cX0_ask 44 = .ok (.iload 7, 2) := dk_21 7 (dk_at dksX0_ask_1 20 rfl rfl)
theorem dX0_ask_46 : decode cX0_ask 46 = .ok (.invokestatic 155, 3) := dk_184 0 155 (dk_at dksX0_ask_2 0 rfl rfl)
theorem dX0_ask_49 : decode cX0_ask 49 = .ok (.ifCond .eq 19, 3) := dk_153 0 19 (dk_at dksX0_ask_2 3 rfl rfl)
theorem dX0_ask_52 : decode cX0_ask 52 = .ok (.iload 7, 2) := dk_21 7 (dk_at dksX0_ask_2 6 rfl rfl)
theorem dX0_ask_54 : decode cX0_ask 54 = .ok (.iload 5, 2) := dk_21 5 (dk_at dksX0_ask_2 8 rfl rfl)
theorem dX0_ask_56 : decode cX0_ask 56 = .ok (.iconst 2, 1) := dk_5 (dk_at dksX0_ask_2 10 rfl rfl)
theorem dX0_ask_57 : decode cX0_ask 57 = .ok (.idiv, 1) := dk_108 (dk_at dksX0_ask_2 11 rfl rfl)
theorem dX0_ask_58 : decode cX0_ask 58 = .ok (.iload 5, 2) := dk_21 5 (dk_at dksX0_ask_2 12 rfl rfl)
theorem dX0_ask_60 : decode cX0_ask 60 = .ok (.iconst 2, 1) := dk_5 (dk_at dksX0_ask_2 14 rfl rfl)
theorem dX0_ask_61 : decode cX0_ask 61 = .ok (.irem, 1) := dk_112 (dk_at dksX0_ask_2 15 rfl rfl)
theorem dX0_ask_62 : decode cX0_ask 62 = .ok (.invokestatic 262, 3) := dk_184 1 6 (dk_at dksX0_ask_2 16 rfl rfl)
theorem dX0_ask_65 : decode cX0_ask 65 = .ok (.goto 7, 3) := dk_167 0 7 (dk_at dksX0_ask_2 19 rfl rfl)
theorem dX0_ask_68 : decode cX0_ask 68 = .ok (.iconst (-1), 1) := dk_2 (dk_at dksX0_ask_2 22 rfl rfl)
theorem dX0_ask_69 : decode cX0_ask 69 = .ok (.iload 7, 2) := dk_21 7 (dk_at dksX0_ask_3 0 rfl rfl)
theorem dX0_ask_71 : decode cX0_ask 71 = .ok (.isub, 1) := dk_100 (dk_at dksX0_ask_3 2 rfl rfl)
theorem dX0_ask_72 : decode cX0_ask 72 = .ok (.iastore, 1) := dk_79 (dk_at dksX0_ask_3 3 rfl rfl)
theorem dX0_ask_73 : decode cX0_ask 73 = .ok (.iconst 0, 1) := dk_3 (dk_at dksX0_ask_3 4 rfl rfl)
theorem dX0_ask_74 : decode cX0_ask 74 = .ok (.istore 8, 2) := dk_54 8 (dk_at dksX0_ask_3 5 rfl rfl)
theorem dX0_ask_76 : decode cX0_ask 76 = .ok (.iconst 0, 1) := dk_3 (dk_at dksX0_ask_3 7 rfl rfl)
theorem dX0_ask_77 : decode cX0_ask 77 = .ok (.istore 9, 2) := dk_54 9 (dk_at dksX0_ask_3 8 rfl rfl)
theorem dX0_ask_79 : decode cX0_ask 79 = .ok (.iload 9, 2) := dk_21 9 (dk_at dksX0_ask_3 10 rfl rfl)
theorem dX0_ask_81 : decode cX0_ask 81 = .ok (.iload 7, 2) := dk_21 7 (dk_at dksX0_ask_3 12 rfl rfl)
theorem dX0_ask_83 : decode cX0_ask 83 = .ok (.if_icmp .gt 32, 3) := dk_163 0 32 (dk_at dksX0_ask_3 14 rfl rfl)
theorem dX0_ask_86 : decode cX0_ask 86 = .ok (.iload 8, 2) := dk_21 8 (dk_at dksX0_ask_3 17 rfl rfl)
theorem dX0_ask_88 : decode cX0_ask 88 = .ok (.aload 4, 2) := dk_25 4 (dk_at dksX0_ask_3 19 rfl rfl)
theorem dX0_ask_90 : decode cX0_ask 90 = .ok (.iload 9, 2) := dk_21 9 (dk_at dksX0_ask_3 21 rfl rfl)
theorem dX0_ask_92 : decode cX0_ask 92 = .ok (.iaload, 1) := dk_46 (dk_at dksX0_ask_3 23 rfl rfl)
theorem dX0_ask_93 : decode cX0_ask 93 = .ok (.aload 4, 2) := dk_25 4 (dk_at dksX0_ask_4 0 rfl rfl)
theorem dX0_ask_95 : decode cX0_ask 95 = .ok (.iload 7, 2) := dk_21 7 (dk_at dksX0_ask_4 2 rfl rfl)
theorem dX0_ask_97 : decode cX0_ask 97 = .ok (.iaload, 1) := dk_46 (dk_at dksX0_ask_4 4 rfl rfl)
theorem dX0_ask_98 : decode cX0_ask 98 = .ok (.if_icmp .ne 7, 3) := dk_160 0 7 (dk_at dksX0_ask_4 5 rfl rfl)
theorem dX0_ask_101 : decode cX0_ask 101 = .ok (.iconst 1, 1) := dk_4 (dk_at dksX0_ask_4 8 rfl rfl)
theorem dX0_ask_102 : decode cX0_ask 102 = .ok (.goto 4, 3) := dk_167 0 4 (dk_at dksX0_ask_4 9 rfl rfl)
theorem dX0_ask_105 : decode cX0_ask 105 = .ok (.iconst 0, 1) := dk_3 (dk_at dksX0_ask_4 12 rfl rfl)
theorem dX0_ask_106 : decode cX0_ask 106 = .ok (.iadd, 1) := dk_96 (dk_at dksX0_ask_4 13 rfl rfl)
theorem dX0_ask_107 : decode cX0_ask 107 = .ok (.istore 8, 2) := dk_54 8 (dk_at dksX0_ask_4 14 rfl rfl)
theorem dX0_ask_109 : decode cX0_ask 109 = .ok (.iinc 9 1, 3) := dk_132 9 1 (dk_at dksX0_ask_4 16 rfl rfl)
theorem dX0_ask_112 : decode cX0_ask 112 = .ok (.goto (-33), 3) := dk_167 255 223 (dk_at dksX0_ask_4 19 rfl rfl)
theorem dX0_ask_115 : decode cX0_ask 115 = .ok (.iload 6, 2) := dk_21 6 (dk_at dksX0_ask_4 22 rfl rfl)
theorem dX0_ask_117 : decode cX0_ask 117 = .ok (.iload 8, 2) := dk_21 8 (dk_at dksX0_ask_5 0 rfl rfl)
theorem dX0_ask_119 : decode cX0_ask 119 = .ok (.invokestatic 241, 3) := dk_184 0 241 (dk_at dksX0_ask_5 2 rfl rfl)
theorem dX0_ask_122 : decode cX0_ask 122 = .ok (.istore 6, 2) := dk_54 6 (dk_at dksX0_ask_5 5 rfl rfl)
theorem dX0_ask_124 : decode cX0_ask 124 = .ok (.iinc 7 1, 3) := dk_132 7 1 (dk_at dksX0_ask_5 7 rfl rfl)
theorem dX0_ask_127 : decode cX0_ask 127 = .ok (.goto (-94), 3) := dk_167 255 162 (dk_at dksX0_ask_5 10 rfl rfl)
theorem dX0_ask_130 : decode cX0_ask 130 = .ok (.iload 6, 2) := dk_21 6 (dk_at dksX0_ask_5 13 rfl rfl)
theorem dX0_ask_132 : decode cX0_ask 132 = .ok (.iload_n 3, 1) := dk_29 (dk_at dksX0_ask_5 15 rfl rfl)
theorem dX0_ask_133 : decode cX0_ask 133 = .ok (.if_icmp .ge 8, 3) := dk_162 0 8 (dk_at dksX0_ask_5 16 rfl rfl)
theorem dX0_ask_136 : decode cX0_ask 136 = .ok (.iload 5, 2) := dk_21 5 (dk_at dksX0_ask_5 19 rfl rfl)
theorem dX0_ask_138 : decode cX0_ask 138 = .ok (.goto 4, 3) := dk_167 0 4 (dk_at dksX0_ask_5 21 rfl rfl)
theorem dX0_ask_141 : decode cX0_ask 141 = .ok (.iload_n 2, 1) := dk_28 (dk_at dksX0_ask_6 0 rfl rfl)
theorem dX0_ask_142 : decode cX0_ask 142 = .ok (.istore_n 2, 1) := dk_61 (dk_at dksX0_ask_6 1 rfl rfl)
theorem dX0_ask_143 : decode cX0_ask 143 = .ok (.iload_n 3, 1) := dk_29 (dk_at dksX0_ask_6 2 rfl rfl)
theorem dX0_ask_144 : decode cX0_ask 144 = .ok (.iload 6, 2) := dk_21 6 (dk_at dksX0_ask_6 3 rfl rfl)
theorem dX0_ask_146 : decode cX0_ask 146 = .ok (.invokestatic 235, 3) := dk_184 0 235 (dk_at dksX0_ask_6 5 rfl rfl)
theorem dX0_ask_149 : decode cX0_ask 149 = .ok (.istore_n 3, 1) := dk_62 (dk_at dksX0_ask_6 8 rfl rfl)
theorem dX0_ask_150 : decode cX0_ask 150 = .ok (.iinc 5 1, 3) := dk_132 5 1 (dk_at dksX0_ask_6 9 rfl rfl)
theorem dX0_ask_153 : decode cX0_ask 153 = .ok (.goto (-133), 3) := dk_167 255 123 (dk_at dksX0_ask_6 12 rfl rfl)
theorem dX0_ask_156 : decode cX0_ask 156 = .ok (.iload_n 2, 1) := dk_28 (dk_at dksX0_ask_6 15 rfl rfl)
theorem dX0_ask_157 : decode cX0_ask 157 = .ok (.ireturn, 1) := dk_172 (dk_at dksX0_ask_6 16 rfl rfl)
abbrev cX0_trail : ByteArray := prog_1_method_46_code
def yX0_trail : MethodName := ⟨RX0, "trail", "(I)I"⟩
def dkwX0_trail_1 : List UInt8 := [172]
abbrev dktX0_trail_1 : List UInt8 := dkwX0_trail_1 ++ []
def dkwX0_trail_0 : List UInt8 := [27, 184, 1, 19, 154, 0, 6, 16, 254, 172, 42, 180, 0, 57, 27, 187, 0, 118, 89, 183, 1, 22, 83, 3]
abbrev dktX0_trail_0 : List UInt8 := dkwX0_trail_0 ++ dktX0_trail_1
theorem dksX0_trail_0 : cX0_trail.data.toList.drop 0 = dktX0_trail_0 := by decide +kernel
theorem dksX0_trail_1 : cX0_trail.data.toList.drop 24 = dktX0_trail_1 := dk_seg dksX0_trail_0 24 rfl rfl
theorem dX0_trail_0 : decode cX0_trail 0 = .ok (.iload_n 1, 1) := dk_27 (dk_at dksX0_trail_0 0 rfl rfl)
theorem dX0_trail_1 : decode cX0_trail 1 = .ok (.invokestatic 275, 3) := dk_184 1 19 (dk_at dksX0_trail_0 1 rfl rfl)
theorem dX0_trail_4 : decode cX0_trail 4 = .ok (.ifCond .ne 6, 3) := dk_154 0 6 (dk_at dksX0_trail_0 4 rfl rfl)
theorem dX0_trail_7 : decode cX0_trail 7 = .ok (.bipush (-2), 2) := dk_16 254 (dk_at dksX0_trail_0 7 rfl rfl)
theorem dX0_trail_9 : decode cX0_trail 9 = .ok (.ireturn, 1) := dk_172 (dk_at dksX0_trail_0 9 rfl rfl)
theorem dX0_trail_10 : decode cX0_trail 10 = .ok (.aload_n 0, 1) := dk_42 (dk_at dksX0_trail_0 10 rfl rfl)
theorem dX0_trail_11 : decode cX0_trail 11 = .ok (.getfield 57, 3) := dk_180 0 57 (dk_at dksX0_trail_0 11 rfl rfl)
theorem dX0_trail_14 : decode cX0_trail 14 = .ok (.iload_n 1, 1) := dk_27 (dk_at dksX0_trail_0 14 rfl rfl)
theorem dX0_trail_15 : decode cX0_trail 15 = .ok (.new 118, 3) := dk_187 0 118 (dk_at dksX0_trail_0 15 rfl rfl)
theorem dX0_trail_18 : decode cX0_trail 18 = .ok (.dup, 1) := dk_89 (dk_at dksX0_trail_0 18 rfl rfl)
theorem dX0_trail_19 : decode cX0_trail 19 = .ok (.invokespecial 278, 3) := dk_183 1 22 (dk_at dksX0_trail_0 19 rfl rfl)
theorem dX0_trail_22 : decode cX0_trail 22 = .ok (.aastore, 1) := dk_83 (dk_at dksX0_trail_0 22 rfl rfl)
theorem dX0_trail_23 : decode cX0_trail 23 = .ok (.iconst 0, 1) := dk_3 (dk_at dksX0_trail_0 23 rfl rfl)
theorem dX0_trail_24 : decode cX0_trail 24 = .ok (.ireturn, 1) := dk_172 (dk_at dksX0_trail_1 0 rfl rfl)
abbrev cX0_isTrail : ByteArray := prog_1_method_44_code
def yX0_isTrail : MethodName := ⟨RX0, "isTrail", "(I)Z"⟩
def dkwX0_isTrail_0 : List UInt8 := [26, 133, 9, 20, 1, 13, 184, 0, 126, 172]
abbrev dktX0_isTrail_0 : List UInt8 := dkwX0_isTrail_0 ++ []
theorem dksX0_isTrail_0 : cX0_isTrail.data.toList.drop 0 = dktX0_isTrail_0 := by decide +kernel
theorem dX0_isTrail_0 : decode cX0_isTrail 0 = .ok (.iload_n 0, 1) := dk_26 (dk_at dksX0_isTrail_0 0 rfl rfl)
theorem dX0_isTrail_1 : decode cX0_isTrail 1 = .ok (.i2l, 1) := dk_133 (dk_at dksX0_isTrail_0 1 rfl rfl)
theorem dX0_isTrail_2 : decode cX0_isTrail 2 = .ok (.lconst 0, 1) := dk_9 (dk_at dksX0_isTrail_0 2 rfl rfl)
theorem dX0_isTrail_3 : decode cX0_isTrail 3 = .ok (.ldc2_w 269, 3) := dk_20 1 13 (dk_at dksX0_isTrail_0 3 rfl rfl)
theorem dX0_isTrail_6 : decode cX0_isTrail 6 = .ok (.invokestatic 126, 3) := dk_184 0 126 (dk_at dksX0_isTrail_0 6 rfl rfl)
theorem dX0_isTrail_9 : decode cX0_isTrail 9 = .ok (.ireturn, 1) := dk_172 (dk_at dksX0_isTrail_0 9 rfl rfl)
abbrev cX0_step : ByteArray := prog_1_method_48_code
def yX0_step : MethodName := ⟨RX0, "step", "(III)I"⟩
def dkwX0_step_3 : List UInt8 := [184, 1, 48, 172]
abbrev dktX0_step_3 : List UInt8 := dkwX0_step_3 ++ []
def dkwX0_step_2 : List UInt8 := [184, 1, 40, 54, 4, 42, 180, 0, 57, 27, 50, 28, 182, 1, 44, 21, 4, 172, 58, 4, 25, 4]
abbrev dktX0_step_2 : List UInt8 := dkwX0_step_2 ++ dktX0_step_3
def dkwX0_step_1 : List UInt8 := [20, 1, 13, 184, 0, 126, 154, 0, 6, 16, 253, 172, 42, 180, 0, 57, 27, 50, 28, 182, 1, 36, 29]
abbrev dktX0_step_1 : List UInt8 := dkwX0_step_1 ++ dktX0_step_2
def dkwX0_step_0 : List UInt8 := [27, 184, 1, 19, 154, 0, 6, 16, 254, 172, 28, 133, 9, 10, 184, 0, 126, 153, 0, 15, 29, 133, 9]
abbrev dktX0_step_0 : List UInt8 := dkwX0_step_0 ++ dktX0_step_1
theorem dksX0_step_0 : cX0_step.data.toList.drop 0 = dktX0_step_0 := by decide +kernel
theorem dksX0_step_1 : cX0_step.data.toList.drop 23 = dktX0_step_1 := dk_seg dksX0_step_0 23 rfl rfl
theorem dksX0_step_2 : cX0_step.data.toList.drop 46 = dktX0_step_2 := dk_seg dksX0_step_1 23 rfl rfl
theorem dksX0_step_3 : cX0_step.data.toList.drop 68 = dktX0_step_3 := dk_seg dksX0_step_2 22 rfl rfl
theorem dX0_step_0 : decode cX0_step 0 = .ok (.iload_n 1, 1) := dk_27 (dk_at dksX0_step_0 0 rfl rfl)
theorem dX0_step_1 : decode cX0_step 1 = .ok (.invokestatic 275, 3) := dk_184 1 19 (dk_at dksX0_step_0 1 rfl rfl)
theorem dX0_step_4 : decode cX0_step 4 = .ok (.ifCond .ne 6, 3) := dk_154 0 6 (dk_at dksX0_step_0 4 rfl rfl)
theorem dX0_step_7 : decode cX0_step 7 = .ok (.bipush (-2), 2) := dk_16 254 (dk_at dksX0_step_0 7 rfl rfl)
theorem dX0_step_9 : decode cX0_step 9 = .ok (.ireturn, 1) := dk_172 (dk_at dksX0_step_0 9 rfl rfl)
theorem dX0_step_10 : decode cX0_step 10 = .ok (.iload_n 2, 1) := dk_28 (dk_at dksX0_step_0 10 rfl rfl)
theorem dX0_step_11 : decode cX0_step 11 = .ok (.i2l, 1) := dk_133 (dk_at dksX0_step_0 11 rfl rfl)
theorem dX0_step_12 : decode cX0_step 12 = .ok (.lconst 0, 1) := dk_9 (dk_at dksX0_step_0 12 rfl rfl)
theorem dX0_step_13 : decode cX0_step 13 = .ok (.lconst 1, 1) := dk_10 (dk_at dksX0_step_0 13 rfl rfl)
theorem dX0_step_14 : decode cX0_step 14 = .ok (.invokestatic 126, 3) := dk_184 0 126 (dk_at dksX0_step_0 14 rfl rfl)
theorem dX0_step_17 : decode cX0_step 17 = .ok (.ifCond .eq 15, 3) := dk_153 0 15 (dk_at dksX0_step_0 17 rfl rfl)
theorem dX0_step_20 : decode cX0_step 20 = .ok (.iload_n 3, 1) := dk_29 (dk_at dksX0_step_0 20 rfl rfl)
theorem dX0_step_21 : decode cX0_step 21 = .ok (.i2l, 1) := dk_133 (dk_at dksX0_step_0 21 rfl rfl)
theorem dX0_step_22 : decode cX0_step 22 = .ok (.lconst 0, 1) := dk_9 (dk_at dksX0_step_0 22 rfl rfl)
theorem dX0_step_23 : decode cX0_step 23 = .ok (.ldc2_w 269, 3) := dk_20 1 13 (dk_at dksX0_step_1 0 rfl rfl)
theorem dX0_step_26 : decode cX0_step 26 = .ok (.invokestatic 126, 3) := dk_184 0 126 (dk_at dksX0_step_1 3 rfl rfl)
theorem dX0_step_29 : decode cX0_step 29 = .ok (.ifCond .ne 6, 3) := dk_154 0 6 (dk_at dksX0_step_1 6 rfl rfl)
theorem dX0_step_32 : decode cX0_step 32 = .ok (.bipush (-3), 2) := dk_16 253 (dk_at dksX0_step_1 9 rfl rfl)
theorem dX0_step_34 : decode cX0_step 34 = .ok (.ireturn, 1) := dk_172 (dk_at dksX0_step_1 11 rfl rfl)
theorem dX0_step_35 : decode cX0_step 35 = .ok (.aload_n 0, 1) := dk_42 (dk_at dksX0_step_1 12 rfl rfl)
theorem dX0_step_36 : decode cX0_step 36 = .ok (.getfield 57, 3) := dk_180 0 57 (dk_at dksX0_step_1 13 rfl rfl)
theorem dX0_step_39 : decode cX0_step 39 = .ok (.iload_n 1, 1) := dk_27 (dk_at dksX0_step_1 16 rfl rfl)
theorem dX0_step_40 : decode cX0_step 40 = .ok (.aaload, 1) := dk_50 (dk_at dksX0_step_1 17 rfl rfl)
theorem dX0_step_41 : decode cX0_step 41 = .ok (.iload_n 2, 1) := dk_28 (dk_at dksX0_step_1 18 rfl rfl)
theorem dX0_step_42 : decode cX0_step 42 = .ok (.invokevirtual 292, 3) := dk_182 1 36 (dk_at dksX0_step_1 19 rfl rfl)
theorem dX0_step_45 : decode cX0_step 45 = .ok (.iload_n 3, 1) := dk_29 (dk_at dksX0_step_1 22 rfl rfl)
theorem dX0_step_46 : decode cX0_step 46 = .ok (.invokestatic 296, 3) := dk_184 1 40 (dk_at dksX0_step_2 0 rfl rfl)
theorem dX0_step_49 : decode cX0_step 49 = .ok (.istore 4, 2) := dk_54 4 (dk_at dksX0_step_2 3 rfl rfl)
theorem dX0_step_51 : decode cX0_step 51 = .ok (.aload_n 0, 1) := dk_42 (dk_at dksX0_step_2 5 rfl rfl)
theorem dX0_step_52 : decode cX0_step 52 = .ok (.getfield 57, 3) := dk_180 0 57 (dk_at dksX0_step_2 6 rfl rfl)
theorem dX0_step_55 : decode cX0_step 55 = .ok (.iload_n 1, 1) := dk_27 (dk_at dksX0_step_2 9 rfl rfl)
theorem dX0_step_56 : decode cX0_step 56 = .ok (.aaload, 1) := dk_50 (dk_at dksX0_step_2 10 rfl rfl)
theorem dX0_step_57 : decode cX0_step 57 = .ok (.iload_n 2, 1) := dk_28 (dk_at dksX0_step_2 11 rfl rfl)
theorem dX0_step_58 : decode cX0_step 58 = .ok (.invokevirtual 300, 3) := dk_182 1 44 (dk_at dksX0_step_2 12 rfl rfl)
theorem dX0_step_61 : decode cX0_step 61 = .ok (.iload 4, 2) := dk_21 4 (dk_at dksX0_step_2 15 rfl rfl)
theorem dX0_step_63 : decode cX0_step 63 = .ok (.ireturn, 1) := dk_172 (dk_at dksX0_step_2 17 rfl rfl)
theorem dX0_step_64 : decode cX0_step 64 = .ok (.astore 4, 2) := dk_58 4 (dk_at dksX0_step_2 18 rfl rfl)
theorem dX0_step_66 : decode cX0_step 66 = .ok (.aload 4, 2) := dk_25 4 (dk_at dksX0_step_2 20 rfl rfl)
theorem dX0_step_68 : decode cX0_step 68 = .ok (.invokestatic 304, 3) := dk_184 1 48 (dk_at dksX0_step_3 0 rfl rfl)
theorem dX0_step_71 : decode cX0_step 71 = .ok (.ireturn, 1) := dk_172 (dk_at dksX0_step_3 3 rfl rfl)
abbrev cX0_taken : ByteArray := prog_1_method_47_code
def yX0_taken : MethodName := ⟨RX0, "taken", "(Ljava/lang/Object;I)I"⟩
def dkwX0_taken_3 : List UInt8 := [182, 1, 32, 172]
abbrev dktX0_taken_3 : List UInt8 := dkwX0_taken_3 ++ []
def dkwX0_taken_2 : List UInt8 := [42, 192, 0, 229, 182, 1, 23, 19, 1, 26, 96, 172, 42, 192, 0, 19, 180, 1, 27, 172, 42, 192, 1, 30]
abbrev dktX0_taken_2 : List UInt8 := dkwX0_taken_2 ++ dktX0_taken_3
def dkwX0_taken_1 : List UInt8 := [171, 0, 0, 0, 0, 0, 47, 0, 0, 0, 2, 0, 0, 0, 0, 0, 0, 0, 27, 0, 0, 0, 1, 0, 0, 0, 39]
abbrev dktX0_taken_1 : List UInt8 := dkwX0_taken_1 ++ dktX0_taken_2
def dkwX0_taken_0 : List UInt8 := [27]
abbrev dktX0_taken_0 : List UInt8 := dkwX0_taken_0 ++ dktX0_taken_1
theorem dksX0_taken_0 : cX0_taken.data.toList.drop 0 = dktX0_taken_0 := by decide +kernel
theorem dksX0_taken_1 : cX0_taken.data.toList.drop 1 = dktX0_taken_1 := dk_seg dksX0_taken_0 1 rfl rfl
theorem dksX0_taken_2 : cX0_taken.data.toList.drop 28 = dktX0_taken_2 := dk_seg dksX0_taken_1 27 rfl rfl
theorem dksX0_taken_3 : cX0_taken.data.toList.drop 52 = dktX0_taken_3 := dk_seg dksX0_taken_2 24 rfl rfl
theorem dX0_taken_0 : decode cX0_taken 0 = .ok (.iload_n 1, 1) := dk_27 (dk_at dksX0_taken_0 0 rfl rfl)
theorem dX0_taken_1 : decode cX0_taken 1 = .ok (.lookupswitch 47 #[(0, 27), (1, 39)], 27) := by decide +kernel
theorem dX0_taken_28 : decode cX0_taken 28 = .ok (.aload_n 0, 1) := dk_42 (dk_at dksX0_taken_2 0 rfl rfl)
theorem dX0_taken_29 : decode cX0_taken 29 = .ok (.checkcast 229, 3) := dk_192 0 229 (dk_at dksX0_taken_2 1 rfl rfl)
theorem dX0_taken_32 : decode cX0_taken 32 = .ok (.invokevirtual 279, 3) := dk_182 1 23 (dk_at dksX0_taken_2 4 rfl rfl)
theorem dX0_taken_35 : decode cX0_taken 35 = .ok (.ldc_w 282, 3) := dk_19 1 26 (dk_at dksX0_taken_2 7 rfl rfl)
theorem dX0_taken_38 : decode cX0_taken 38 = .ok (.iadd, 1) := dk_96 (dk_at dksX0_taken_2 10 rfl rfl)
theorem dX0_taken_39 : decode cX0_taken 39 = .ok (.ireturn, 1) := dk_172 (dk_at dksX0_taken_2 11 rfl rfl)
theorem dX0_taken_40 : decode cX0_taken 40 = .ok (.aload_n 0, 1) := dk_42 (dk_at dksX0_taken_2 12 rfl rfl)
theorem dX0_taken_41 : decode cX0_taken 41 = .ok (.checkcast 19, 3) := dk_192 0 19 (dk_at dksX0_taken_2 13 rfl rfl)
theorem dX0_taken_44 : decode cX0_taken 44 = .ok (.getfield 283, 3) := dk_180 1 27 (dk_at dksX0_taken_2 16 rfl rfl)
theorem dX0_taken_47 : decode cX0_taken 47 = .ok (.ireturn, 1) := dk_172 (dk_at dksX0_taken_2 19 rfl rfl)
theorem dX0_taken_48 : decode cX0_taken 48 = .ok (.aload_n 0, 1) := dk_42 (dk_at dksX0_taken_2 20 rfl rfl)
theorem dX0_taken_49 : decode cX0_taken 49 = .ok (.checkcast 286, 3) := dk_192 1 30 (dk_at dksX0_taken_2 21 rfl rfl)
theorem dX0_taken_52 : decode cX0_taken 52 = .ok (.invokevirtual 288, 3) := dk_182 1 32 (dk_at dksX0_taken_3 0 rfl rfl)
theorem dX0_taken_55 : decode cX0_taken 55 = .ok (.ireturn, 1) := dk_172 (dk_at dksX0_taken_3 3 rfl rfl)
abbrev cX0_found : ByteArray := prog_1_method_45_code
def yX0_found : MethodName := ⟨RX0, "found", "(Ljava/lang/RuntimeException;)I"⟩
def dkwX0_found_1 : List UInt8 := [153, 0, 8, 16, 243, 167, 0, 5, 16, 242, 172]
abbrev dktX0_found_1 : List UInt8 := dkwX0_found_1 ++ []
def dkwX0_found_0 : List UInt8 := [42, 193, 0, 216, 153, 0, 6, 16, 245, 172, 42, 193, 1, 15, 153, 0, 6, 16, 244, 172, 42, 193, 1, 17]
abbrev dktX0_found_0 : List UInt8 := dkwX0_found_0 ++ dktX0_found_1
theorem dksX0_found_0 : cX0_found.data.toList.drop 0 = dktX0_found_0 := by decide +kernel
theorem dksX0_found_1 : cX0_found.data.toList.drop 24 = dktX0_found_1 := dk_seg dksX0_found_0 24 rfl rfl
theorem dX0_found_0 : decode cX0_found 0 = .ok (.aload_n 0, 1) := dk_42 (dk_at dksX0_found_0 0 rfl rfl)
theorem dX0_found_1 : decode cX0_found 1 = .ok (.instanceof 216, 3) := dk_193 0 216 (dk_at dksX0_found_0 1 rfl rfl)
theorem dX0_found_4 : decode cX0_found 4 = .ok (.ifCond .eq 6, 3) := dk_153 0 6 (dk_at dksX0_found_0 4 rfl rfl)
theorem dX0_found_7 : decode cX0_found 7 = .ok (.bipush (-11), 2) := dk_16 245 (dk_at dksX0_found_0 7 rfl rfl)
theorem dX0_found_9 : decode cX0_found 9 = .ok (.ireturn, 1) := dk_172 (dk_at dksX0_found_0 9 rfl rfl)
theorem dX0_found_10 : decode cX0_found 10 = .ok (.aload_n 0, 1) := dk_42 (dk_at dksX0_found_0 10 rfl rfl)
theorem dX0_found_11 : decode cX0_found 11 = .ok (.instanceof 271, 3) := dk_193 1 15 (dk_at dksX0_found_0 11 rfl rfl)
theorem dX0_found_14 : decode cX0_found 14 = .ok (.ifCond .eq 6, 3) := dk_153 0 6 (dk_at dksX0_found_0 14 rfl rfl)
theorem dX0_found_17 : decode cX0_found 17 = .ok (.bipush (-12), 2) := dk_16 244 (dk_at dksX0_found_0 17 rfl rfl)
theorem dX0_found_19 : decode cX0_found 19 = .ok (.ireturn, 1) := dk_172 (dk_at dksX0_found_0 19 rfl rfl)
theorem dX0_found_20 : decode cX0_found 20 = .ok (.aload_n 0, 1) := dk_42 (dk_at dksX0_found_0 20 rfl rfl)
theorem dX0_found_21 : decode cX0_found 21 = .ok (.instanceof 273, 3) := dk_193 1 17 (dk_at dksX0_found_0 21 rfl rfl)
theorem dX0_found_24 : decode cX0_found 24 = .ok (.ifCond .eq 8, 3) := dk_153 0 8 (dk_at dksX0_found_1 0 rfl rfl)
theorem dX0_found_27 : decode cX0_found 27 = .ok (.bipush (-13), 2) := dk_16 243 (dk_at dksX0_found_1 3 rfl rfl)
theorem dX0_found_29 : decode cX0_found 29 = .ok (.goto 5, 3) := dk_167 0 5 (dk_at dksX0_found_1 5 rfl rfl)
theorem dX0_found_32 : decode cX0_found 32 = .ok (.bipush (-14), 2) := dk_16 242 (dk_at dksX0_found_1 8 rfl rfl)
theorem dX0_found_34 : decode cX0_found 34 = .ok (.ireturn, 1) := dk_172 (dk_at dksX0_found_1 10 rfl rfl)
abbrev cX0_add : ByteArray := prog_1_method_51_code
def yX0_add : MethodName := ⟨RX0, "add", "(III)I"⟩
def dkwX0_add_1 : List UInt8 := [28, 29, 182, 1, 66, 182, 1, 70, 172, 58, 5, 25, 5, 184, 1, 48, 172]
abbrev dktX0_add_1 : List UInt8 := dkwX0_add_1 ++ []
def dkwX0_add_0 : List UInt8 := [42, 27, 28, 29, 182, 1, 63, 54, 4, 21, 4, 153, 0, 6, 21, 4, 172, 42, 180, 0, 57, 27, 50, 42]
abbrev dktX0_add_0 : List UInt8 := dkwX0_add_0 ++ dktX0_add_1
theorem dksX0_add_0 : cX0_add.data.toList.drop 0 = dktX0_add_0 := by decide +kernel
theorem dksX0_add_1 : cX0_add.data.toList.drop 24 = dktX0_add_1 := dk_seg dksX0_add_0 24 rfl rfl
theorem dX0_add_0 : decode cX0_add 0 = .ok (.aload_n 0, 1) := dk_42 (dk_at dksX0_add_0 0 rfl rfl)
theorem dX0_add_1 : decode cX0_add 1 = .ok (.iload_n 1, 1) := dk_27 (dk_at dksX0_add_0 1 rfl rfl)
theorem dX0_add_2 : decode cX0_add 2 = .ok (.iload_n 2, 1) := dk_28 (dk_at dksX0_add_0 2 rfl rfl)
theorem dX0_add_3 : decode cX0_add 3 = .ok (.iload_n 3, 1) := dk_29 (dk_at dksX0_add_0 3 rfl rfl)
theorem dX0_add_4 : decode cX0_add 4 = .ok (.invokevirtual 319, 3) := dk_182 1 63 (dk_at dksX0_add_0 4 rfl rfl)
theorem dX0_add_7 : decode cX0_add 7 = .ok (.istore 4, 2) := dk_54 4 (dk_at dksX0_add_0 7 rfl rfl)
theorem dX0_add_9 : decode cX0_add 9 = .ok (.iload 4, 2) := dk_21 4 (dk_at dksX0_add_0 9 rfl rfl)
theorem dX0_add_11 : decode cX0_add 11 = .ok (.ifCond .eq 6, 3) := dk_153 0 6 (dk_at dksX0_add_0 11 rfl rfl)
theorem dX0_add_14 : decode cX0_add 14 = .ok (.iload 4, 2) := dk_21 4 (dk_at dksX0_add_0 14 rfl rfl)
theorem dX0_add_16 : decode cX0_add 16 = .ok (.ireturn, 1) := dk_172 (dk_at dksX0_add_0 16 rfl rfl)
theorem dX0_add_17 : decode cX0_add 17 = .ok (.aload_n 0, 1) := dk_42 (dk_at dksX0_add_0 17 rfl rfl)
theorem dX0_add_18 : decode cX0_add 18 = .ok (.getfield 57, 3) := dk_180 0 57 (dk_at dksX0_add_0 18 rfl rfl)
theorem dX0_add_21 : decode cX0_add 21 = .ok (.iload_n 1, 1) := dk_27 (dk_at dksX0_add_0 21 rfl rfl)
theorem dX0_add_22 : decode cX0_add 22 = .ok (.aaload, 1) := dk_50 (dk_at dksX0_add_0 22 rfl rfl)
theorem dX0_add_23 : decode cX0_add 23 = .ok (.aload_n 0, 1) := dk_42 (dk_at dksX0_add_0 23 rfl rfl)
theorem dX0_add_24 : decode cX0_add 24 = .ok (.iload_n 2, 1) := dk_28 (dk_at dksX0_add_1 0 rfl rfl)
theorem dX0_add_25 : decode cX0_add 25 = .ok (.iload_n 3, 1) := dk_29 (dk_at dksX0_add_1 1 rfl rfl)
theorem dX0_add_26 : decode cX0_add 26 = .ok (.invokevirtual 322, 3) := dk_182 1 66 (dk_at dksX0_add_1 2 rfl rfl)
theorem dX0_add_29 : decode cX0_add 29 = .ok (.invokevirtual 326, 3) := dk_182 1 70 (dk_at dksX0_add_1 5 rfl rfl)
theorem dX0_add_32 : decode cX0_add 32 = .ok (.ireturn, 1) := dk_172 (dk_at dksX0_add_1 8 rfl rfl)
theorem dX0_add_33 : decode cX0_add 33 = .ok (.astore 5, 2) := dk_58 5 (dk_at dksX0_add_1 9 rfl rfl)
theorem dX0_add_35 : decode cX0_add 35 = .ok (.aload 5, 2) := dk_25 5 (dk_at dksX0_add_1 11 rfl rfl)
theorem dX0_add_37 : decode cX0_add 37 = .ok (.invokestatic 304, 3) := dk_184 1 48 (dk_at dksX0_add_1 13 rfl rfl)
theorem dX0_add_40 : decode cX0_add 40 = .ok (.ireturn, 1) := dk_172 (dk_at dksX0_add_1 16 rfl rfl)
abbrev cX0_whyNot : ByteArray := prog_1_method_49_code
def yX0_whyNot : MethodName := ⟨RX0, "whyNot", "(III)I"⟩
def dkwX0_whyNot_3 : List UInt8 := [153, 0, 7, 3, 167, 0, 5, 16, 253, 172]
abbrev dktX0_whyNot_3 : List UInt8 := dkwX0_whyNot_3 ++ []
def dkwX0_whyNot_2 : List UInt8 := [160, 0, 19, 29, 133, 9, 20, 0, 249, 184, 0, 126, 153, 0, 7, 4, 167, 0, 4, 3, 54, 4, 21, 4]
abbrev dktX0_whyNot_2 : List UInt8 := dkwX0_whyNot_2 ++ dktX0_whyNot_3
def dkwX0_whyNot_1 : List UInt8 := [154, 0, 17, 29, 133, 20, 1, 52, 20, 1, 54, 184, 0, 126, 167, 0, 30, 28, 4, 159, 0, 20, 28, 5]
abbrev dktX0_whyNot_1 : List UInt8 := dkwX0_whyNot_1 ++ dktX0_whyNot_2
def dkwX0_whyNot_0 : List UInt8 := [27, 184, 1, 19, 153, 0, 16, 28, 4, 160, 0, 14, 42, 29, 182, 0, 170, 154, 0, 6, 16, 254, 172, 28]
abbrev dktX0_whyNot_0 : List UInt8 := dkwX0_whyNot_0 ++ dktX0_whyNot_1
theorem dksX0_whyNot_0 : cX0_whyNot.data.toList.drop 0 = dktX0_whyNot_0 := by decide +kernel
theorem dksX0_whyNot_1 : cX0_whyNot.data.toList.drop 24 = dktX0_whyNot_1 := dk_seg dksX0_whyNot_0 24 rfl rfl
theorem dksX0_whyNot_2 : cX0_whyNot.data.toList.drop 48 = dktX0_whyNot_2 := dk_seg dksX0_whyNot_1 24 rfl rfl
theorem dksX0_whyNot_3 : cX0_whyNot.data.toList.drop 72 = dktX0_whyNot_3 := dk_seg dksX0_whyNot_2 24 rfl rfl
theorem dX0_whyNot_0 : decode cX0_whyNot 0 = .ok (.iload_n 1, 1) := dk_27 (dk_at dksX0_whyNot_0 0 rfl rfl)
theorem dX0_whyNot_1 : decode cX0_whyNot 1 = .ok (.invokestatic 275, 3) := dk_184 1 19 (dk_at dksX0_whyNot_0 1 rfl rfl)
theorem dX0_whyNot_4 : decode cX0_whyNot 4 = .ok (.ifCond .eq 16, 3) := dk_153 0 16 (dk_at dksX0_whyNot_0 4 rfl rfl)
theorem dX0_whyNot_7 : decode cX0_whyNot 7 = .ok (.iload_n 2, 1) := dk_28 (dk_at dksX0_whyNot_0 7 rfl rfl)
theorem dX0_whyNot_8 : decode cX0_whyNot 8 = .ok (.iconst 1, 1) := dk_4 (dk_at dksX0_whyNot_0 8 rfl rfl)
theorem dX0_whyNot_9 : decode cX0_whyNot 9 = .ok (.if_icmp .ne 14, 3) := dk_160 0 14 (dk_at dksX0_whyNot_0 9 rfl rfl)
theorem dX0_whyNot_12 : decode cX0_whyNot 12 = .ok (.aload_n 0, 1) := dk_42 (dk_at dksX0_whyNot_0 12 rfl rfl)
theorem dX0_whyNot_13 : decode cX0_whyNot 13 = .ok (.iload_n 3, 1) := dk_29 (dk_at dksX0_whyNot_0 13 rfl rfl)
theorem dX0_whyNot_14 : decode cX0_whyNot 14 = .ok (.invokevirtual 170, 3) := dk_182 0 170 (dk_at dksX0_whyNot_0 14 rfl rfl)
theorem dX0_whyNot_17 : decode cX0_whyNot 17 = .ok (.ifCond .ne 6, 3) := dk_154 0 6 (dk_at dksX0_whyNot_0 17 rfl rfl)
theorem dX0_whyNot_20 : decode cX0_whyNot 20 = .ok (.bipush (-2), 2) := dk_16 254 (dk_at dksX0_whyNot_0 20 rfl rfl)
theorem dX0_whyNot_22 : decode cX0_whyNot 22 = .ok (.ireturn, 1) := dk_172 (dk_at dksX0_whyNot_0 22 rfl rfl)
theorem dX0_whyNot_23 : decode cX0_whyNot 23 = .ok (.iload_n 2, 1) := dk_28 (dk_at dksX0_whyNot_0 23 rfl rfl)
theorem dX0_whyNot_24 : decode cX0_whyNot 24 = .ok (.ifCond .ne 17, 3) := dk_154 0 17 (dk_at dksX0_whyNot_1 0 rfl rfl)
theorem dX0_whyNot_27 : decode cX0_whyNot 27 = .ok (.iload_n 3, 1) := dk_29 (dk_at dksX0_whyNot_1 3 rfl rfl)
theorem dX0_whyNot_28 : decode cX0_whyNot 28 = .ok (.i2l, 1) := dk_133 (dk_at dksX0_whyNot_1 4 rfl rfl)
theorem dX0_whyNot_29 : decode cX0_whyNot 29 = .ok (.ldc2_w 308, 3) := dk_20 1 52 (dk_at dksX0_whyNot_1 5 rfl rfl)
theorem dX0_whyNot_32 : decode cX0_whyNot 32 = .ok (.ldc2_w 310, 3) := dk_20 1 54 (dk_at dksX0_whyNot_1 8 rfl rfl)
theorem dX0_whyNot_35 : decode cX0_whyNot 35 = .ok (.invokestatic 126, 3) := dk_184 0 126 (dk_at dksX0_whyNot_1 11 rfl rfl)
theorem dX0_whyNot_38 : decode cX0_whyNot 38 = .ok (.goto 30, 3) := dk_167 0 30 (dk_at dksX0_whyNot_1 14 rfl rfl)
theorem dX0_whyNot_41 : decode cX0_whyNot 41 = .ok (.iload_n 2, 1) := dk_28 (dk_at dksX0_whyNot_1 17 rfl rfl)
theorem dX0_whyNot_42 : decode cX0_whyNot 42 = .ok (.iconst 1, 1) := dk_4 (dk_at dksX0_whyNot_1 18 rfl rfl)
theorem dX0_whyNot_43 : decode cX0_whyNot 43 = .ok (.if_icmp .eq 20, 3) := dk_159 0 20 (dk_at dksX0_whyNot_1 19 rfl rfl)
theorem dX0_whyNot_46 : decode cX0_whyNot 46 = .ok (.iload_n 2, 1) := dk_28 (dk_at dksX0_whyNot_1 22 rfl rfl)
theorem dX0_whyNot_47 : decode cX0_whyNot 47 = .ok (.iconst 2, 1) := dk_5 (dk_at dksX0_whyNot_1 23 rfl rfl)
theorem dX0_whyNot_48 : decode cX0_whyNot 48 = .ok (.if_icmp .ne 19, 3) := dk_160 0 19 (dk_at dksX0_whyNot_2 0 rfl rfl)
theorem dX0_whyNot_51 : decode cX0_whyNot 51 = .ok (.iload_n 3, 1) := dk_29 (dk_at dksX0_whyNot_2 3 rfl rfl)
theorem dX0_whyNot_52 : decode cX0_whyNot 52 = .ok (.i2l, 1) := dk_133 (dk_at dksX0_whyNot_2 4 rfl rfl)
theorem dX0_whyNot_53 : decode cX0_whyNot 53 = .ok (.lconst 0, 1) := dk_9 (dk_at dksX0_whyNot_2 5 rfl rfl)
theorem dX0_whyNot_54 : decode cX0_whyNot 54 = .ok (.ldc2_w 249, 3) := dk_20 0 249 (dk_at dksX0_whyNot_2 6 rfl rfl)
theorem dX0_whyNot_57 : decode cX0_whyNot 57 = .ok (.invokestatic 126, 3) := dk_184 0 126 (dk_at dksX0_whyNot_2 9 rfl rfl)
theorem dX0_whyNot_60 : decode cX0_whyNot 60 = .ok (.ifCond .eq 7, 3) := dk_153 0 7 (dk_at dksX0_whyNot_2 12 rfl rfl)
theorem dX0_whyNot_63 : decode cX0_whyNot 63 = .ok (.iconst 1, 1) := dk_4 (dk_at dksX0_whyNot_2 15 rfl rfl)
theorem dX0_whyNot_64 : decode cX0_whyNot 64 = .ok (.goto 4, 3) := dk_167 0 4 (dk_at dksX0_whyNot_2 16 rfl rfl)
theorem dX0_whyNot_67 : decode cX0_whyNot 67 = .ok (.iconst 0, 1) := dk_3 (dk_at dksX0_whyNot_2 19 rfl rfl)
theorem dX0_whyNot_68 : decode cX0_whyNot 68 = .ok (.istore 4, 2) := dk_54 4 (dk_at dksX0_whyNot_2 20 rfl rfl)
theorem dX0_whyNot_70 : decode cX0_whyNot 70 = .ok (.iload 4, 2) := dk_21 4 (dk_at dksX0_whyNot_2 22 rfl rfl)
theorem dX0_whyNot_72 : decode cX0_whyNot 72 = .ok (.ifCond .eq 7, 3) := dk_153 0 7 (dk_at dksX0_whyNot_3 0 rfl rfl)
theorem dX0_whyNot_75 : decode cX0_whyNot 75 = .ok (.iconst 0, 1) := dk_3 (dk_at dksX0_whyNot_3 3 rfl rfl)
theorem dX0_whyNot_76 : decode cX0_whyNot 76 = .ok (.goto 5, 3) := dk_167 0 5 (dk_at dksX0_whyNot_3 4 rfl rfl)
theorem dX0_whyNot_79 : decode cX0_whyNot 79 = .ok (.bipush (-3), 2) := dk_16 253 (dk_at dksX0_whyNot_3 7 rfl rfl)
theorem dX0_whyNot_81 : decode cX0_whyNot 81 = .ok (.ireturn, 1) := dk_172 (dk_at dksX0_whyNot_3 9 rfl rfl)
abbrev cX0_made : ByteArray := prog_1_method_50_code
def yX0_made : MethodName := ⟨RX0, "made", "(II)Ljava/lang/Object;"⟩
def dkwX0_made_2 : List UInt8 := [28, 184, 1, 56, 176, 42, 180, 0, 21, 28, 50, 176, 28, 145, 184, 1, 60, 176]
abbrev dktX0_made_2 : List UInt8 := dkwX0_made_2 ++ []
def dkwX0_made_1 : List UInt8 := [171, 0, 0, 0, 0, 0, 39, 0, 0, 0, 2, 0, 0, 0, 0, 0, 0, 0, 27, 0, 0, 0, 1, 0, 0, 0, 32]
abbrev dktX0_made_1 : List UInt8 := dkwX0_made_1 ++ dktX0_made_2
def dkwX0_made_0 : List UInt8 := [27]
abbrev dktX0_made_0 : List UInt8 := dkwX0_made_0 ++ dktX0_made_1
theorem dksX0_made_0 : cX0_made.data.toList.drop 0 = dktX0_made_0 := by decide +kernel
theorem dksX0_made_1 : cX0_made.data.toList.drop 1 = dktX0_made_1 := dk_seg dksX0_made_0 1 rfl rfl
theorem dksX0_made_2 : cX0_made.data.toList.drop 28 = dktX0_made_2 := dk_seg dksX0_made_1 27 rfl rfl
theorem dX0_made_0 : decode cX0_made 0 = .ok (.iload_n 1, 1) := dk_27 (dk_at dksX0_made_0 0 rfl rfl)
theorem dX0_made_1 : decode cX0_made 1 = .ok (.lookupswitch 39 #[(0, 27), (1, 32)], 27) := by decide +kernel
theorem dX0_made_28 : decode cX0_made 28 = .ok (.iload_n 2, 1) := dk_28 (dk_at dksX0_made_2 0 rfl rfl)
theorem dX0_made_29 : decode cX0_made 29 = .ok (.invokestatic 312, 3) := dk_184 1 56 (dk_at dksX0_made_2 1 rfl rfl)
theorem dX0_made_32 : decode cX0_made 32 = .ok (.areturn, 1) := dk_176 (dk_at dksX0_made_2 4 rfl rfl)
theorem dX0_made_33 : decode cX0_made 33 = .ok (.aload_n 0, 1) := dk_42 (dk_at dksX0_made_2 5 rfl rfl)
theorem dX0_made_34 : decode cX0_made 34 = .ok (.getfield 21, 3) := dk_180 0 21 (dk_at dksX0_made_2 6 rfl rfl)
theorem dX0_made_37 : decode cX0_made 37 = .ok (.iload_n 2, 1) := dk_28 (dk_at dksX0_made_2 9 rfl rfl)
theorem dX0_made_38 : decode cX0_made 38 = .ok (.aaload, 1) := dk_50 (dk_at dksX0_made_2 10 rfl rfl)
theorem dX0_made_39 : decode cX0_made 39 = .ok (.areturn, 1) := dk_176 (dk_at dksX0_made_2 11 rfl rfl)
theorem dX0_made_40 : decode cX0_made 40 = .ok (.iload_n 2, 1) := dk_28 (dk_at dksX0_made_2 12 rfl rfl)
theorem dX0_made_41 : decode cX0_made 41 = .ok (.i2b, 1) := dk_145 (dk_at dksX0_made_2 13 rfl rfl)
theorem dX0_made_42 : decode cX0_made 42 = .ok (.invokestatic 316, 3) := dk_184 1 60 (dk_at dksX0_made_2 14 rfl rfl)
theorem dX0_made_45 : decode cX0_made 45 = .ok (.areturn, 1) := dk_176 (dk_at dksX0_made_2 17 rfl rfl)
abbrev cX0_set : ByteArray := prog_1_method_52_code
def yX0_set : MethodName := ⟨RX0, "set", "(III)I"⟩
def dkwX0_set_1 : List UInt8 := [28, 29, 182, 1, 66, 182, 1, 74, 172, 58, 5, 25, 5, 184, 1, 48, 172]
abbrev dktX0_set_1 : List UInt8 := dkwX0_set_1 ++ []
def dkwX0_set_0 : List UInt8 := [42, 27, 28, 29, 182, 1, 63, 54, 4, 21, 4, 153, 0, 6, 21, 4, 172, 42, 180, 0, 57, 27, 50, 42]
abbrev dktX0_set_0 : List UInt8 := dkwX0_set_0 ++ dktX0_set_1
theorem dksX0_set_0 : cX0_set.data.toList.drop 0 = dktX0_set_0 := by decide +kernel
theorem dksX0_set_1 : cX0_set.data.toList.drop 24 = dktX0_set_1 := dk_seg dksX0_set_0 24 rfl rfl
theorem dX0_set_0 : decode cX0_set 0 = .ok (.aload_n 0, 1) := dk_42 (dk_at dksX0_set_0 0 rfl rfl)
theorem dX0_set_1 : decode cX0_set 1 = .ok (.iload_n 1, 1) := dk_27 (dk_at dksX0_set_0 1 rfl rfl)
theorem dX0_set_2 : decode cX0_set 2 = .ok (.iload_n 2, 1) := dk_28 (dk_at dksX0_set_0 2 rfl rfl)
theorem dX0_set_3 : decode cX0_set 3 = .ok (.iload_n 3, 1) := dk_29 (dk_at dksX0_set_0 3 rfl rfl)
theorem dX0_set_4 : decode cX0_set 4 = .ok (.invokevirtual 319, 3) := dk_182 1 63 (dk_at dksX0_set_0 4 rfl rfl)
theorem dX0_set_7 : decode cX0_set 7 = .ok (.istore 4, 2) := dk_54 4 (dk_at dksX0_set_0 7 rfl rfl)
theorem dX0_set_9 : decode cX0_set 9 = .ok (.iload 4, 2) := dk_21 4 (dk_at dksX0_set_0 9 rfl rfl)
theorem dX0_set_11 : decode cX0_set 11 = .ok (.ifCond .eq 6, 3) := dk_153 0 6 (dk_at dksX0_set_0 11 rfl rfl)
theorem dX0_set_14 : decode cX0_set 14 = .ok (.iload 4, 2) := dk_21 4 (dk_at dksX0_set_0 14 rfl rfl)
theorem dX0_set_16 : decode cX0_set 16 = .ok (.ireturn, 1) := dk_172 (dk_at dksX0_set_0 16 rfl rfl)
theorem dX0_set_17 : decode cX0_set 17 = .ok (.aload_n 0, 1) := dk_42 (dk_at dksX0_set_0 17 rfl rfl)
theorem dX0_set_18 : decode cX0_set 18 = .ok (.getfield 57, 3) := dk_180 0 57 (dk_at dksX0_set_0 18 rfl rfl)
theorem dX0_set_21 : decode cX0_set 21 = .ok (.iload_n 1, 1) := dk_27 (dk_at dksX0_set_0 21 rfl rfl)
theorem dX0_set_22 : decode cX0_set 22 = .ok (.aaload, 1) := dk_50 (dk_at dksX0_set_0 22 rfl rfl)
theorem dX0_set_23 : decode cX0_set 23 = .ok (.aload_n 0, 1) := dk_42 (dk_at dksX0_set_0 23 rfl rfl)
theorem dX0_set_24 : decode cX0_set 24 = .ok (.iload_n 2, 1) := dk_28 (dk_at dksX0_set_1 0 rfl rfl)
theorem dX0_set_25 : decode cX0_set 25 = .ok (.iload_n 3, 1) := dk_29 (dk_at dksX0_set_1 1 rfl rfl)
theorem dX0_set_26 : decode cX0_set 26 = .ok (.invokevirtual 322, 3) := dk_182 1 66 (dk_at dksX0_set_1 2 rfl rfl)
theorem dX0_set_29 : decode cX0_set 29 = .ok (.invokevirtual 330, 3) := dk_182 1 74 (dk_at dksX0_set_1 5 rfl rfl)
theorem dX0_set_32 : decode cX0_set 32 = .ok (.ireturn, 1) := dk_172 (dk_at dksX0_set_1 8 rfl rfl)
theorem dX0_set_33 : decode cX0_set 33 = .ok (.astore 5, 2) := dk_58 5 (dk_at dksX0_set_1 9 rfl rfl)
theorem dX0_set_35 : decode cX0_set 35 = .ok (.aload 5, 2) := dk_25 5 (dk_at dksX0_set_1 11 rfl rfl)
theorem dX0_set_37 : decode cX0_set 37 = .ok (.invokestatic 304, 3) := dk_184 1 48 (dk_at dksX0_set_1 13 rfl rfl)
theorem dX0_set_40 : decode cX0_set 40 = .ok (.ireturn, 1) := dk_172 (dk_at dksX0_set_1 16 rfl rfl)
abbrev cX0_cut : ByteArray := prog_1_method_53_code
def yX0_cut : MethodName := ⟨RX0, "cut", "(I)I"⟩
def dkwX0_cut_1 : List UInt8 := [184, 1, 48, 172]
abbrev dktX0_cut_1 : List UInt8 := dkwX0_cut_1 ++ []
def dkwX0_cut_0 : List UInt8 := [27, 184, 1, 19, 154, 0, 6, 16, 254, 172, 42, 180, 0, 57, 27, 50, 182, 1, 76, 172, 77, 44]
abbrev dktX0_cut_0 : List UInt8 := dkwX0_cut_0 ++ dktX0_cut_1
theorem dksX0_cut_0 : cX0_cut.data.toList.drop 0 = dktX0_cut_0 := by decide +kernel
theorem dksX0_cut_1 : cX0_cut.data.toList.drop 22 = dktX0_cut_1 := dk_seg dksX0_cut_0 22 rfl rfl
theorem dX0_cut_0 : decode cX0_cut 0 = .ok (.iload_n 1, 1) := dk_27 (dk_at dksX0_cut_0 0 rfl rfl)
theorem dX0_cut_1 : decode cX0_cut 1 = .ok (.invokestatic 275, 3) := dk_184 1 19 (dk_at dksX0_cut_0 1 rfl rfl)
theorem dX0_cut_4 : decode cX0_cut 4 = .ok (.ifCond .ne 6, 3) := dk_154 0 6 (dk_at dksX0_cut_0 4 rfl rfl)
theorem dX0_cut_7 : decode cX0_cut 7 = .ok (.bipush (-2), 2) := dk_16 254 (dk_at dksX0_cut_0 7 rfl rfl)
theorem dX0_cut_9 : decode cX0_cut 9 = .ok (.ireturn, 1) := dk_172 (dk_at dksX0_cut_0 9 rfl rfl)
theorem dX0_cut_10 : decode cX0_cut 10 = .ok (.aload_n 0, 1) := dk_42 (dk_at dksX0_cut_0 10 rfl rfl)
theorem dX0_cut_11 : decode cX0_cut 11 = .ok (.getfield 57, 3) := dk_180 0 57 (dk_at dksX0_cut_0 11 rfl rfl)
theorem dX0_cut_14 : decode cX0_cut 14 = .ok (.iload_n 1, 1) := dk_27 (dk_at dksX0_cut_0 14 rfl rfl)
theorem dX0_cut_15 : decode cX0_cut 15 = .ok (.aaload, 1) := dk_50 (dk_at dksX0_cut_0 15 rfl rfl)
theorem dX0_cut_16 : decode cX0_cut 16 = .ok (.invokevirtual 332, 3) := dk_182 1 76 (dk_at dksX0_cut_0 16 rfl rfl)
theorem dX0_cut_19 : decode cX0_cut 19 = .ok (.ireturn, 1) := dk_172 (dk_at dksX0_cut_0 19 rfl rfl)
theorem dX0_cut_20 : decode cX0_cut 20 = .ok (.astore_n 2, 1) := dk_77 (dk_at dksX0_cut_0 20 rfl rfl)
theorem dX0_cut_21 : decode cX0_cut 21 = .ok (.aload_n 2, 1) := dk_44 (dk_at dksX0_cut_0 21 rfl rfl)
theorem dX0_cut_22 : decode cX0_cut 22 = .ok (.invokestatic 304, 3) := dk_184 1 48 (dk_at dksX0_cut_1 0 rfl rfl)
theorem dX0_cut_25 : decode cX0_cut 25 = .ok (.ireturn, 1) := dk_172 (dk_at dksX0_cut_1 3 rfl rfl)
abbrev cX0_rewind : ByteArray := prog_1_method_54_code
def yX0_rewind : MethodName := ⟨RX0, "rewind", "(I)I"⟩
def dkwX0_rewind_1 : List UInt8 := [184, 1, 48, 172]
abbrev dktX0_rewind_1 : List UInt8 := dkwX0_rewind_1 ++ []
def dkwX0_rewind_0 : List UInt8 := [27, 184, 1, 19, 154, 0, 6, 16, 254, 172, 42, 180, 0, 57, 27, 50, 182, 1, 79, 172, 77, 44]
abbrev dktX0_rewind_0 : List UInt8 := dkwX0_rewind_0 ++ dktX0_rewind_1
theorem dksX0_rewind_0 : cX0_rewind.data.toList.drop 0 = dktX0_rewind_0 := by decide +kernel
theorem dksX0_rewind_1 : cX0_rewind.data.toList.drop 22 = dktX0_rewind_1 := dk_seg dksX0_rewind_0 22 rfl rfl
theorem dX0_rewind_0 : decode cX0_rewind 0 = .ok (.iload_n 1, 1) := dk_27 (dk_at dksX0_rewind_0 0 rfl rfl)
theorem dX0_rewind_1 : decode cX0_rewind 1 = .ok (.invokestatic 275, 3) := dk_184 1 19 (dk_at dksX0_rewind_0 1 rfl rfl)
theorem dX0_rewind_4 : decode cX0_rewind 4 = .ok (.ifCond .ne 6, 3) := dk_154 0 6 (dk_at dksX0_rewind_0 4 rfl rfl)
theorem dX0_rewind_7 : decode cX0_rewind 7 = .ok (.bipush (-2), 2) := dk_16 254 (dk_at dksX0_rewind_0 7 rfl rfl)
theorem dX0_rewind_9 : decode cX0_rewind 9 = .ok (.ireturn, 1) := dk_172 (dk_at dksX0_rewind_0 9 rfl rfl)
theorem dX0_rewind_10 : decode cX0_rewind 10 = .ok (.aload_n 0, 1) := dk_42 (dk_at dksX0_rewind_0 10 rfl rfl)
theorem dX0_rewind_11 : decode cX0_rewind 11 = .ok (.getfield 57, 3) := dk_180 0 57 (dk_at dksX0_rewind_0 11 rfl rfl)
theorem dX0_rewind_14 : decode cX0_rewind 14 = .ok (.iload_n 1, 1) := dk_27 (dk_at dksX0_rewind_0 14 rfl rfl)
theorem dX0_rewind_15 : decode cX0_rewind 15 = .ok (.aaload, 1) := dk_50 (dk_at dksX0_rewind_0 15 rfl rfl)
theorem dX0_rewind_16 : decode cX0_rewind 16 = .ok (.invokevirtual 335, 3) := dk_182 1 79 (dk_at dksX0_rewind_0 16 rfl rfl)
theorem dX0_rewind_19 : decode cX0_rewind 19 = .ok (.ireturn, 1) := dk_172 (dk_at dksX0_rewind_0 19 rfl rfl)
theorem dX0_rewind_20 : decode cX0_rewind 20 = .ok (.astore_n 2, 1) := dk_77 (dk_at dksX0_rewind_0 20 rfl rfl)
theorem dX0_rewind_21 : decode cX0_rewind 21 = .ok (.aload_n 2, 1) := dk_44 (dk_at dksX0_rewind_0 21 rfl rfl)
theorem dX0_rewind_22 : decode cX0_rewind 22 = .ok (.invokestatic 304, 3) := dk_184 1 48 (dk_at dksX0_rewind_1 0 rfl rfl)
theorem dX0_rewind_25 : decode cX0_rewind 25 = .ok (.ireturn, 1) := dk_172 (dk_at dksX0_rewind_1 3 rfl rfl)
abbrev cX0_drop : ByteArray := prog_1_method_55_code
def yX0_drop : MethodName := ⟨RX0, "drop", "(I)I"⟩
def dkwX0_drop_2 : List UInt8 := [180, 0, 57, 27, 1, 83, 25, 4, 191]
abbrev dktX0_drop_2 : List UInt8 := dkwX0_drop_2 ++ []
def dkwX0_drop_1 : List UInt8 := [27, 1, 83, 28, 172, 77, 44, 184, 1, 48, 62, 42, 180, 0, 57, 27, 1, 83, 29, 172, 58, 4, 42]
abbrev dktX0_drop_1 : List UInt8 := dkwX0_drop_1 ++ dktX0_drop_2
def dkwX0_drop_0 : List UInt8 := [27, 184, 1, 19, 154, 0, 6, 16, 254, 172, 42, 180, 0, 57, 27, 50, 182, 1, 82, 61, 42, 180, 0, 57]
abbrev dktX0_drop_0 : List UInt8 := dkwX0_drop_0 ++ dktX0_drop_1
theorem dksX0_drop_0 : cX0_drop.data.toList.drop 0 = dktX0_drop_0 := by decide +kernel
theorem dksX0_drop_1 : cX0_drop.data.toList.drop 24 = dktX0_drop_1 := dk_seg dksX0_drop_0 24 rfl rfl
theorem dksX0_drop_2 : cX0_drop.data.toList.drop 47 = dktX0_drop_2 := dk_seg dksX0_drop_1 23 rfl rfl
theorem dX0_drop_0 : decode cX0_drop 0 = .ok (.iload_n 1, 1) := dk_27 (dk_at dksX0_drop_0 0 rfl rfl)
theorem dX0_drop_1 : decode cX0_drop 1 = .ok (.invokestatic 275, 3) := dk_184 1 19 (dk_at dksX0_drop_0 1 rfl rfl)
theorem dX0_drop_4 : decode cX0_drop 4 = .ok (.ifCond .ne 6, 3) := dk_154 0 6 (dk_at dksX0_drop_0 4 rfl rfl)
theorem dX0_drop_7 : decode cX0_drop 7 = .ok (.bipush (-2), 2) := dk_16 254 (dk_at dksX0_drop_0 7 rfl rfl)
theorem dX0_drop_9 : decode cX0_drop 9 = .ok (.ireturn, 1) := dk_172 (dk_at dksX0_drop_0 9 rfl rfl)
theorem dX0_drop_10 : decode cX0_drop 10 = .ok (.aload_n 0, 1) := dk_42 (dk_at dksX0_drop_0 10 rfl rfl)
theorem dX0_drop_11 : decode cX0_drop 11 = .ok (.getfield 57, 3) := dk_180 0 57 (dk_at dksX0_drop_0 11 rfl rfl)
theorem dX0_drop_14 : decode cX0_drop 14 = .ok (.iload_n 1, 1) := dk_27 (dk_at dksX0_drop_0 14 rfl rfl)
theorem dX0_drop_15 : decode cX0_drop 15 = .ok (.aaload, 1) := dk_50 (dk_at dksX0_drop_0 15 rfl rfl)
theorem dX0_drop_16 : decode cX0_drop 16 = .ok (.invokevirtual 338, 3) := dk_182 1 82 (dk_at dksX0_drop_0 16 rfl rfl)
theorem dX0_drop_19 : decode cX0_drop 19 = .ok (.istore_n 2, 1) := dk_61 (dk_at dksX0_drop_0 19 rfl rfl)
theorem dX0_drop_20 : decode cX0_drop 20 = .ok (.aload_n 0, 1) := dk_42 (dk_at dksX0_drop_0 20 rfl rfl)
theorem dX0_drop_21 : decode cX0_drop 21 = .ok (.getfield 57, 3) := dk_180 0 57 (dk_at dksX0_drop_0 21 rfl rfl)
theorem dX0_drop_24 : decode cX0_drop 24 = .ok (.iload_n 1, 1) := dk_27 (dk_at dksX0_drop_1 0 rfl rfl)
theorem dX0_drop_25 : decode cX0_drop 25 = .ok (.aconst_null, 1) := dk_1 (dk_at dksX0_drop_1 1 rfl rfl)
theorem dX0_drop_26 : decode cX0_drop 26 = .ok (.aastore, 1) := dk_83 (dk_at dksX0_drop_1 2 rfl rfl)
theorem dX0_drop_27 : decode cX0_drop 27 = .ok (.iload_n 2, 1) := dk_28 (dk_at dksX0_drop_1 3 rfl rfl)
theorem dX0_drop_28 : decode cX0_drop 28 = .ok (.ireturn, 1) := dk_172 (dk_at dksX0_drop_1 4 rfl rfl)
theorem dX0_drop_29 : decode cX0_drop 29 = .ok (.astore_n 2, 1) := dk_77 (dk_at dksX0_drop_1 5 rfl rfl)
theorem dX0_drop_30 : decode cX0_drop 30 = .ok (.aload_n 2, 1) := dk_44 (dk_at dksX0_drop_1 6 rfl rfl)
theorem dX0_drop_31 : decode cX0_drop 31 = .ok (.invokestatic 304, 3) := dk_184 1 48 (dk_at dksX0_drop_1 7 rfl rfl)
theorem dX0_drop_34 : decode cX0_drop 34 = .ok (.istore_n 3, 1) := dk_62 (dk_at dksX0_drop_1 10 rfl rfl)
theorem dX0_drop_35 : decode cX0_drop 35 = .ok (.aload_n 0, 1) := dk_42 (dk_at dksX0_drop_1 11 rfl rfl)
theorem dX0_drop_36 : decode cX0_drop 36 = .ok (.getfield 57, 3) := dk_180 0 57 (dk_at dksX0_drop_1 12 rfl rfl)
theorem dX0_drop_39 : decode cX0_drop 39 = .ok (.iload_n 1, 1) := dk_27 (dk_at dksX0_drop_1 15 rfl rfl)
theorem dX0_drop_40 : decode cX0_drop 40 = .ok (.aconst_null, 1) := dk_1 (dk_at dksX0_drop_1 16 rfl rfl)
theorem dX0_drop_41 : decode cX0_drop 41 = .ok (.aastore, 1) := dk_83 (dk_at dksX0_drop_1 17 rfl rfl)
theorem dX0_drop_42 : decode cX0_drop 42 = .ok (.iload_n 3, 1) := dk_29 (dk_at dksX0_drop_1 18 rfl rfl)
theorem dX0_drop_43 : decode cX0_drop 43 = .ok (.ireturn, 1) := dk_172 (dk_at dksX0_drop_1 19 rfl rfl)
theorem dX0_drop_44 : decode cX0_drop 44 = .ok (.astore 4, 2) := dk_58 4 (dk_at dksX0_drop_1 20 rfl rfl)
theorem dX0_drop_46 : decode cX0_drop 46 = .ok (.aload_n 0, 1) := dk_42 (dk_at dksX0_drop_1 22 rfl rfl)
theorem dX0_drop_47 : decode cX0_drop 47 = .ok (.getfield 57, 3) := dk_180 0 57 (dk_at dksX0_drop_2 0 rfl rfl)
theorem dX0_drop_50 : decode cX0_drop 50 = .ok (.iload_n 1, 1) := dk_27 (dk_at dksX0_drop_2 3 rfl rfl)
theorem dX0_drop_51 : decode cX0_drop 51 = .ok (.aconst_null, 1) := dk_1 (dk_at dksX0_drop_2 4 rfl rfl)
theorem dX0_drop_52 : decode cX0_drop 52 = .ok (.aastore, 1) := dk_83 (dk_at dksX0_drop_2 5 rfl rfl)
theorem dX0_drop_53 : decode cX0_drop 53 = .ok (.aload 4, 2) := dk_25 4 (dk_at dksX0_drop_2 6 rfl rfl)
theorem dX0_drop_55 : decode cX0_drop 55 = .ok (.athrow, 1) := dk_191 (dk_at dksX0_drop_2 8 rfl rfl)
abbrev cX0_count : ByteArray := prog_1_method_58_code
def yX0_count : MethodName := ⟨RX0, "count", "(I)I"⟩
def dkwX0_count_4 : List UInt8 := [172, 42, 182, 1, 87, 172, 42, 180, 0, 40, 172, 42, 180, 0, 132, 172, 16, 253, 172]
abbrev dktX0_count_4 : List UInt8 := dkwX0_count_4 ++ []
def dkwX0_count_3 : List UInt8 := [180, 0, 27, 182, 0, 225, 172, 42, 182, 1, 84, 172, 42, 180, 0, 27, 182, 0, 246, 172, 42, 180, 0, 44]
abbrev dktX0_count_3 : List UInt8 := dkwX0_count_3 ++ dktX0_count_4
def dkwX0_count_2 : List UInt8 := [42, 180, 0, 27, 180, 0, 76, 172, 42, 180, 0, 73, 172, 42, 180, 0, 27, 180, 0, 201, 172, 42]
abbrev dktX0_count_2 : List UInt8 := dkwX0_count_2 ++ dktX0_count_3
def dkwX0_count_1 : List UInt8 := [170, 0, 0, 0, 0, 0, 117, 0, 0, 0, 0, 0, 0, 0, 9, 0, 0, 0, 55, 0, 0, 0, 63, 0, 0, 0, 68, 0, 0, 0, 76, 0, 0, 0, 84, 0, 0, 0, 89, 0, 0, 0, 97, 0, 0, 0, 102, 0, 0, 0, 107, 0, 0, 0, 112]
abbrev dktX0_count_1 : List UInt8 := dkwX0_count_1 ++ dktX0_count_2
def dkwX0_count_0 : List UInt8 := [27]
abbrev dktX0_count_0 : List UInt8 := dkwX0_count_0 ++ dktX0_count_1
theorem dksX0_count_0 : cX0_count.data.toList.drop 0 = dktX0_count_0 := by decide +kernel
theorem dksX0_count_1 : cX0_count.data.toList.drop 1 = dktX0_count_1 := dk_seg dksX0_count_0 1 rfl rfl
theorem dksX0_count_2 : cX0_count.data.toList.drop 56 = dktX0_count_2 := dk_seg dksX0_count_1 55 rfl rfl
theorem dksX0_count_3 : cX0_count.data.toList.drop 78 = dktX0_count_3 := dk_seg dksX0_count_2 22 rfl rfl
theorem dksX0_count_4 : cX0_count.data.toList.drop 102 = dktX0_count_4 := dk_seg dksX0_count_3 24 rfl rfl
theorem dX0_count_0 : decode cX0_count 0 = .ok (.iload_n 1, 1) := dk_27 (dk_at dksX0_count_0 0 rfl rfl)
theorem dX0_count_1 : decode cX0_count 1 = .ok (.tableswitch 117 0 9 #[55, 63, 68, 76, 84, 89, 97, 102, 107, 112], 55) := by decide +kernel
theorem dX0_count_56 : decode cX0_count 56 = .ok (.aload_n 0, 1) := dk_42 (dk_at dksX0_count_2 0 rfl rfl)
theorem dX0_count_57 : decode cX0_count 57 = .ok (.getfield 27, 3) := dk_180 0 27 (dk_at dksX0_count_2 1 rfl rfl)
theorem dX0_count_60 : decode cX0_count 60 = .ok (.getfield 76, 3) := dk_180 0 76 (dk_at dksX0_count_2 4 rfl rfl)
theorem dX0_count_63 : decode cX0_count 63 = .ok (.ireturn, 1) := dk_172 (dk_at dksX0_count_2 7 rfl rfl)
theorem dX0_count_64 : decode cX0_count 64 = .ok (.aload_n 0, 1) := dk_42 (dk_at dksX0_count_2 8 rfl rfl)
theorem dX0_count_65 : decode cX0_count 65 = .ok (.getfield 73, 3) := dk_180 0 73 (dk_at dksX0_count_2 9 rfl rfl)
theorem dX0_count_68 : decode cX0_count 68 = .ok (.ireturn, 1) := dk_172 (dk_at dksX0_count_2 12 rfl rfl)
theorem dX0_count_69 : decode cX0_count 69 = .ok (.aload_n 0, 1) := dk_42 (dk_at dksX0_count_2 13 rfl rfl)
theorem dX0_count_70 : decode cX0_count 70 = .ok (.getfield 27, 3) := dk_180 0 27 (dk_at dksX0_count_2 14 rfl rfl)
theorem dX0_count_73 : decode cX0_count 73 = .ok (.getfield 201, 3) := dk_180 0 201 (dk_at dksX0_count_2 17 rfl rfl)
theorem dX0_count_76 : decode cX0_count 76 = .ok (.ireturn, 1) := dk_172 (dk_at dksX0_count_2 20 rfl rfl)
theorem dX0_count_77 : decode cX0_count 77 = .ok (.aload_n 0, 1) := dk_42 (dk_at dksX0_count_2 21 rfl rfl)
theorem dX0_count_78 : decode cX0_count 78 = .ok (.getfield 27, 3) := dk_180 0 27 (dk_at dksX0_count_3 0 rfl rfl)
theorem dX0_count_81 : decode cX0_count 81 = .ok (.invokevirtual 225, 3) := dk_182 0 225 (dk_at dksX0_count_3 3 rfl rfl)
theorem dX0_count_84 : decode cX0_count 84 = .ok (.ireturn, 1) := dk_172 (dk_at dksX0_count_3 6 rfl rfl)
theorem dX0_count_85 : decode cX0_count 85 = .ok (.aload_n 0, 1) := dk_42 (dk_at dksX0_count_3 7 rfl rfl)
theorem dX0_count_86 : decode cX0_count 86 = .ok (.invokevirtual 340, 3) := dk_182 1 84 (dk_at dksX0_count_3 8 rfl rfl)
theorem dX0_count_89 : decode cX0_count 89 = .ok (.ireturn, 1) := dk_172 (dk_at dksX0_count_3 11 rfl rfl)
theorem dX0_count_90 : decode cX0_count 90 = .ok (.aload_n 0, 1) := dk_42 (dk_at dksX0_count_3 12 rfl rfl)
theorem dX0_count_91 : decode cX0_count 91 = .ok (.getfield 27, 3) := dk_180 0 27 (dk_at dksX0_count_3 13 rfl rfl)
theorem dX0_count_94 : decode cX0_count 94 = .ok (.invokevirtual 246, 3) := dk_182 0 246 (dk_at dksX0_count_3 16 rfl rfl)
theorem dX0_count_97 : decode cX0_count 97 = .ok (.ireturn, 1) := dk_172 (dk_at dksX0_count_3 19 rfl rfl)
theorem dX0_count_98 : decode cX0_count 98 = .ok (.aload_n 0, 1) := dk_42 (dk_at dksX0_count_3 20 rfl rfl)
theorem dX0_count_99 : decode cX0_count 99 = .ok (.getfield 44, 3) := dk_180 0 44 (dk_at dksX0_count_3 21 rfl rfl)
theorem dX0_count_102 : decode cX0_count 102 = .ok (.ireturn, 1) := dk_172 (dk_at dksX0_count_4 0 rfl rfl)
theorem dX0_count_103 : decode cX0_count 103 = .ok (.aload_n 0, 1) := dk_42 (dk_at dksX0_count_4 1 rfl rfl)
theorem dX0_count_104 : decode cX0_count 104 = .ok (.invokevirtual 343, 3) := dk_182 1 87 (dk_at dksX0_count_4 2 rfl rfl)
theorem dX0_count_107 : decode cX0_count 107 = .ok (.ireturn, 1) := dk_172 (dk_at dksX0_count_4 5 rfl rfl)
theorem dX0_count_108 : decode cX0_count 108 = .ok (.aload_n 0, 1) := dk_42 (dk_at dksX0_count_4 6 rfl rfl)
theorem dX0_count_109 : decode cX0_count 109 = .ok (.getfield 40, 3) := dk_180 0 40 (dk_at dksX0_count_4 7 rfl rfl)
theorem dX0_count_112 : decode cX0_count 112 = .ok (.ireturn, 1) := dk_172 (dk_at dksX0_count_4 10 rfl rfl)
theorem dX0_count_113 : decode cX0_count 113 = .ok (.aload_n 0, 1) := dk_42 (dk_at dksX0_count_4 11 rfl rfl)
theorem dX0_count_114 : decode cX0_count 114 = .ok (.getfield 132, 3) := dk_180 0 132 (dk_at dksX0_count_4 12 rfl rfl)
theorem dX0_count_117 : decode cX0_count 117 = .ok (.ireturn, 1) := dk_172 (dk_at dksX0_count_4 15 rfl rfl)
theorem dX0_count_118 : decode cX0_count 118 = .ok (.bipush (-3), 2) := dk_16 253 (dk_at dksX0_count_4 16 rfl rfl)
theorem dX0_count_120 : decode cX0_count 120 = .ok (.ireturn, 1) := dk_172 (dk_at dksX0_count_4 18 rfl rfl)
abbrev cX0_nutsOfAll : ByteArray := prog_1_method_57_code
def yX0_nutsOfAll : MethodName := ⟨RX0, "nutsOfAll", "()I"⟩
def dkwX0_nutsOfAll_1 : List UInt8 := [51, 96, 60, 132, 2, 1, 167, 255, 230, 27, 172]
abbrev dktX0_nutsOfAll_1 : List UInt8 := dkwX0_nutsOfAll_1 ++ []
def dkwX0_nutsOfAll_0 : List UInt8 := [3, 60, 3, 61, 28, 42, 180, 0, 27, 180, 0, 76, 162, 0, 21, 27, 42, 180, 0, 27, 180, 0, 90, 28]
abbrev dktX0_nutsOfAll_0 : List UInt8 := dkwX0_nutsOfAll_0 ++ dktX0_nutsOfAll_1
theorem dksX0_nutsOfAll_0 : cX0_nutsOfAll.data.toList.drop 0 = dktX0_nutsOfAll_0 := by decide +kernel
theorem dksX0_nutsOfAll_1 : cX0_nutsOfAll.data.toList.drop 24 = dktX0_nutsOfAll_1 := dk_seg dksX0_nutsOfAll_0 24 rfl rfl
theorem dX0_nutsOfAll_0 : decode cX0_nutsOfAll 0 = .ok (.iconst 0, 1) := dk_3 (dk_at dksX0_nutsOfAll_0 0 rfl rfl)
theorem dX0_nutsOfAll_1 : decode cX0_nutsOfAll 1 = .ok (.istore_n 1, 1) := dk_60 (dk_at dksX0_nutsOfAll_0 1 rfl rfl)
theorem dX0_nutsOfAll_2 : decode cX0_nutsOfAll 2 = .ok (.iconst 0, 1) := dk_3 (dk_at dksX0_nutsOfAll_0 2 rfl rfl)
theorem dX0_nutsOfAll_3 : decode cX0_nutsOfAll 3 = .ok (.istore_n 2, 1) := dk_61 (dk_at dksX0_nutsOfAll_0 3 rfl rfl)
theorem dX0_nutsOfAll_4 : decode cX0_nutsOfAll 4 = .ok (.iload_n 2, 1) := dk_28 (dk_at dksX0_nutsOfAll_0 4 rfl rfl)
theorem dX0_nutsOfAll_5 : decode cX0_nutsOfAll 5 = .ok (.aload_n 0, 1) := dk_42 (dk_at dksX0_nutsOfAll_0 5 rfl rfl)
theorem dX0_nutsOfAll_6 : decode cX0_nutsOfAll 6 = .ok (.getfield 27, 3) := dk_180 0 27 (dk_at dksX0_nutsOfAll_0 6 rfl rfl)
theorem dX0_nutsOfAll_9 : decode cX0_nutsOfAll 9 = .ok (.getfield 76, 3) := dk_180 0 76 (dk_at dksX0_nutsOfAll_0 9 rfl rfl)
theorem dX0_nutsOfAll_12 : decode cX0_nutsOfAll 12 = .ok (.if_icmp .ge 21, 3) := dk_162 0 21 (dk_at dksX0_nutsOfAll_0 12 rfl rfl)
theorem dX0_nutsOfAll_15 : decode cX0_nutsOfAll 15 = .ok (.iload_n 1, 1) := dk_27 (dk_at dksX0_nutsOfAll_0 15 rfl rfl)
theorem dX0_nutsOfAll_16 : decode cX0_nutsOfAll 16 = .ok (.aload_n 0, 1) := dk_42 (dk_at dksX0_nutsOfAll_0 16 rfl rfl)
theorem dX0_nutsOfAll_17 : decode cX0_nutsOfAll 17 = .ok (.getfield 27, 3) := dk_180 0 27 (dk_at dksX0_nutsOfAll_0 17 rfl rfl)
theorem dX0_nutsOfAll_20 : decode cX0_nutsOfAll 20 = .ok (.getfield 90, 3) := dk_180 0 90 (dk_at dksX0_nutsOfAll_0 20 rfl rfl)
theorem dX0_nutsOfAll_23 : decode cX0_nutsOfAll 23 = .ok (.iload_n 2, 1) := dk_28 (dk_at dksX0_nutsOfAll_0 23 rfl rfl)
theorem dX0_nutsOfAll_24 : decode cX0_nutsOfAll 24 = .ok (.baload, 1) := dk_51 (dk_at dksX0_nutsOfAll_1 0 rfl rfl)
theorem dX0_nutsOfAll_25 : decode cX0_nutsOfAll 25 = .ok (.iadd, 1) := dk_96 (dk_at dksX0_nutsOfAll_1 1 rfl rfl)
theorem dX0_nutsOfAll_26 : decode cX0_nutsOfAll 26 = .ok (.istore_n 1, 1) := dk_60 (dk_at dksX0_nutsOfAll_1 2 rfl rfl)
theorem dX0_nutsOfAll_27 : decode cX0_nutsOfAll 27 = .ok (.iinc 2 1, 3) := dk_132 2 1 (dk_at dksX0_nutsOfAll_1 3 rfl rfl)
theorem dX0_nutsOfAll_30 : decode cX0_nutsOfAll 30 = .ok (.goto (-26), 3) := dk_167 255 230 (dk_at dksX0_nutsOfAll_1 6 rfl rfl)
theorem dX0_nutsOfAll_33 : decode cX0_nutsOfAll 33 = .ok (.iload_n 1, 1) := dk_27 (dk_at dksX0_nutsOfAll_1 9 rfl rfl)
theorem dX0_nutsOfAll_34 : decode cX0_nutsOfAll 34 = .ok (.ireturn, 1) := dk_172 (dk_at dksX0_nutsOfAll_1 10 rfl rfl)
abbrev cX0_things : ByteArray := prog_1_method_56_code
def yX0_things : MethodName := ⟨RX0, "things", "()I"⟩
def dkwX0_things_2 : List UInt8 := [167, 255, 224, 27, 172]
abbrev dktX0_things_2 : List UInt8 := dkwX0_things_2 ++ []
def dkwX0_things_1 : List UInt8 := [58, 5, 27, 25, 5, 199, 0, 7, 3, 167, 0, 8, 25, 5, 182, 1, 82, 96, 60, 132, 4, 1]
abbrev dktX0_things_1 : List UInt8 := dkwX0_things_1 ++ dktX0_things_2
def dkwX0_things_0 : List UInt8 := [3, 60, 42, 180, 0, 57, 77, 44, 190, 62, 3, 54, 4, 21, 4, 29, 162, 0, 32, 44, 21, 4, 50]
abbrev dktX0_things_0 : List UInt8 := dkwX0_things_0 ++ dktX0_things_1
theorem dksX0_things_0 : cX0_things.data.toList.drop 0 = dktX0_things_0 := by decide +kernel
theorem dksX0_things_1 : cX0_things.data.toList.drop 23 = dktX0_things_1 := dk_seg dksX0_things_0 23 rfl rfl
theorem dksX0_things_2 : cX0_things.data.toList.drop 45 = dktX0_things_2 := dk_seg dksX0_things_1 22 rfl rfl
theorem dX0_things_0 : decode cX0_things 0 = .ok (.iconst 0, 1) := dk_3 (dk_at dksX0_things_0 0 rfl rfl)
theorem dX0_things_1 : decode cX0_things 1 = .ok (.istore_n 1, 1) := dk_60 (dk_at dksX0_things_0 1 rfl rfl)
theorem dX0_things_2 : decode cX0_things 2 = .ok (.aload_n 0, 1) := dk_42 (dk_at dksX0_things_0 2 rfl rfl)
theorem dX0_things_3 : decode cX0_things 3 = .ok (.getfield 57, 3) := dk_180 0 57 (dk_at dksX0_things_0 3 rfl rfl)
theorem dX0_things_6 : decode cX0_things 6 = .ok (.astore_n 2, 1) := dk_77 (dk_at dksX0_things_0 6 rfl rfl)
theorem dX0_things_7 : decode cX0_things 7 = .ok (.aload_n 2, 1) := dk_44 (dk_at dksX0_things_0 7 rfl rfl)
theorem dX0_things_8 : decode cX0_things 8 = .ok (.arraylength, 1) := dk_190 (dk_at dksX0_things_0 8 rfl rfl)
theorem dX0_things_9 : decode cX0_things 9 = .ok (.istore_n 3, 1) := dk_62 (dk_at dksX0_things_0 9 rfl rfl)
theorem dX0_things_10 : decode cX0_things 10 = .ok (.iconst 0, 1) := dk_3 (dk_at dksX0_things_0 10 rfl rfl)
theorem dX0_things_11 : decode cX0_things 11 = .ok (.istore 4, 2) := dk_54 4 (dk_at dksX0_things_0 11 rfl rfl)
theorem dX0_things_13 : decode cX0_things 13 = .ok (.iload 4, 2) := dk_21 4 (dk_at dksX0_things_0 13 rfl rfl)
theorem dX0_things_15 : decode cX0_things 15 = .ok (.iload_n 3, 1) := dk_29 (dk_at dksX0_things_0 15 rfl rfl)
theorem dX0_things_16 : decode cX0_things 16 = .ok (.if_icmp .ge 32, 3) := dk_162 0 32 (dk_at dksX0_things_0 16 rfl rfl)
theorem dX0_things_19 : decode cX0_things 19 = .ok (.aload_n 2, 1) := dk_44 (dk_at dksX0_things_0 19 rfl rfl)
theorem dX0_things_20 : decode cX0_things 20 = .ok (.iload 4, 2) := dk_21 4 (dk_at dksX0_things_0 20 rfl rfl)
theorem dX0_things_22 : decode cX0_things 22 = .ok (.aaload, 1) := dk_50 (dk_at dksX0_things_0 22 rfl rfl)
theorem dX0_things_23 : decode cX0_things 23 = .ok (.astore 5, 2) := dk_58 5 (dk_at dksX0_things_1 0 rfl rfl)
theorem dX0_things_25 : decode cX0_things 25 = .ok (.iload_n 1, 1) := dk_27 (dk_at dksX0_things_1 2 rfl rfl)
theorem dX0_things_26 : decode cX0_things 26 = .ok (.aload 5, 2) := dk_25 5 (dk_at dksX0_things_1 3 rfl rfl)
theorem dX0_things_28 : decode cX0_things 28 = .ok (.ifnonnull 7, 3) := dk_199 0 7 (dk_at dksX0_things_1 5 rfl rfl)
theorem dX0_things_31 : decode cX0_things 31 = .ok (.iconst 0, 1) := dk_3 (dk_at dksX0_things_1 8 rfl rfl)
theorem dX0_things_32 : decode cX0_things 32 = .ok (.goto 8, 3) := dk_167 0 8 (dk_at dksX0_things_1 9 rfl rfl)
theorem dX0_things_35 : decode cX0_things 35 = .ok (.aload 5, 2) := dk_25 5 (dk_at dksX0_things_1 12 rfl rfl)
theorem dX0_things_37 : decode cX0_things 37 = .ok (.invokevirtual 338, 3) := dk_182 1 82 (dk_at dksX0_things_1 14 rfl rfl)
theorem dX0_things_40 : decode cX0_things 40 = .ok (.iadd, 1) := dk_96 (dk_at dksX0_things_1 17 rfl rfl)
theorem dX0_things_41 : decode cX0_things 41 = .ok (.istore_n 1, 1) := dk_60 (dk_at dksX0_things_1 18 rfl rfl)
theorem dX0_things_42 : decode cX0_things 42 = .ok (.iinc 4 1, 3) := dk_132 4 1 (dk_at dksX0_things_1 19 rfl rfl)
theorem dX0_things_45 : decode cX0_things 45 = .ok (.goto (-32), 3) := dk_167 255 224 (dk_at dksX0_things_2 0 rfl rfl)
theorem dX0_things_48 : decode cX0_things 48 = .ok (.iload_n 1, 1) := dk_27 (dk_at dksX0_things_2 3 rfl rfl)
theorem dX0_things_49 : decode cX0_things 49 = .ok (.ireturn, 1) := dk_172 (dk_at dksX0_things_2 4 rfl rfl)
theorem q49 : (Jvm.Cond.initialized "NutCaches") ∈ lw_all := lw_g (lw_at lw_m1 1 rfl) rfl
theorem q97 : (Jvm.Cond.instantiable "NutCaches" (13 : Nat)) ∈ lw_all := lw_g (lw_at lw_m1 49 rfl) rfl
theorem q99 : (Jvm.Cond.instanceMethod ({ cls := "NutCaches", name := "<init>", desc := "()V" } : Jvm.MethodName)) ∈ lw_all := lw_g (lw_at lw_m1 51 rfl) rfl
theorem q100 : (Jvm.Cond.code ({ cls := "NutCaches", name := "<init>", desc := "()V" } : Jvm.MethodName) prog_1_method_10_code (1 : Nat) (Option.none : Option Jvm.ClassFile.FieldType)) ∈ lw_all := lw_g (lw_at lw_m1 52 rfl) rfl
theorem q101 : (Jvm.Cond.methodLink "NutCaches" (104 : Nat) ({ cls := "java/lang/Object", name := "<init>", desc := "()V" } : Jvm.MethodName)) ∈ lw_all := lw_g (lw_at lw_m1 53 rfl) rfl
theorem q104 : (Jvm.Cond.classLink "NutCaches" (105 : Nat) "java/lang/Object") ∈ lw_all := lw_g (lw_at lw_m1 56 rfl) rfl
theorem q106 : (Jvm.Cond.classLink "NutCaches" (35 : Nat) "NutCaches$State") ∈ lw_all := lw_g (lw_at lw_m1 58 rfl) rfl
theorem q108 : (Jvm.Cond.methodLinkNest "NutCaches" (70 : Nat) ({ cls := "NutCaches$State", name := "<init>", desc := "(LNutCaches;)V" } : Jvm.MethodName) "NutCaches") ∈ lw_tbl := lw_at lw_m1 60 rfl
theorem q113 : (Jvm.Cond.fieldLink "NutCaches" (86 : Nat) "NutCaches$State" "place" "[B") ∈ lw_all := lw_g (lw_at lw_m1 65 rfl) rfl
theorem q115 : (Jvm.Cond.fieldLink "NutCaches" (90 : Nat) "NutCaches$State" "nuts" "[B") ∈ lw_all := lw_g (lw_at lw_m1 67 rfl) rfl
theorem q118 : (Jvm.Cond.fieldLink "NutCaches" (76 : Nat) "NutCaches$State" "pits" "I") ∈ lw_all := lw_g (lw_at lw_m1 70 rfl) rfl
theorem q120 : (Jvm.Cond.fieldLink "NutCaches" (97 : Nat) "NutCaches$State" "at" "[B") ∈ lw_all := lw_g (lw_at lw_m1 72 rfl) rfl
theorem q122 : (Jvm.Cond.fieldLink "NutCaches" (167 : Nat) "NutCaches$State" "lean" "[B") ∈ lw_all := lw_g (lw_at lw_m1 74 rfl) rfl
theorem q124 : (Jvm.Cond.fieldLink "NutCaches" (79 : Nat) "NutCaches$State" "knows" "[S") ∈ lw_all := lw_g (lw_at lw_m1 76 rfl) rfl
theorem q126 : (Jvm.Cond.fieldLink "NutCaches" (201 : Nat) "NutCaches$State" "day" "I") ∈ lw_all := lw_g (lw_at lw_m1 78 rfl) rfl
theorem q128 : (Jvm.Cond.fieldLink "NutCaches" (222 : Nat) "NutCaches$State" "hungry" "I") ∈ lw_all := lw_g (lw_at lw_m1 80 rfl) rfl
theorem q152 : (Jvm.Cond.classLink "NutCaches" (112 : Nat) "[I") ∈ lw_all := lw_g (lw_at lw_m1 104 rfl) rfl
theorem q154 : (Jvm.Cond.classLink "NutCaches" (118 : Nat) "NutCaches$Trail") ∈ lw_all := lw_g (lw_at lw_m1 106 rfl) rfl
theorem q156 : (Jvm.Cond.methodLink "NutCaches" (123 : Nat) ({ cls := "NutCaches", name := "begin", desc := "()V" } : Jvm.MethodName)) ∈ lw_all := lw_g (lw_at lw_m1 108 rfl) rfl
theorem q157 : (Jvm.Cond.privateMethod ({ cls := "NutCaches", name := "begin", desc := "()V" } : Jvm.MethodName)) ∈ lw_tbl := lw_at lw_m1 109 rfl
theorem q158 : (Jvm.Cond.instanceMethod ({ cls := "NutCaches", name := "begin", desc := "()V" } : Jvm.MethodName)) ∈ lw_all := lw_g (lw_at lw_m1 110 rfl) rfl
theorem q159 : (Jvm.Cond.code ({ cls := "NutCaches", name := "begin", desc := "()V" } : Jvm.MethodName) prog_1_method_6_code (1 : Nat) (Option.none : Option Jvm.ClassFile.FieldType)) ∈ lw_all := lw_g (lw_at lw_m1 111 rfl) rfl
theorem q160 : (Jvm.Cond.methodLink "NutCaches" (34 : Nat) ({ cls := "NutCaches$State", name := "set", desc := "(LNutCaches$State;)LNutCaches$State;" } : Jvm.MethodName)) ∈ lw_all := lw_g (lw_at lw_m1 112 rfl) rfl
theorem q167 : (Jvm.Cond.methodLink "NutCaches" (51 : Nat) ({ cls := "java/util/Arrays", name := "fill", desc := "([Ljava/lang/Object;Ljava/lang/Object;)V" } : Jvm.MethodName)) ∈ lw_all := lw_g (lw_at lw_m1 119 rfl) rfl
theorem q170 : (Jvm.Cond.fieldLink "NutCaches" (21 : Nat) "NutCaches" "squirrels" "[Ljava/lang/Object;") ∈ lw_all := lw_g (lw_at lw_m1 122 rfl) rfl
theorem q173 : (Jvm.Cond.fieldLink "NutCaches" (73 : Nat) "NutCaches" "many" "I") ∈ lw_all := lw_g (lw_at lw_m1 125 rfl) rfl
theorem q175 : (Jvm.Cond.fieldLink "NutCaches" (31 : Nat) "NutCaches" "told" "LNutCaches$State;") ∈ lw_all := lw_g (lw_at lw_m1 127 rfl) rfl
theorem q176 : (Jvm.Cond.fieldLink "NutCaches" (27 : Nat) "NutCaches" "now" "LNutCaches$State;") ∈ lw_all := lw_g (lw_at lw_m1 128 rfl) rfl
theorem q177 : (Jvm.Cond.fieldLink "NutCaches" (109 : Nat) "NutCaches" "tried" "LNutCaches$State;") ∈ lw_all := lw_g (lw_at lw_m1 129 rfl) rfl
theorem q178 : (Jvm.Cond.fieldLink "NutCaches" (47 : Nat) "NutCaches" "kept" "[LNutCaches$State;") ∈ lw_all := lw_g (lw_at lw_m1 130 rfl) rfl
theorem q179 : (Jvm.Cond.fieldLink "NutCaches" (61 : Nat) "NutCaches" "backs" "[LNutCaches$State;") ∈ lw_all := lw_g (lw_at lw_m1 131 rfl) rfl
theorem q180 : (Jvm.Cond.fieldLink "NutCaches" (40 : Nat) "NutCaches" "backMany" "I") ∈ lw_all := lw_g (lw_at lw_m1 132 rfl) rfl
theorem q181 : (Jvm.Cond.fieldLink "NutCaches" (114 : Nat) "NutCaches" "sights" "[[I") ∈ lw_all := lw_g (lw_at lw_m1 133 rfl) rfl
theorem q182 : (Jvm.Cond.fieldLink "NutCaches" (44 : Nat) "NutCaches" "sightMany" "I") ∈ lw_all := lw_g (lw_at lw_m1 134 rfl) rfl
theorem q183 : (Jvm.Cond.fieldLink "NutCaches" (57 : Nat) "NutCaches" "trails" "[LNutCaches$Trail;") ∈ lw_all := lw_g (lw_at lw_m1 135 rfl) rfl
theorem q185 : (Jvm.Cond.fieldLink "NutCaches" (120 : Nat) "NutCaches" "text" "[B") ∈ lw_all := lw_g (lw_at lw_m1 137 rfl) rfl
theorem q187 : (Jvm.Cond.fieldLink "NutCaches" (132 : Nat) "NutCaches" "letters" "I") ∈ lw_all := lw_g (lw_at lw_m1 139 rfl) rfl
theorem q188 : (Jvm.Cond.laysFinal "NutCaches" "NutCaches" "squirrels" "[Ljava/lang/Object;") ∈ lw_all := lw_g (lw_at lw_m1 140 rfl) rfl
theorem q189 : (Jvm.Cond.soleField "NutCaches" "squirrels") ∈ lw_all := lw_g (lw_at lw_m1 141 rfl) rfl
theorem q190 : (Jvm.Cond.lays "NutCaches" "NutCaches" "many" "I") ∈ lw_all := lw_g (lw_at lw_m1 142 rfl) rfl
theorem q191 : (Jvm.Cond.soleField "NutCaches" "many") ∈ lw_all := lw_g (lw_at lw_m1 143 rfl) rfl
theorem q192 : (Jvm.Cond.laysFinal "NutCaches" "NutCaches" "told" "LNutCaches$State;") ∈ lw_all := lw_g (lw_at lw_m1 144 rfl) rfl
theorem q193 : (Jvm.Cond.soleField "NutCaches" "told") ∈ lw_all := lw_g (lw_at lw_m1 145 rfl) rfl
theorem q194 : (Jvm.Cond.laysFinal "NutCaches" "NutCaches" "now" "LNutCaches$State;") ∈ lw_all := lw_g (lw_at lw_m1 146 rfl) rfl
theorem q195 : (Jvm.Cond.soleField "NutCaches" "now") ∈ lw_all := lw_g (lw_at lw_m1 147 rfl) rfl
theorem q196 : (Jvm.Cond.laysFinal "NutCaches" "NutCaches" "tried" "LNutCaches$State;") ∈ lw_all := lw_g (lw_at lw_m1 148 rfl) rfl
theorem q197 : (Jvm.Cond.soleField "NutCaches" "tried") ∈ lw_all := lw_g (lw_at lw_m1 149 rfl) rfl
theorem q198 : (Jvm.Cond.laysFinal "NutCaches" "NutCaches" "kept" "[LNutCaches$State;") ∈ lw_all := lw_g (lw_at lw_m1 150 rfl) rfl
theorem q199 : (Jvm.Cond.soleField "NutCaches" "kept") ∈ lw_all := lw_g (lw_at lw_m1 151 rfl) rfl
theorem q200 : (Jvm.Cond.laysFinal "NutCaches" "NutCaches" "backs" "[LNutCaches$State;") ∈ lw_all := lw_g (lw_at lw_m1 152 rfl) rfl
theorem q201 : (Jvm.Cond.soleField "NutCaches" "backs") ∈ lw_all := lw_g (lw_at lw_m1 153 rfl) rfl
theorem q202 : (Jvm.Cond.lays "NutCaches" "NutCaches" "backMany" "I") ∈ lw_all := lw_g (lw_at lw_m1 154 rfl) rfl
theorem q203 : (Jvm.Cond.soleField "NutCaches" "backMany") ∈ lw_all := lw_g (lw_at lw_m1 155 rfl) rfl
theorem q204 : (Jvm.Cond.laysFinal "NutCaches" "NutCaches" "sights" "[[I") ∈ lw_all := lw_g (lw_at lw_m1 156 rfl) rfl
theorem q205 : (Jvm.Cond.soleField "NutCaches" "sights") ∈ lw_all := lw_g (lw_at lw_m1 157 rfl) rfl
theorem q206 : (Jvm.Cond.lays "NutCaches" "NutCaches" "sightMany" "I") ∈ lw_all := lw_g (lw_at lw_m1 158 rfl) rfl
theorem q207 : (Jvm.Cond.soleField "NutCaches" "sightMany") ∈ lw_all := lw_g (lw_at lw_m1 159 rfl) rfl
theorem q208 : (Jvm.Cond.laysFinal "NutCaches" "NutCaches" "trails" "[LNutCaches$Trail;") ∈ lw_all := lw_g (lw_at lw_m1 160 rfl) rfl
theorem q209 : (Jvm.Cond.soleField "NutCaches" "trails") ∈ lw_all := lw_g (lw_at lw_m1 161 rfl) rfl
theorem q210 : (Jvm.Cond.laysFinal "NutCaches" "NutCaches" "text" "[B") ∈ lw_all := lw_g (lw_at lw_m1 162 rfl) rfl
theorem q211 : (Jvm.Cond.soleField "NutCaches" "text") ∈ lw_all := lw_g (lw_at lw_m1 163 rfl) rfl
theorem q212 : (Jvm.Cond.lays "NutCaches" "NutCaches" "letters" "I") ∈ lw_all := lw_g (lw_at lw_m1 164 rfl) rfl
theorem q213 : (Jvm.Cond.soleField "NutCaches" "letters") ∈ lw_all := lw_g (lw_at lw_m1 165 rfl) rfl
theorem q214 : (Jvm.Cond.superclass "NutCaches" "java/lang/Object") ∈ lw_all := lw_g (lw_at lw_m1 166 rfl) rfl
theorem q216 : (Jvm.Cond.instanceMethod ({ cls := "NutCaches", name := "write", desc := "(I)I" } : Jvm.MethodName)) ∈ lw_all := lw_g (lw_at lw_m1 168 rfl) rfl
theorem q217 : (Jvm.Cond.selects "NutCaches" ({ cls := "NutCaches", name := "write", desc := "(I)I" } : Jvm.MethodName) ({ cls := "NutCaches", name := "write", desc := "(I)I" } : Jvm.MethodName)) ∈ lw_all := lw_g (lw_at lw_m1 169 rfl) rfl
theorem q218 : (Jvm.Cond.code ({ cls := "NutCaches", name := "write", desc := "(I)I" } : Jvm.MethodName) prog_1_method_13_code (2 : Nat) (Option.some Jvm.ClassFile.FieldType.int)) ∈ lw_all := lw_g (lw_at lw_m1 170 rfl) rfl
theorem q219 : (Jvm.Cond.constantLong "NutCaches" (130 : Nat) (255 : Int64)) ∈ lw_all := lw_g (lw_at lw_m1 171 rfl) rfl
theorem q220 : (Jvm.Cond.methodLink "NutCaches" (126 : Nat) ({ cls := "NutCaches", name := "in", desc := "(JJJ)Z" } : Jvm.MethodName)) ∈ lw_all := lw_g (lw_at lw_m1 172 rfl) rfl
theorem q221 : (Jvm.Cond.static ({ cls := "NutCaches", name := "in", desc := "(JJJ)Z" } : Jvm.MethodName)) ∈ lw_all := lw_g (lw_at lw_m1 173 rfl) rfl
theorem q222 : (Jvm.Cond.code ({ cls := "NutCaches", name := "in", desc := "(JJJ)Z" } : Jvm.MethodName) prog_1_method_1_code (6 : Nat) (Option.some Jvm.ClassFile.FieldType.boolean)) ∈ lw_all := lw_g (lw_at lw_m1 174 rfl) rfl
theorem q224 : (Jvm.Cond.instanceMethod ({ cls := "NutCaches", name := "erase", desc := "()I" } : Jvm.MethodName)) ∈ lw_all := lw_g (lw_at lw_m1 176 rfl) rfl
theorem q225 : (Jvm.Cond.selects "NutCaches" ({ cls := "NutCaches", name := "erase", desc := "()I" } : Jvm.MethodName) ({ cls := "NutCaches", name := "erase", desc := "()I" } : Jvm.MethodName)) ∈ lw_all := lw_g (lw_at lw_m1 177 rfl) rfl
theorem q226 : (Jvm.Cond.code ({ cls := "NutCaches", name := "erase", desc := "()I" } : Jvm.MethodName) prog_1_method_14_code (2 : Nat) (Option.some Jvm.ClassFile.FieldType.int)) ∈ lw_all := lw_g (lw_at lw_m1 178 rfl) rfl
theorem q228 : (Jvm.Cond.instanceMethod ({ cls := "NutCaches", name := "fault", desc := "()I" } : Jvm.MethodName)) ∈ lw_all := lw_g (lw_at lw_m1 180 rfl) rfl
theorem q229 : (Jvm.Cond.selects "NutCaches" ({ cls := "NutCaches", name := "fault", desc := "()I" } : Jvm.MethodName) ({ cls := "NutCaches", name := "fault", desc := "()I" } : Jvm.MethodName)) ∈ lw_all := lw_g (lw_at lw_m1 181 rfl) rfl
theorem q230 : (Jvm.Cond.codeWith ({ cls := "NutCaches", name := "fault", desc := "()I" } : Jvm.MethodName) prog_1_method_15_code (2 : Nat) (Option.some Jvm.ClassFile.FieldType.int) [((0 : Nat), (13 : Nat), (14 : Nat), (142 : Nat))]) ∈ lw_all := lw_g (lw_at lw_m1 182 rfl) rfl
theorem q231 : (Jvm.Cond.classLink "NutCaches" (142 : Nat) "NutCaches$Fault") ∈ lw_all := lw_g (lw_at lw_m1 183 rfl) rfl
theorem q232 : (Jvm.Cond.classLink "NutCaches" (135 : Nat) "NutCaches$Reader") ∈ lw_all := lw_g (lw_at lw_m1 184 rfl) rfl
theorem q234 : (Jvm.Cond.methodLinkNest "NutCaches" (137 : Nat) ({ cls := "NutCaches$Reader", name := "<init>", desc := "(LNutCaches;)V" } : Jvm.MethodName) "NutCaches") ∈ lw_tbl := lw_at lw_m1 186 rfl
theorem q246 : (Jvm.Cond.fieldLink "NutCaches" (148 : Nat) "NutCaches$Reader" "clauses" "[[I") ∈ lw_all := lw_g (lw_at lw_m1 198 rfl) rfl
theorem q248 : (Jvm.Cond.fieldLink "NutCaches" (146 : Nat) "NutCaches$Reader" "read" "I") ∈ lw_all := lw_g (lw_at lw_m1 200 rfl) rfl
theorem q267 : (Jvm.Cond.methodLink "NutCaches" (138 : Nat) ({ cls := "NutCaches$Reader", name := "read", desc := "()LNutCaches$Reader;" } : Jvm.MethodName)) ∈ lw_all := lw_g (lw_at lw_m1 219 rfl) rfl
theorem q474 : (Jvm.Cond.laysStatic "NutCaches" "HEADS" "[Ljava/lang/String;") ∈ lw_tbl := lw_at lw_m2 186 rfl
theorem q609 : (Jvm.Cond.selects "NutCaches" ({ cls := "java/lang/Object", name := "equals", desc := "(Ljava/lang/Object;)Z" } : Jvm.MethodName) ({ cls := "java/lang/Object", name := "equals", desc := "(Ljava/lang/Object;)Z" } : Jvm.MethodName)) ∈ lw_all := lw_g (lw_at lw_m3 81 rfl) rfl
theorem q671 : (Jvm.Cond.fieldLink "NutCaches" (144 : Nat) "NutCaches$Fault" "at" "I") ∈ lw_all := lw_g (lw_at lw_m3 143 rfl) rfl
theorem q741 : (Jvm.Cond.instanceMethod ({ cls := "NutCaches", name := "hedge", desc := "()I" } : Jvm.MethodName)) ∈ lw_all := lw_g (lw_at lw_m3 213 rfl) rfl
theorem q742 : (Jvm.Cond.selects "NutCaches" ({ cls := "NutCaches", name := "hedge", desc := "()I" } : Jvm.MethodName) ({ cls := "NutCaches", name := "hedge", desc := "()I" } : Jvm.MethodName)) ∈ lw_all := lw_g (lw_at lw_m3 214 rfl) rfl
theorem q743 : (Jvm.Cond.codeWith ({ cls := "NutCaches", name := "hedge", desc := "()I" } : Jvm.MethodName) prog_1_method_16_code (4 : Nat) (Option.some Jvm.ClassFile.FieldType.int) [((9 : Nat), (14 : Nat), (17 : Nat), (142 : Nat)), ((21 : Nat), (52 : Nat), (63 : Nat), (0 : Nat))]) ∈ lw_all := lw_g (lw_at lw_m3 215 rfl) rfl
theorem q744 : (Jvm.Cond.methodLink "NutCaches" (151 : Nat) ({ cls := "NutCaches", name := "tell", desc := "([I)V" } : Jvm.MethodName)) ∈ lw_all := lw_g (lw_at lw_m3 216 rfl) rfl
theorem q745 : (Jvm.Cond.privateMethod ({ cls := "NutCaches", name := "tell", desc := "([I)V" } : Jvm.MethodName)) ∈ lw_tbl := lw_at lw_m3 217 rfl
theorem q746 : (Jvm.Cond.instanceMethod ({ cls := "NutCaches", name := "tell", desc := "([I)V" } : Jvm.MethodName)) ∈ lw_all := lw_g (lw_at lw_m3 218 rfl) rfl
theorem q747 : (Jvm.Cond.code ({ cls := "NutCaches", name := "tell", desc := "([I)V" } : Jvm.MethodName) prog_1_method_8_code (2 : Nat) (Option.none : Option Jvm.ClassFile.FieldType)) ∈ lw_all := lw_g (lw_at lw_m3 219 rfl) rfl
theorem q748 : (Jvm.Cond.methodLink "NutCaches" (83 : Nat) ({ cls := "java/util/Arrays", name := "fill", desc := "([SS)V" } : Jvm.MethodName)) ∈ lw_all := lw_g (lw_at lw_m3 220 rfl) rfl
theorem q751 : (Jvm.Cond.methodLink "NutCaches" (93 : Nat) ({ cls := "NutCaches", name := "called", desc := "(III)LNutCaches$Squirrel;" } : Jvm.MethodName)) ∈ lw_all := lw_g (lw_at lw_m3 223 rfl) rfl
theorem q752 : (Jvm.Cond.static ({ cls := "NutCaches", name := "called", desc := "(III)LNutCaches$Squirrel;" } : Jvm.MethodName)) ∈ lw_all := lw_g (lw_at lw_m3 224 rfl) rfl
theorem q753 : (Jvm.Cond.code ({ cls := "NutCaches", name := "called", desc := "(III)LNutCaches$Squirrel;" } : Jvm.MethodName) prog_1_method_3_code (3 : Nat) (Option.some (Jvm.ClassFile.FieldType.object "NutCaches$Squirrel"))) ∈ lw_all := lw_g (lw_at lw_m3 225 rfl) rfl
theorem q754 : (Jvm.Cond.classLink "NutCaches" (1 : Nat) "NutCaches$Plain") ∈ lw_all := lw_g (lw_at lw_m3 226 rfl) rfl
theorem q756 : (Jvm.Cond.methodLink "NutCaches" (3 : Nat) ({ cls := "NutCaches$Plain", name := "<init>", desc := "(II)V" } : Jvm.MethodName)) ∈ lw_all := lw_g (lw_at lw_m3 228 rfl) rfl
theorem q764 : (Jvm.Cond.fieldLink "NutCaches" (283 : Nat) "NutCaches$Squirrel" "number" "I") ∈ lw_all := lw_g (lw_at lw_m3 236 rfl) rfl
theorem q767 : (Jvm.Cond.fieldLink "NutCaches" (181 : Nat) "NutCaches$Squirrel" "needs" "I") ∈ lw_all := lw_g (lw_at lw_m3 239 rfl) rfl
theorem q773 : (Jvm.Cond.classLink "NutCaches" (7 : Nat) "NutCaches$Greedy") ∈ lw_all := lw_g (lw_at lw_m4 5 rfl) rfl
theorem q775 : (Jvm.Cond.methodLink "NutCaches" (9 : Nat) ({ cls := "NutCaches$Greedy", name := "<init>", desc := "(II)V" } : Jvm.MethodName)) ∈ lw_all := lw_g (lw_at lw_m4 7 rfl) rfl
theorem q782 : (Jvm.Cond.classLink "NutCaches" (10 : Nat) "NutCaches$Neat") ∈ lw_all := lw_g (lw_at lw_m4 14 rfl) rfl
theorem q784 : (Jvm.Cond.methodLink "NutCaches" (12 : Nat) ({ cls := "NutCaches$Neat", name := "<init>", desc := "(II)V" } : Jvm.MethodName)) ∈ lw_all := lw_g (lw_at lw_m4 16 rfl) rfl
theorem q791 : (Jvm.Cond.classLink "NutCaches" (13 : Nat) "NutCaches$Dozy") ∈ lw_all := lw_g (lw_at lw_m4 23 rfl) rfl
theorem q793 : (Jvm.Cond.methodLink "NutCaches" (15 : Nat) ({ cls := "NutCaches$Dozy", name := "<init>", desc := "(II)V" } : Jvm.MethodName)) ∈ lw_all := lw_g (lw_at lw_m4 25 rfl) rfl
theorem q800 : (Jvm.Cond.classLink "NutCaches" (16 : Nat) "NutCaches$Spy") ∈ lw_all := lw_g (lw_at lw_m4 32 rfl) rfl
theorem q802 : (Jvm.Cond.methodLink "NutCaches" (18 : Nat) ({ cls := "NutCaches$Spy", name := "<init>", desc := "(II)V" } : Jvm.MethodName)) ∈ lw_all := lw_g (lw_at lw_m4 34 rfl) rfl
theorem q810 : (Jvm.Cond.instanceMethod ({ cls := "NutCaches", name := "pit", desc := "(II)I" } : Jvm.MethodName)) ∈ lw_all := lw_g (lw_at lw_m4 42 rfl) rfl
theorem q811 : (Jvm.Cond.selects "NutCaches" ({ cls := "NutCaches", name := "pit", desc := "(II)I" } : Jvm.MethodName) ({ cls := "NutCaches", name := "pit", desc := "(II)I" } : Jvm.MethodName)) ∈ lw_all := lw_g (lw_at lw_m4 43 rfl) rfl
theorem q812 : (Jvm.Cond.code ({ cls := "NutCaches", name := "pit", desc := "(II)I" } : Jvm.MethodName) prog_1_method_18_code (3 : Nat) (Option.some Jvm.ClassFile.FieldType.int)) ∈ lw_all := lw_g (lw_at lw_m4 44 rfl) rfl
theorem q813 : (Jvm.Cond.methodLink "NutCaches" (159 : Nat) ({ cls := "NutCaches", name := "isPit", desc := "(I)Z" } : Jvm.MethodName)) ∈ lw_all := lw_g (lw_at lw_m4 45 rfl) rfl
theorem q814 : (Jvm.Cond.privateMethod ({ cls := "NutCaches", name := "isPit", desc := "(I)Z" } : Jvm.MethodName)) ∈ lw_tbl := lw_at lw_m4 46 rfl
theorem q815 : (Jvm.Cond.instanceMethod ({ cls := "NutCaches", name := "isPit", desc := "(I)Z" } : Jvm.MethodName)) ∈ lw_all := lw_g (lw_at lw_m4 47 rfl) rfl
theorem q816 : (Jvm.Cond.code ({ cls := "NutCaches", name := "isPit", desc := "(I)Z" } : Jvm.MethodName) prog_1_method_11_code (2 : Nat) (Option.some Jvm.ClassFile.FieldType.boolean)) ∈ lw_all := lw_g (lw_at lw_m4 48 rfl) rfl
theorem q817 : (Jvm.Cond.methodLink "NutCaches" (163 : Nat) ({ cls := "NutCaches", name := "whoKnows", desc := "(I)I" } : Jvm.MethodName)) ∈ lw_all := lw_g (lw_at lw_m4 49 rfl) rfl
theorem q818 : (Jvm.Cond.privateMethod ({ cls := "NutCaches", name := "whoKnows", desc := "(I)I" } : Jvm.MethodName)) ∈ lw_tbl := lw_at lw_m4 50 rfl
theorem q819 : (Jvm.Cond.instanceMethod ({ cls := "NutCaches", name := "whoKnows", desc := "(I)I" } : Jvm.MethodName)) ∈ lw_all := lw_g (lw_at lw_m4 51 rfl) rfl
theorem q820 : (Jvm.Cond.code ({ cls := "NutCaches", name := "whoKnows", desc := "(I)I" } : Jvm.MethodName) prog_1_method_17_code (4 : Nat) (Option.some Jvm.ClassFile.FieldType.int)) ∈ lw_all := lw_g (lw_at lw_m4 52 rfl) rfl
theorem q821 : (Jvm.Cond.methodLink "NutCaches" (155 : Nat) ({ cls := "NutCaches", name := "has", desc := "(II)Z" } : Jvm.MethodName)) ∈ lw_all := lw_g (lw_at lw_m4 53 rfl) rfl
theorem q822 : (Jvm.Cond.static ({ cls := "NutCaches", name := "has", desc := "(II)Z" } : Jvm.MethodName)) ∈ lw_all := lw_g (lw_at lw_m4 54 rfl) rfl
theorem q823 : (Jvm.Cond.code ({ cls := "NutCaches", name := "has", desc := "(II)Z" } : Jvm.MethodName) prog_1_method_2_code (2 : Nat) (Option.some Jvm.ClassFile.FieldType.boolean)) ∈ lw_all := lw_g (lw_at lw_m4 55 rfl) rfl
theorem q825 : (Jvm.Cond.instanceMethod ({ cls := "NutCaches", name := "squirrel", desc := "(II)I" } : Jvm.MethodName)) ∈ lw_all := lw_g (lw_at lw_m4 57 rfl) rfl
theorem q826 : (Jvm.Cond.selects "NutCaches" ({ cls := "NutCaches", name := "squirrel", desc := "(II)I" } : Jvm.MethodName) ({ cls := "NutCaches", name := "squirrel", desc := "(II)I" } : Jvm.MethodName)) ∈ lw_all := lw_g (lw_at lw_m4 58 rfl) rfl
theorem q827 : (Jvm.Cond.code ({ cls := "NutCaches", name := "squirrel", desc := "(II)I" } : Jvm.MethodName) prog_1_method_20_code (3 : Nat) (Option.some Jvm.ClassFile.FieldType.int)) ∈ lw_all := lw_g (lw_at lw_m4 59 rfl) rfl
theorem q828 : (Jvm.Cond.methodLink "NutCaches" (170 : Nat) ({ cls := "NutCaches", name := "isSquirrel", desc := "(I)Z" } : Jvm.MethodName)) ∈ lw_all := lw_g (lw_at lw_m4 60 rfl) rfl
theorem q829 : (Jvm.Cond.privateMethod ({ cls := "NutCaches", name := "isSquirrel", desc := "(I)Z" } : Jvm.MethodName)) ∈ lw_tbl := lw_at lw_m4 61 rfl
theorem q830 : (Jvm.Cond.instanceMethod ({ cls := "NutCaches", name := "isSquirrel", desc := "(I)Z" } : Jvm.MethodName)) ∈ lw_all := lw_g (lw_at lw_m4 62 rfl) rfl
theorem q831 : (Jvm.Cond.code ({ cls := "NutCaches", name := "isSquirrel", desc := "(I)Z" } : Jvm.MethodName) prog_1_method_12_code (2 : Nat) (Option.some Jvm.ClassFile.FieldType.boolean)) ∈ lw_all := lw_g (lw_at lw_m4 63 rfl) rfl
theorem q832 : (Jvm.Cond.methodLink "NutCaches" (173 : Nat) ({ cls := "NutCaches", name := "squirrel", desc := "(I)LNutCaches$Squirrel;" } : Jvm.MethodName)) ∈ lw_all := lw_g (lw_at lw_m4 64 rfl) rfl
theorem q833 : (Jvm.Cond.privateMethod ({ cls := "NutCaches", name := "squirrel", desc := "(I)LNutCaches$Squirrel;" } : Jvm.MethodName)) ∈ lw_tbl := lw_at lw_m4 65 rfl
theorem q834 : (Jvm.Cond.instanceMethod ({ cls := "NutCaches", name := "squirrel", desc := "(I)LNutCaches$Squirrel;" } : Jvm.MethodName)) ∈ lw_all := lw_g (lw_at lw_m4 66 rfl) rfl
theorem q835 : (Jvm.Cond.code ({ cls := "NutCaches", name := "squirrel", desc := "(I)LNutCaches$Squirrel;" } : Jvm.MethodName) prog_1_method_5_code (2 : Nat) (Option.some (Jvm.ClassFile.FieldType.object "NutCaches$Squirrel"))) ∈ lw_all := lw_g (lw_at lw_m4 67 rfl) rfl
theorem q836 : (Jvm.Cond.classLink "NutCaches" (19 : Nat) "NutCaches$Squirrel") ∈ lw_all := lw_g (lw_at lw_m4 68 rfl) rfl
theorem q837 : (Jvm.Cond.methodLink "NutCaches" (177 : Nat) ({ cls := "NutCaches$Squirrel", name := "kind", desc := "()I" } : Jvm.MethodName)) ∈ lw_all := lw_g (lw_at lw_m4 69 rfl) rfl
theorem q858 : (Jvm.Cond.methodLink "NutCaches" (184 : Nat) ({ cls := "NutCaches", name := "stateOf", desc := "(LNutCaches$State;II)I" } : Jvm.MethodName)) ∈ lw_all := lw_g (lw_at lw_m4 90 rfl) rfl
theorem q859 : (Jvm.Cond.static ({ cls := "NutCaches", name := "stateOf", desc := "(LNutCaches$State;II)I" } : Jvm.MethodName)) ∈ lw_all := lw_g (lw_at lw_m4 91 rfl) rfl
theorem q860 : (Jvm.Cond.code ({ cls := "NutCaches", name := "stateOf", desc := "(LNutCaches$State;II)I" } : Jvm.MethodName) prog_1_method_19_code (3 : Nat) (Option.some Jvm.ClassFile.FieldType.int)) ∈ lw_all := lw_g (lw_at lw_m4 92 rfl) rfl
theorem q861 : (Jvm.Cond.methodLink "NutCaches" (188 : Nat) ({ cls := "NutCaches$Squirrel", name := "wants", desc := "()I" } : Jvm.MethodName)) ∈ lw_all := lw_g (lw_at lw_m4 93 rfl) rfl
theorem q885 : (Jvm.Cond.instanceMethod ({ cls := "NutCaches", name := "as", desc := "(II)I" } : Jvm.MethodName)) ∈ lw_all := lw_g (lw_at lw_m4 117 rfl) rfl
theorem q886 : (Jvm.Cond.selects "NutCaches" ({ cls := "NutCaches", name := "as", desc := "(II)I" } : Jvm.MethodName) ({ cls := "NutCaches", name := "as", desc := "(II)I" } : Jvm.MethodName)) ∈ lw_all := lw_g (lw_at lw_m4 118 rfl) rfl
theorem q887 : (Jvm.Cond.codeWith ({ cls := "NutCaches", name := "as", desc := "(II)I" } : Jvm.MethodName) prog_1_method_21_code (4 : Nat) (Option.some Jvm.ClassFile.FieldType.int) [((26 : Nat), (39 : Nat), (40 : Nat), (197 : Nat))]) ∈ lw_all := lw_g (lw_at lw_m4 119 rfl) rfl
theorem q888 : (Jvm.Cond.classLink "NutCaches" (197 : Nat) "java/lang/ClassCastException") ∈ lw_all := lw_g (lw_at lw_m4 120 rfl) rfl
theorem q910 : (Jvm.Cond.constantLong "NutCaches" (191 : Nat) (5 : Int64)) ∈ lw_all := lw_g (lw_at lw_m4 142 rfl) rfl
theorem q911 : (Jvm.Cond.methodLink "NutCaches" (193 : Nat) ({ cls := "NutCaches", name := "castTo", desc := "(Ljava/lang/Object;I)LNutCaches$Squirrel;" } : Jvm.MethodName)) ∈ lw_all := lw_g (lw_at lw_m4 143 rfl) rfl
theorem q912 : (Jvm.Cond.static ({ cls := "NutCaches", name := "castTo", desc := "(Ljava/lang/Object;I)LNutCaches$Squirrel;" } : Jvm.MethodName)) ∈ lw_all := lw_g (lw_at lw_m4 144 rfl) rfl
theorem q913 : (Jvm.Cond.code ({ cls := "NutCaches", name := "castTo", desc := "(Ljava/lang/Object;I)LNutCaches$Squirrel;" } : Jvm.MethodName) prog_1_method_4_code (2 : Nat) (Option.some (Jvm.ClassFile.FieldType.object "NutCaches$Squirrel"))) ∈ lw_all := lw_g (lw_at lw_m4 145 rfl) rfl
theorem q915 : (Jvm.Cond.instanceMethod ({ cls := "NutCaches", name := "day", desc := "(I)I" } : Jvm.MethodName)) ∈ lw_all := lw_g (lw_at lw_m4 147 rfl) rfl
theorem q916 : (Jvm.Cond.selects "NutCaches" ({ cls := "NutCaches", name := "day", desc := "(I)I" } : Jvm.MethodName) ({ cls := "NutCaches", name := "day", desc := "(I)I" } : Jvm.MethodName)) ∈ lw_all := lw_g (lw_at lw_m4 148 rfl) rfl
theorem q917 : (Jvm.Cond.code ({ cls := "NutCaches", name := "day", desc := "(I)I" } : Jvm.MethodName) prog_1_method_22_code (2 : Nat) (Option.some Jvm.ClassFile.FieldType.int)) ∈ lw_all := lw_g (lw_at lw_m4 149 rfl) rfl
theorem q918 : (Jvm.Cond.constantLong "NutCaches" (199 : Nat) (12 : Int64)) ∈ lw_all := lw_g (lw_at lw_m4 150 rfl) rfl
theorem q919 : (Jvm.Cond.methodLink "NutCaches" (204 : Nat) ({ cls := "NutCaches", name := "note", desc := "()V" } : Jvm.MethodName)) ∈ lw_all := lw_g (lw_at lw_m4 151 rfl) rfl
theorem q920 : (Jvm.Cond.privateMethod ({ cls := "NutCaches", name := "note", desc := "()V" } : Jvm.MethodName)) ∈ lw_tbl := lw_at lw_m4 152 rfl
theorem q921 : (Jvm.Cond.instanceMethod ({ cls := "NutCaches", name := "note", desc := "()V" } : Jvm.MethodName)) ∈ lw_all := lw_g (lw_at lw_m4 153 rfl) rfl
theorem q922 : (Jvm.Cond.code ({ cls := "NutCaches", name := "note", desc := "()V" } : Jvm.MethodName) prog_1_method_7_code (2 : Nat) (Option.none : Option Jvm.ClassFile.FieldType)) ∈ lw_all := lw_g (lw_at lw_m4 154 rfl) rfl
theorem q923 : (Jvm.Cond.methodLink "NutCaches" (64 : Nat) ({ cls := "java/lang/System", name := "arraycopy", desc := "(Ljava/lang/Object;ILjava/lang/Object;II)V" } : Jvm.MethodName)) ∈ lw_all := lw_g (lw_at lw_m4 155 rfl) rfl
theorem q924 : (Jvm.Cond.methodLink "NutCaches" (207 : Nat) ({ cls := "NutCaches$State", name := "pass", desc := "(I)LNutCaches$State;" } : Jvm.MethodName)) ∈ lw_all := lw_g (lw_at lw_m4 156 rfl) rfl
theorem q1000 : (Jvm.Cond.instanceMethod ({ cls := "NutCaches", name := "bury", desc := "(II)I" } : Jvm.MethodName)) ∈ lw_all := lw_g (lw_at lw_m4 232 rfl) rfl
theorem q1001 : (Jvm.Cond.selects "NutCaches" ({ cls := "NutCaches", name := "bury", desc := "(II)I" } : Jvm.MethodName) ({ cls := "NutCaches", name := "bury", desc := "(II)I" } : Jvm.MethodName)) ∈ lw_all := lw_g (lw_at lw_m4 233 rfl) rfl
theorem q1002 : (Jvm.Cond.code ({ cls := "NutCaches", name := "bury", desc := "(II)I" } : Jvm.MethodName) prog_1_method_23_code (4 : Nat) (Option.some Jvm.ClassFile.FieldType.int)) ∈ lw_all := lw_g (lw_at lw_m4 234 rfl) rfl
theorem q1003 : (Jvm.Cond.constantLong "NutCaches" (211 : Nat) (99 : Int64)) ∈ lw_all := lw_g (lw_at lw_m4 235 rfl) rfl
theorem q1004 : (Jvm.Cond.methodLink "NutCaches" (213 : Nat) ({ cls := "NutCaches$State", name := "isGone", desc := "(I)Z" } : Jvm.MethodName)) ∈ lw_all := lw_g (lw_at lw_m4 236 rfl) rfl
theorem q1006 : (Jvm.Cond.instanceMethod ({ cls := "NutCaches", name := "raid", desc := "(II)I" } : Jvm.MethodName)) ∈ lw_all := lw_g (lw_at lw_m4 238 rfl) rfl
theorem q1007 : (Jvm.Cond.selects "NutCaches" ({ cls := "NutCaches", name := "raid", desc := "(II)I" } : Jvm.MethodName) ({ cls := "NutCaches", name := "raid", desc := "(II)I" } : Jvm.MethodName)) ∈ lw_all := lw_g (lw_at lw_m4 239 rfl) rfl
theorem q1008 : (Jvm.Cond.code ({ cls := "NutCaches", name := "raid", desc := "(II)I" } : Jvm.MethodName) prog_1_method_24_code (3 : Nat) (Option.some Jvm.ClassFile.FieldType.int)) ∈ lw_all := lw_g (lw_at lw_m5 0 rfl) rfl
theorem q1010 : (Jvm.Cond.instanceMethod ({ cls := "NutCaches", name := "tell", desc := "(II)I" } : Jvm.MethodName)) ∈ lw_all := lw_g (lw_at lw_m5 2 rfl) rfl
theorem q1011 : (Jvm.Cond.selects "NutCaches" ({ cls := "NutCaches", name := "tell", desc := "(II)I" } : Jvm.MethodName) ({ cls := "NutCaches", name := "tell", desc := "(II)I" } : Jvm.MethodName)) ∈ lw_all := lw_g (lw_at lw_m5 3 rfl) rfl
theorem q1012 : (Jvm.Cond.code ({ cls := "NutCaches", name := "tell", desc := "(II)I" } : Jvm.MethodName) prog_1_method_25_code (3 : Nat) (Option.some Jvm.ClassFile.FieldType.int)) ∈ lw_all := lw_g (lw_at lw_m5 4 rfl) rfl
theorem q1014 : (Jvm.Cond.instanceMethod ({ cls := "NutCaches", name := "undo", desc := "()I" } : Jvm.MethodName)) ∈ lw_all := lw_g (lw_at lw_m5 6 rfl) rfl
theorem q1015 : (Jvm.Cond.selects "NutCaches" ({ cls := "NutCaches", name := "undo", desc := "()I" } : Jvm.MethodName) ({ cls := "NutCaches", name := "undo", desc := "()I" } : Jvm.MethodName)) ∈ lw_all := lw_g (lw_at lw_m5 7 rfl) rfl
theorem q1016 : (Jvm.Cond.code ({ cls := "NutCaches", name := "undo", desc := "()I" } : Jvm.MethodName) prog_1_method_26_code (1 : Nat) (Option.some Jvm.ClassFile.FieldType.int)) ∈ lw_all := lw_g (lw_at lw_m5 8 rfl) rfl
theorem q1018 : (Jvm.Cond.instanceMethod ({ cls := "NutCaches", name := "keep", desc := "(I)I" } : Jvm.MethodName)) ∈ lw_all := lw_g (lw_at lw_m5 10 rfl) rfl
theorem q1019 : (Jvm.Cond.selects "NutCaches" ({ cls := "NutCaches", name := "keep", desc := "(I)I" } : Jvm.MethodName) ({ cls := "NutCaches", name := "keep", desc := "(I)I" } : Jvm.MethodName)) ∈ lw_all := lw_g (lw_at lw_m5 11 rfl) rfl
theorem q1020 : (Jvm.Cond.code ({ cls := "NutCaches", name := "keep", desc := "(I)I" } : Jvm.MethodName) prog_1_method_27_code (2 : Nat) (Option.some Jvm.ClassFile.FieldType.int)) ∈ lw_all := lw_g (lw_at lw_m5 12 rfl) rfl
theorem q1022 : (Jvm.Cond.instanceMethod ({ cls := "NutCaches", name := "back", desc := "(I)I" } : Jvm.MethodName)) ∈ lw_all := lw_g (lw_at lw_m5 14 rfl) rfl
theorem q1023 : (Jvm.Cond.selects "NutCaches" ({ cls := "NutCaches", name := "back", desc := "(I)I" } : Jvm.MethodName) ({ cls := "NutCaches", name := "back", desc := "(I)I" } : Jvm.MethodName)) ∈ lw_all := lw_g (lw_at lw_m5 15 rfl) rfl
theorem q1024 : (Jvm.Cond.codeWith ({ cls := "NutCaches", name := "back", desc := "(I)I" } : Jvm.MethodName) prog_1_method_28_code (3 : Nat) (Option.some Jvm.ClassFile.FieldType.int) [((13 : Nat), (27 : Nat), (30 : Nat), (216 : Nat))]) ∈ lw_all := lw_g (lw_at lw_m5 16 rfl) rfl
theorem q1025 : (Jvm.Cond.classLink "NutCaches" (216 : Nat) "java/lang/NullPointerException") ∈ lw_all := lw_g (lw_at lw_m5 17 rfl) rfl
theorem q1028 : (Jvm.Cond.instanceMethod ({ cls := "NutCaches", name := "behind", desc := "(III)I" } : Jvm.MethodName)) ∈ lw_all := lw_g (lw_at lw_m5 20 rfl) rfl
theorem q1029 : (Jvm.Cond.selects "NutCaches" ({ cls := "NutCaches", name := "behind", desc := "(III)I" } : Jvm.MethodName) ({ cls := "NutCaches", name := "behind", desc := "(III)I" } : Jvm.MethodName)) ∈ lw_all := lw_g (lw_at lw_m5 21 rfl) rfl
theorem q1030 : (Jvm.Cond.code ({ cls := "NutCaches", name := "behind", desc := "(III)I" } : Jvm.MethodName) prog_1_method_29_code (4 : Nat) (Option.some Jvm.ClassFile.FieldType.int)) ∈ lw_all := lw_g (lw_at lw_m5 22 rfl) rfl
theorem q1031 : (Jvm.Cond.constantLong "NutCaches" (218 : Nat) (60 : Int64)) ∈ lw_all := lw_g (lw_at lw_m5 23 rfl) rfl
theorem q1033 : (Jvm.Cond.instanceMethod ({ cls := "NutCaches", name := "nuts", desc := "(II)I" } : Jvm.MethodName)) ∈ lw_all := lw_g (lw_at lw_m5 25 rfl) rfl
theorem q1034 : (Jvm.Cond.selects "NutCaches" ({ cls := "NutCaches", name := "nuts", desc := "(II)I" } : Jvm.MethodName) ({ cls := "NutCaches", name := "nuts", desc := "(II)I" } : Jvm.MethodName)) ∈ lw_all := lw_g (lw_at lw_m5 26 rfl) rfl
theorem q1035 : (Jvm.Cond.code ({ cls := "NutCaches", name := "nuts", desc := "(II)I" } : Jvm.MethodName) prog_1_method_30_code (3 : Nat) (Option.some Jvm.ClassFile.FieldType.int)) ∈ lw_all := lw_g (lw_at lw_m5 27 rfl) rfl
theorem q1037 : (Jvm.Cond.instanceMethod ({ cls := "NutCaches", name := "hungry", desc := "(I)I" } : Jvm.MethodName)) ∈ lw_all := lw_g (lw_at lw_m5 29 rfl) rfl
theorem q1038 : (Jvm.Cond.selects "NutCaches" ({ cls := "NutCaches", name := "hungry", desc := "(I)I" } : Jvm.MethodName) ({ cls := "NutCaches", name := "hungry", desc := "(I)I" } : Jvm.MethodName)) ∈ lw_all := lw_g (lw_at lw_m5 30 rfl) rfl
theorem q1039 : (Jvm.Cond.code ({ cls := "NutCaches", name := "hungry", desc := "(I)I" } : Jvm.MethodName) prog_1_method_31_code (3 : Nat) (Option.some Jvm.ClassFile.FieldType.int)) ∈ lw_all := lw_g (lw_at lw_m5 31 rfl) rfl
theorem q1040 : (Jvm.Cond.methodLink "NutCaches" (220 : Nat) ({ cls := "NutCaches$State", name := "pass", desc := "()V" } : Jvm.MethodName)) ∈ lw_all := lw_g (lw_at lw_m5 32 rfl) rfl
theorem q1042 : (Jvm.Cond.instanceMethod ({ cls := "NutCaches", name := "lasts", desc := "(I)I" } : Jvm.MethodName)) ∈ lw_all := lw_g (lw_at lw_m5 34 rfl) rfl
theorem q1043 : (Jvm.Cond.selects "NutCaches" ({ cls := "NutCaches", name := "lasts", desc := "(I)I" } : Jvm.MethodName) ({ cls := "NutCaches", name := "lasts", desc := "(I)I" } : Jvm.MethodName)) ∈ lw_all := lw_g (lw_at lw_m5 35 rfl) rfl
theorem q1044 : (Jvm.Cond.code ({ cls := "NutCaches", name := "lasts", desc := "(I)I" } : Jvm.MethodName) prog_1_method_32_code (3 : Nat) (Option.some Jvm.ClassFile.FieldType.int)) ∈ lw_all := lw_g (lw_at lw_m5 36 rfl) rfl
theorem q1046 : (Jvm.Cond.instanceMethod ({ cls := "NutCaches", name := "live", desc := "(I)I" } : Jvm.MethodName)) ∈ lw_all := lw_g (lw_at lw_m5 38 rfl) rfl
theorem q1047 : (Jvm.Cond.selects "NutCaches" ({ cls := "NutCaches", name := "live", desc := "(I)I" } : Jvm.MethodName) ({ cls := "NutCaches", name := "live", desc := "(I)I" } : Jvm.MethodName)) ∈ lw_all := lw_g (lw_at lw_m5 39 rfl) rfl
theorem q1048 : (Jvm.Cond.code ({ cls := "NutCaches", name := "live", desc := "(I)I" } : Jvm.MethodName) prog_1_method_33_code (2 : Nat) (Option.some Jvm.ClassFile.FieldType.int)) ∈ lw_all := lw_g (lw_at lw_m5 40 rfl) rfl
theorem q1049 : (Jvm.Cond.methodLink "NutCaches" (225 : Nat) ({ cls := "NutCaches$State", name := "alive", desc := "()I" } : Jvm.MethodName)) ∈ lw_all := lw_g (lw_at lw_m5 41 rfl) rfl
theorem q1053 : (Jvm.Cond.methodLink "NutCaches" (228 : Nat) ({ cls := "java/lang/Integer", name := "bitCount", desc := "(I)I" } : Jvm.MethodName)) ∈ lw_all := lw_g (lw_at lw_m5 45 rfl) rfl
theorem q1060 : (Jvm.Cond.instanceMethod ({ cls := "NutCaches", name := "enough", desc := "(II)I" } : Jvm.MethodName)) ∈ lw_all := lw_g (lw_at lw_m5 52 rfl) rfl
theorem q1061 : (Jvm.Cond.selects "NutCaches" ({ cls := "NutCaches", name := "enough", desc := "(II)I" } : Jvm.MethodName) ({ cls := "NutCaches", name := "enough", desc := "(II)I" } : Jvm.MethodName)) ∈ lw_all := lw_g (lw_at lw_m5 53 rfl) rfl
theorem q1062 : (Jvm.Cond.code ({ cls := "NutCaches", name := "enough", desc := "(II)I" } : Jvm.MethodName) prog_1_method_34_code (4 : Nat) (Option.some Jvm.ClassFile.FieldType.int)) ∈ lw_all := lw_g (lw_at lw_m5 54 rfl) rfl
theorem q1063 : (Jvm.Cond.constantLong "NutCaches" (233 : Nat) (20 : Int64)) ∈ lw_all := lw_g (lw_at lw_m5 55 rfl) rfl
theorem q1064 : (Jvm.Cond.methodLink "NutCaches" (235 : Nat) ({ cls := "java/lang/Math", name := "min", desc := "(II)I" } : Jvm.MethodName)) ∈ lw_all := lw_g (lw_at lw_m5 56 rfl) rfl
theorem q1066 : (Jvm.Cond.instanceMethod ({ cls := "NutCaches", name := "worst", desc := "(II)I" } : Jvm.MethodName)) ∈ lw_all := lw_g (lw_at lw_m5 58 rfl) rfl
theorem q1067 : (Jvm.Cond.selects "NutCaches" ({ cls := "NutCaches", name := "worst", desc := "(II)I" } : Jvm.MethodName) ({ cls := "NutCaches", name := "worst", desc := "(II)I" } : Jvm.MethodName)) ∈ lw_all := lw_g (lw_at lw_m5 59 rfl) rfl
theorem q1068 : (Jvm.Cond.code ({ cls := "NutCaches", name := "worst", desc := "(II)I" } : Jvm.MethodName) prog_1_method_35_code (7 : Nat) (Option.some Jvm.ClassFile.FieldType.int)) ∈ lw_all := lw_g (lw_at lw_m5 60 rfl) rfl
theorem q1069 : (Jvm.Cond.constant "NutCaches" (240 : Nat) (999999 : Int32)) ∈ lw_all := lw_g (lw_at lw_m5 61 rfl) rfl
theorem q1071 : (Jvm.Cond.instanceMethod ({ cls := "NutCaches", name := "whisper", desc := "(I)I" } : Jvm.MethodName)) ∈ lw_all := lw_g (lw_at lw_m5 63 rfl) rfl
theorem q1072 : (Jvm.Cond.selects "NutCaches" ({ cls := "NutCaches", name := "whisper", desc := "(I)I" } : Jvm.MethodName) ({ cls := "NutCaches", name := "whisper", desc := "(I)I" } : Jvm.MethodName)) ∈ lw_all := lw_g (lw_at lw_m5 64 rfl) rfl
theorem q1073 : (Jvm.Cond.code ({ cls := "NutCaches", name := "whisper", desc := "(I)I" } : Jvm.MethodName) prog_1_method_36_code (8 : Nat) (Option.some Jvm.ClassFile.FieldType.int)) ∈ lw_all := lw_g (lw_at lw_m5 65 rfl) rfl
theorem q1074 : (Jvm.Cond.methodLink "NutCaches" (241 : Nat) ({ cls := "java/lang/Math", name := "max", desc := "(II)I" } : Jvm.MethodName)) ∈ lw_all := lw_g (lw_at lw_m5 66 rfl) rfl
theorem q1076 : (Jvm.Cond.instanceMethod ({ cls := "NutCaches", name := "jay", desc := "(III)I" } : Jvm.MethodName)) ∈ lw_all := lw_g (lw_at lw_m5 68 rfl) rfl
theorem q1077 : (Jvm.Cond.selects "NutCaches" ({ cls := "NutCaches", name := "jay", desc := "(III)I" } : Jvm.MethodName) ({ cls := "NutCaches", name := "jay", desc := "(III)I" } : Jvm.MethodName)) ∈ lw_all := lw_g (lw_at lw_m5 69 rfl) rfl
theorem q1078 : (Jvm.Cond.code ({ cls := "NutCaches", name := "jay", desc := "(III)I" } : Jvm.MethodName) prog_1_method_37_code (10 : Nat) (Option.some Jvm.ClassFile.FieldType.int)) ∈ lw_all := lw_g (lw_at lw_m5 70 rfl) rfl
theorem q1079 : (Jvm.Cond.constantLong "NutCaches" (244 : Nat) (10 : Int64)) ∈ lw_all := lw_g (lw_at lw_m5 71 rfl) rfl
theorem q1080 : (Jvm.Cond.methodLink "NutCaches" (246 : Nat) ({ cls := "NutCaches$State", name := "stored", desc := "()I" } : Jvm.MethodName)) ∈ lw_all := lw_g (lw_at lw_m5 72 rfl) rfl
theorem q1084 : (Jvm.Cond.methodLink "NutCaches" (100 : Nat) ({ cls := "NutCaches", name := "gcd", desc := "(II)I" } : Jvm.MethodName)) ∈ lw_all := lw_g (lw_at lw_m5 76 rfl) rfl
theorem q1085 : (Jvm.Cond.static ({ cls := "NutCaches", name := "gcd", desc := "(II)I" } : Jvm.MethodName)) ∈ lw_all := lw_g (lw_at lw_m5 77 rfl) rfl
theorem q1086 : (Jvm.Cond.code ({ cls := "NutCaches", name := "gcd", desc := "(II)I" } : Jvm.MethodName) prog_1_method_9_code (2 : Nat) (Option.some Jvm.ClassFile.FieldType.int)) ∈ lw_all := lw_g (lw_at lw_m5 78 rfl) rfl
theorem q1088 : (Jvm.Cond.instanceMethod ({ cls := "NutCaches", name := "seen", desc := "(IIII)I" } : Jvm.MethodName)) ∈ lw_all := lw_g (lw_at lw_m5 80 rfl) rfl
theorem q1089 : (Jvm.Cond.selects "NutCaches" ({ cls := "NutCaches", name := "seen", desc := "(IIII)I" } : Jvm.MethodName) ({ cls := "NutCaches", name := "seen", desc := "(IIII)I" } : Jvm.MethodName)) ∈ lw_all := lw_g (lw_at lw_m5 81 rfl) rfl
theorem q1090 : (Jvm.Cond.code ({ cls := "NutCaches", name := "seen", desc := "(IIII)I" } : Jvm.MethodName) prog_1_method_38_code (5 : Nat) (Option.some Jvm.ClassFile.FieldType.int)) ∈ lw_all := lw_g (lw_at lw_m5 82 rfl) rfl
theorem q1091 : (Jvm.Cond.constantLong "NutCaches" (249 : Nat) (9 : Int64)) ∈ lw_all := lw_g (lw_at lw_m5 83 rfl) rfl
theorem q1092 : (Jvm.Cond.constantLong "NutCaches" (251 : Nat) (19 : Int64)) ∈ lw_all := lw_g (lw_at lw_m5 84 rfl) rfl
theorem q1093 : (Jvm.Cond.constantLong "NutCaches" (253 : Nat) (3 : Int64)) ∈ lw_all := lw_g (lw_at lw_m5 85 rfl) rfl
theorem q1095 : (Jvm.Cond.instanceMethod ({ cls := "NutCaches", name := "forget", desc := "()I" } : Jvm.MethodName)) ∈ lw_all := lw_g (lw_at lw_m5 87 rfl) rfl
theorem q1096 : (Jvm.Cond.selects "NutCaches" ({ cls := "NutCaches", name := "forget", desc := "()I" } : Jvm.MethodName) ({ cls := "NutCaches", name := "forget", desc := "()I" } : Jvm.MethodName)) ∈ lw_all := lw_g (lw_at lw_m5 88 rfl) rfl
theorem q1097 : (Jvm.Cond.code ({ cls := "NutCaches", name := "forget", desc := "()I" } : Jvm.MethodName) prog_1_method_39_code (2 : Nat) (Option.some Jvm.ClassFile.FieldType.int)) ∈ lw_all := lw_g (lw_at lw_m5 89 rfl) rfl
theorem q1099 : (Jvm.Cond.instanceMethod ({ cls := "NutCaches", name := "kinds", desc := "()I" } : Jvm.MethodName)) ∈ lw_all := lw_g (lw_at lw_m5 91 rfl) rfl
theorem q1100 : (Jvm.Cond.selects "NutCaches" ({ cls := "NutCaches", name := "kinds", desc := "()I" } : Jvm.MethodName) ({ cls := "NutCaches", name := "kinds", desc := "()I" } : Jvm.MethodName)) ∈ lw_all := lw_g (lw_at lw_m5 92 rfl) rfl
theorem q1101 : (Jvm.Cond.code ({ cls := "NutCaches", name := "kinds", desc := "()I" } : Jvm.MethodName) prog_1_method_42_code (1 : Nat) (Option.some Jvm.ClassFile.FieldType.int)) ∈ lw_all := lw_g (lw_at lw_m5 93 rfl) rfl
theorem q1102 : (Jvm.Cond.methodLink "NutCaches" (266 : Nat) ({ cls := "NutCaches", name := "kindsSeen", desc := "()I" } : Jvm.MethodName)) ∈ lw_all := lw_g (lw_at lw_m5 94 rfl) rfl
theorem q1103 : (Jvm.Cond.privateMethod ({ cls := "NutCaches", name := "kindsSeen", desc := "()I" } : Jvm.MethodName)) ∈ lw_tbl := lw_at lw_m5 95 rfl
theorem q1104 : (Jvm.Cond.instanceMethod ({ cls := "NutCaches", name := "kindsSeen", desc := "()I" } : Jvm.MethodName)) ∈ lw_all := lw_g (lw_at lw_m5 96 rfl) rfl
theorem q1105 : (Jvm.Cond.code ({ cls := "NutCaches", name := "kindsSeen", desc := "()I" } : Jvm.MethodName) prog_1_method_41_code (5 : Nat) (Option.some Jvm.ClassFile.FieldType.int)) ∈ lw_all := lw_g (lw_at lw_m5 97 rfl) rfl
theorem q1106 : (Jvm.Cond.methodLink "NutCaches" (262 : Nat) ({ cls := "NutCaches", name := "does", desc := "(III)I" } : Jvm.MethodName)) ∈ lw_all := lw_g (lw_at lw_m5 98 rfl) rfl
theorem q1107 : (Jvm.Cond.static ({ cls := "NutCaches", name := "does", desc := "(III)I" } : Jvm.MethodName)) ∈ lw_all := lw_g (lw_at lw_m5 99 rfl) rfl
theorem q1108 : (Jvm.Cond.code ({ cls := "NutCaches", name := "does", desc := "(III)I" } : Jvm.MethodName) prog_1_method_40_code (8 : Nat) (Option.some Jvm.ClassFile.FieldType.int)) ∈ lw_all := lw_g (lw_at lw_m5 100 rfl) rfl
theorem q1110 : (Jvm.Cond.instanceMethod ({ cls := "NutCaches", name := "ask", desc := "()I" } : Jvm.MethodName)) ∈ lw_all := lw_g (lw_at lw_m5 102 rfl) rfl
theorem q1111 : (Jvm.Cond.selects "NutCaches" ({ cls := "NutCaches", name := "ask", desc := "()I" } : Jvm.MethodName) ({ cls := "NutCaches", name := "ask", desc := "()I" } : Jvm.MethodName)) ∈ lw_all := lw_g (lw_at lw_m5 103 rfl) rfl
theorem q1112 : (Jvm.Cond.code ({ cls := "NutCaches", name := "ask", desc := "()I" } : Jvm.MethodName) prog_1_method_43_code (10 : Nat) (Option.some Jvm.ClassFile.FieldType.int)) ∈ lw_all := lw_g (lw_at lw_m5 104 rfl) rfl
theorem q1114 : (Jvm.Cond.instanceMethod ({ cls := "NutCaches", name := "trail", desc := "(I)I" } : Jvm.MethodName)) ∈ lw_all := lw_g (lw_at lw_m5 106 rfl) rfl
theorem q1115 : (Jvm.Cond.selects "NutCaches" ({ cls := "NutCaches", name := "trail", desc := "(I)I" } : Jvm.MethodName) ({ cls := "NutCaches", name := "trail", desc := "(I)I" } : Jvm.MethodName)) ∈ lw_all := lw_g (lw_at lw_m5 107 rfl) rfl
theorem q1116 : (Jvm.Cond.code ({ cls := "NutCaches", name := "trail", desc := "(I)I" } : Jvm.MethodName) prog_1_method_46_code (2 : Nat) (Option.some Jvm.ClassFile.FieldType.int)) ∈ lw_all := lw_g (lw_at lw_m5 108 rfl) rfl
theorem q1117 : (Jvm.Cond.methodLink "NutCaches" (275 : Nat) ({ cls := "NutCaches", name := "isTrail", desc := "(I)Z" } : Jvm.MethodName)) ∈ lw_all := lw_g (lw_at lw_m5 109 rfl) rfl
theorem q1118 : (Jvm.Cond.static ({ cls := "NutCaches", name := "isTrail", desc := "(I)Z" } : Jvm.MethodName)) ∈ lw_all := lw_g (lw_at lw_m5 110 rfl) rfl
theorem q1119 : (Jvm.Cond.code ({ cls := "NutCaches", name := "isTrail", desc := "(I)Z" } : Jvm.MethodName) prog_1_method_44_code (1 : Nat) (Option.some Jvm.ClassFile.FieldType.boolean)) ∈ lw_all := lw_g (lw_at lw_m5 111 rfl) rfl
theorem q1120 : (Jvm.Cond.constantLong "NutCaches" (269 : Nat) (2 : Int64)) ∈ lw_all := lw_g (lw_at lw_m5 112 rfl) rfl
theorem q1122 : (Jvm.Cond.methodLinkNest "NutCaches" (278 : Nat) ({ cls := "NutCaches$Trail", name := "<init>", desc := "()V" } : Jvm.MethodName) "NutCaches") ∈ lw_tbl := lw_at lw_m5 114 rfl
theorem q1257 : (Jvm.Cond.instanceMethod ({ cls := "NutCaches", name := "step", desc := "(III)I" } : Jvm.MethodName)) ∈ lw_all := lw_g (lw_at lw_m6 9 rfl) rfl
theorem q1258 : (Jvm.Cond.selects "NutCaches" ({ cls := "NutCaches", name := "step", desc := "(III)I" } : Jvm.MethodName) ({ cls := "NutCaches", name := "step", desc := "(III)I" } : Jvm.MethodName)) ∈ lw_all := lw_g (lw_at lw_m6 10 rfl) rfl
theorem q1259 : (Jvm.Cond.codeWith ({ cls := "NutCaches", name := "step", desc := "(III)I" } : Jvm.MethodName) prog_1_method_48_code (5 : Nat) (Option.some Jvm.ClassFile.FieldType.int) [((35 : Nat), (63 : Nat), (64 : Nat), (216 : Nat)), ((35 : Nat), (63 : Nat), (64 : Nat), (271 : Nat)), ((35 : Nat), (63 : Nat), (64 : Nat), (197 : Nat))]) ∈ lw_all := lw_g (lw_at lw_m6 11 rfl) rfl
theorem q1260 : (Jvm.Cond.classLink "NutCaches" (271 : Nat) "java/util/NoSuchElementException") ∈ lw_all := lw_g (lw_at lw_m6 12 rfl) rfl
theorem q1261 : (Jvm.Cond.methodLink "NutCaches" (292 : Nat) ({ cls := "NutCaches$Trail", name := "ahead", desc := "(I)Ljava/lang/Object;" } : Jvm.MethodName)) ∈ lw_all := lw_g (lw_at lw_m6 13 rfl) rfl
theorem q1361 : (Jvm.Cond.methodLink "NutCaches" (296 : Nat) ({ cls := "NutCaches", name := "taken", desc := "(Ljava/lang/Object;I)I" } : Jvm.MethodName)) ∈ lw_all := lw_g (lw_at lw_m6 113 rfl) rfl
theorem q1362 : (Jvm.Cond.static ({ cls := "NutCaches", name := "taken", desc := "(Ljava/lang/Object;I)I" } : Jvm.MethodName)) ∈ lw_all := lw_g (lw_at lw_m6 114 rfl) rfl
theorem q1363 : (Jvm.Cond.code ({ cls := "NutCaches", name := "taken", desc := "(Ljava/lang/Object;I)I" } : Jvm.MethodName) prog_1_method_47_code (2 : Nat) (Option.some Jvm.ClassFile.FieldType.int)) ∈ lw_all := lw_g (lw_at lw_m6 115 rfl) rfl
theorem q1364 : (Jvm.Cond.classLink "NutCaches" (229 : Nat) "java/lang/Integer") ∈ lw_all := lw_g (lw_at lw_m6 116 rfl) rfl
theorem q1365 : (Jvm.Cond.methodLink "NutCaches" (279 : Nat) ({ cls := "java/lang/Integer", name := "intValue", desc := "()I" } : Jvm.MethodName)) ∈ lw_all := lw_g (lw_at lw_m6 117 rfl) rfl
theorem q1366 : (Jvm.Cond.constant "NutCaches" (282 : Nat) (50000 : Int32)) ∈ lw_all := lw_g (lw_at lw_m6 118 rfl) rfl
theorem q1367 : (Jvm.Cond.classLink "NutCaches" (286 : Nat) "java/lang/Byte") ∈ lw_all := lw_g (lw_at lw_m6 119 rfl) rfl
theorem q1368 : (Jvm.Cond.methodLink "NutCaches" (288 : Nat) ({ cls := "java/lang/Byte", name := "byteValue", desc := "()B" } : Jvm.MethodName)) ∈ lw_all := lw_g (lw_at lw_m6 120 rfl) rfl
theorem q1372 : (Jvm.Cond.methodLink "NutCaches" (300 : Nat) ({ cls := "NutCaches$Trail", name := "step", desc := "(I)V" } : Jvm.MethodName)) ∈ lw_all := lw_g (lw_at lw_m6 124 rfl) rfl
theorem q1422 : (Jvm.Cond.selects "NutCaches" ({ cls := "java/lang/Object", name := "getClass", desc := "()Ljava/lang/Class;" } : Jvm.MethodName) ({ cls := "java/lang/Object", name := "getClass", desc := "()Ljava/lang/Class;" } : Jvm.MethodName)) ∈ lw_all := lw_g (lw_at lw_m6 174 rfl) rfl
theorem q1549 : (Jvm.Cond.methodLink "NutCaches" (304 : Nat) ({ cls := "NutCaches", name := "found", desc := "(Ljava/lang/RuntimeException;)I" } : Jvm.MethodName)) ∈ lw_all := lw_g (lw_at lw_m7 61 rfl) rfl
theorem q1550 : (Jvm.Cond.static ({ cls := "NutCaches", name := "found", desc := "(Ljava/lang/RuntimeException;)I" } : Jvm.MethodName)) ∈ lw_all := lw_g (lw_at lw_m7 62 rfl) rfl
theorem q1551 : (Jvm.Cond.code ({ cls := "NutCaches", name := "found", desc := "(Ljava/lang/RuntimeException;)I" } : Jvm.MethodName) prog_1_method_45_code (1 : Nat) (Option.some Jvm.ClassFile.FieldType.int)) ∈ lw_all := lw_g (lw_at lw_m7 63 rfl) rfl
theorem q1552 : (Jvm.Cond.classLink "NutCaches" (273 : Nat) "java/lang/IllegalStateException") ∈ lw_all := lw_g (lw_at lw_m7 64 rfl) rfl
theorem q1554 : (Jvm.Cond.instanceMethod ({ cls := "NutCaches", name := "add", desc := "(III)I" } : Jvm.MethodName)) ∈ lw_all := lw_g (lw_at lw_m7 66 rfl) rfl
theorem q1555 : (Jvm.Cond.selects "NutCaches" ({ cls := "NutCaches", name := "add", desc := "(III)I" } : Jvm.MethodName) ({ cls := "NutCaches", name := "add", desc := "(III)I" } : Jvm.MethodName)) ∈ lw_all := lw_g (lw_at lw_m7 67 rfl) rfl
theorem q1556 : (Jvm.Cond.codeWith ({ cls := "NutCaches", name := "add", desc := "(III)I" } : Jvm.MethodName) prog_1_method_51_code (6 : Nat) (Option.some Jvm.ClassFile.FieldType.int) [((17 : Nat), (32 : Nat), (33 : Nat), (216 : Nat))]) ∈ lw_all := lw_g (lw_at lw_m7 68 rfl) rfl
theorem q1557 : (Jvm.Cond.methodLink "NutCaches" (319 : Nat) ({ cls := "NutCaches", name := "whyNot", desc := "(III)I" } : Jvm.MethodName)) ∈ lw_all := lw_g (lw_at lw_m7 69 rfl) rfl
theorem q1558 : (Jvm.Cond.privateMethod ({ cls := "NutCaches", name := "whyNot", desc := "(III)I" } : Jvm.MethodName)) ∈ lw_tbl := lw_at lw_m7 70 rfl
theorem q1559 : (Jvm.Cond.instanceMethod ({ cls := "NutCaches", name := "whyNot", desc := "(III)I" } : Jvm.MethodName)) ∈ lw_all := lw_g (lw_at lw_m7 71 rfl) rfl
theorem q1560 : (Jvm.Cond.code ({ cls := "NutCaches", name := "whyNot", desc := "(III)I" } : Jvm.MethodName) prog_1_method_49_code (5 : Nat) (Option.some Jvm.ClassFile.FieldType.int)) ∈ lw_all := lw_g (lw_at lw_m7 72 rfl) rfl
theorem q1561 : (Jvm.Cond.constantLong "NutCaches" (308 : Nat) (-9999 : Int64)) ∈ lw_all := lw_g (lw_at lw_m7 73 rfl) rfl
theorem q1562 : (Jvm.Cond.constantLong "NutCaches" (310 : Nat) (9999 : Int64)) ∈ lw_all := lw_g (lw_at lw_m7 74 rfl) rfl
theorem q1563 : (Jvm.Cond.methodLink "NutCaches" (322 : Nat) ({ cls := "NutCaches", name := "made", desc := "(II)Ljava/lang/Object;" } : Jvm.MethodName)) ∈ lw_all := lw_g (lw_at lw_m7 75 rfl) rfl
theorem q1564 : (Jvm.Cond.privateMethod ({ cls := "NutCaches", name := "made", desc := "(II)Ljava/lang/Object;" } : Jvm.MethodName)) ∈ lw_tbl := lw_at lw_m7 76 rfl
theorem q1565 : (Jvm.Cond.instanceMethod ({ cls := "NutCaches", name := "made", desc := "(II)Ljava/lang/Object;" } : Jvm.MethodName)) ∈ lw_all := lw_g (lw_at lw_m7 77 rfl) rfl
theorem q1566 : (Jvm.Cond.code ({ cls := "NutCaches", name := "made", desc := "(II)Ljava/lang/Object;" } : Jvm.MethodName) prog_1_method_50_code (3 : Nat) (Option.some (Jvm.ClassFile.FieldType.object "java/lang/Object"))) ∈ lw_all := lw_g (lw_at lw_m7 78 rfl) rfl
theorem q1567 : (Jvm.Cond.methodLink "NutCaches" (312 : Nat) ({ cls := "java/lang/Integer", name := "valueOf", desc := "(I)Ljava/lang/Integer;" } : Jvm.MethodName)) ∈ lw_all := lw_g (lw_at lw_m7 79 rfl) rfl
theorem q1586 : (Jvm.Cond.methodLink "NutCaches" (316 : Nat) ({ cls := "java/lang/Byte", name := "valueOf", desc := "(B)Ljava/lang/Byte;" } : Jvm.MethodName)) ∈ lw_all := lw_g (lw_at lw_m7 98 rfl) rfl
theorem q1591 : (Jvm.Cond.methodLink "NutCaches" (326 : Nat) ({ cls := "NutCaches$Trail", name := "add", desc := "(Ljava/lang/Object;)I" } : Jvm.MethodName)) ∈ lw_all := lw_g (lw_at lw_m7 103 rfl) rfl
theorem q1671 : (Jvm.Cond.instanceMethod ({ cls := "NutCaches", name := "set", desc := "(III)I" } : Jvm.MethodName)) ∈ lw_all := lw_g (lw_at lw_m7 183 rfl) rfl
theorem q1672 : (Jvm.Cond.selects "NutCaches" ({ cls := "NutCaches", name := "set", desc := "(III)I" } : Jvm.MethodName) ({ cls := "NutCaches", name := "set", desc := "(III)I" } : Jvm.MethodName)) ∈ lw_all := lw_g (lw_at lw_m7 184 rfl) rfl
theorem q1673 : (Jvm.Cond.codeWith ({ cls := "NutCaches", name := "set", desc := "(III)I" } : Jvm.MethodName) prog_1_method_52_code (6 : Nat) (Option.some Jvm.ClassFile.FieldType.int) [((17 : Nat), (32 : Nat), (33 : Nat), (216 : Nat)), ((17 : Nat), (32 : Nat), (33 : Nat), (273 : Nat))]) ∈ lw_all := lw_g (lw_at lw_m7 185 rfl) rfl
theorem q1674 : (Jvm.Cond.methodLink "NutCaches" (330 : Nat) ({ cls := "NutCaches$Trail", name := "set", desc := "(Ljava/lang/Object;)I" } : Jvm.MethodName)) ∈ lw_all := lw_g (lw_at lw_m7 186 rfl) rfl
theorem q1721 : (Jvm.Cond.instanceMethod ({ cls := "NutCaches", name := "cut", desc := "(I)I" } : Jvm.MethodName)) ∈ lw_all := lw_g (lw_at lw_m7 233 rfl) rfl
theorem q1722 : (Jvm.Cond.selects "NutCaches" ({ cls := "NutCaches", name := "cut", desc := "(I)I" } : Jvm.MethodName) ({ cls := "NutCaches", name := "cut", desc := "(I)I" } : Jvm.MethodName)) ∈ lw_all := lw_g (lw_at lw_m7 234 rfl) rfl
theorem q1723 : (Jvm.Cond.codeWith ({ cls := "NutCaches", name := "cut", desc := "(I)I" } : Jvm.MethodName) prog_1_method_53_code (3 : Nat) (Option.some Jvm.ClassFile.FieldType.int) [((10 : Nat), (19 : Nat), (20 : Nat), (216 : Nat)), ((10 : Nat), (19 : Nat), (20 : Nat), (273 : Nat))]) ∈ lw_all := lw_g (lw_at lw_m7 235 rfl) rfl
theorem q1724 : (Jvm.Cond.methodLink "NutCaches" (332 : Nat) ({ cls := "NutCaches$Trail", name := "cut", desc := "()I" } : Jvm.MethodName)) ∈ lw_all := lw_g (lw_at lw_m7 236 rfl) rfl
theorem q1764 : (Jvm.Cond.instanceMethod ({ cls := "NutCaches", name := "rewind", desc := "(I)I" } : Jvm.MethodName)) ∈ lw_all := lw_g (lw_at lw_m8 36 rfl) rfl
theorem q1765 : (Jvm.Cond.selects "NutCaches" ({ cls := "NutCaches", name := "rewind", desc := "(I)I" } : Jvm.MethodName) ({ cls := "NutCaches", name := "rewind", desc := "(I)I" } : Jvm.MethodName)) ∈ lw_all := lw_g (lw_at lw_m8 37 rfl) rfl
theorem q1766 : (Jvm.Cond.codeWith ({ cls := "NutCaches", name := "rewind", desc := "(I)I" } : Jvm.MethodName) prog_1_method_54_code (3 : Nat) (Option.some Jvm.ClassFile.FieldType.int) [((10 : Nat), (19 : Nat), (20 : Nat), (216 : Nat))]) ∈ lw_all := lw_g (lw_at lw_m8 38 rfl) rfl
theorem q1767 : (Jvm.Cond.methodLink "NutCaches" (335 : Nat) ({ cls := "NutCaches$Trail", name := "rewind", desc := "()I" } : Jvm.MethodName)) ∈ lw_all := lw_g (lw_at lw_m8 39 rfl) rfl
theorem q1772 : (Jvm.Cond.instanceMethod ({ cls := "NutCaches", name := "drop", desc := "(I)I" } : Jvm.MethodName)) ∈ lw_all := lw_g (lw_at lw_m8 44 rfl) rfl
theorem q1773 : (Jvm.Cond.selects "NutCaches" ({ cls := "NutCaches", name := "drop", desc := "(I)I" } : Jvm.MethodName) ({ cls := "NutCaches", name := "drop", desc := "(I)I" } : Jvm.MethodName)) ∈ lw_all := lw_g (lw_at lw_m8 45 rfl) rfl
theorem q1774 : (Jvm.Cond.codeWith ({ cls := "NutCaches", name := "drop", desc := "(I)I" } : Jvm.MethodName) prog_1_method_55_code (5 : Nat) (Option.some Jvm.ClassFile.FieldType.int) [((10 : Nat), (20 : Nat), (29 : Nat), (216 : Nat)), ((10 : Nat), (20 : Nat), (44 : Nat), (0 : Nat)), ((29 : Nat), (35 : Nat), (44 : Nat), (0 : Nat)), ((44 : Nat), (46 : Nat), (44 : Nat), (0 : Nat))]) ∈ lw_all := lw_g (lw_at lw_m8 46 rfl) rfl
theorem q1775 : (Jvm.Cond.methodLink "NutCaches" (338 : Nat) ({ cls := "NutCaches$Trail", name := "many", desc := "()I" } : Jvm.MethodName)) ∈ lw_all := lw_g (lw_at lw_m8 47 rfl) rfl
theorem q1777 : (Jvm.Cond.instanceMethod ({ cls := "NutCaches", name := "count", desc := "(I)I" } : Jvm.MethodName)) ∈ lw_all := lw_g (lw_at lw_m8 49 rfl) rfl
theorem q1778 : (Jvm.Cond.selects "NutCaches" ({ cls := "NutCaches", name := "count", desc := "(I)I" } : Jvm.MethodName) ({ cls := "NutCaches", name := "count", desc := "(I)I" } : Jvm.MethodName)) ∈ lw_all := lw_g (lw_at lw_m8 50 rfl) rfl
theorem q1779 : (Jvm.Cond.code ({ cls := "NutCaches", name := "count", desc := "(I)I" } : Jvm.MethodName) prog_1_method_58_code (2 : Nat) (Option.some Jvm.ClassFile.FieldType.int)) ∈ lw_all := lw_g (lw_at lw_m8 51 rfl) rfl
theorem q1780 : (Jvm.Cond.methodLink "NutCaches" (340 : Nat) ({ cls := "NutCaches", name := "nutsOfAll", desc := "()I" } : Jvm.MethodName)) ∈ lw_all := lw_g (lw_at lw_m8 52 rfl) rfl
theorem q1781 : (Jvm.Cond.privateMethod ({ cls := "NutCaches", name := "nutsOfAll", desc := "()I" } : Jvm.MethodName)) ∈ lw_tbl := lw_at lw_m8 53 rfl
theorem q1782 : (Jvm.Cond.instanceMethod ({ cls := "NutCaches", name := "nutsOfAll", desc := "()I" } : Jvm.MethodName)) ∈ lw_all := lw_g (lw_at lw_m8 54 rfl) rfl
theorem q1783 : (Jvm.Cond.code ({ cls := "NutCaches", name := "nutsOfAll", desc := "()I" } : Jvm.MethodName) prog_1_method_57_code (3 : Nat) (Option.some Jvm.ClassFile.FieldType.int)) ∈ lw_all := lw_g (lw_at lw_m8 55 rfl) rfl
theorem q1784 : (Jvm.Cond.methodLink "NutCaches" (343 : Nat) ({ cls := "NutCaches", name := "things", desc := "()I" } : Jvm.MethodName)) ∈ lw_all := lw_g (lw_at lw_m8 56 rfl) rfl
theorem q1785 : (Jvm.Cond.privateMethod ({ cls := "NutCaches", name := "things", desc := "()I" } : Jvm.MethodName)) ∈ lw_tbl := lw_at lw_m8 57 rfl
theorem q1786 : (Jvm.Cond.instanceMethod ({ cls := "NutCaches", name := "things", desc := "()I" } : Jvm.MethodName)) ∈ lw_all := lw_g (lw_at lw_m8 58 rfl) rfl
theorem q1787 : (Jvm.Cond.code ({ cls := "NutCaches", name := "things", desc := "()I" } : Jvm.MethodName) prog_1_method_56_code (6 : Nat) (Option.some Jvm.ClassFile.FieldType.int)) ∈ lw_all := lw_g (lw_at lw_m8 59 rfl) rfl
theorem q2207 : (Jvm.Cond.castable "NutCaches" "java/lang/Object") ∈ lw_tbl := lw_at lw_m9 239 rfl
theorem q2243 : (Jvm.Cond.stringRef "NutCaches" (348 : Nat) "plain") ∈ lw_tbl := lw_at lw_m10 35 rfl
theorem q2244 : (Jvm.Cond.stringRef "NutCaches" (350 : Nat) "greedy") ∈ lw_tbl := lw_at lw_m10 36 rfl
theorem q2245 : (Jvm.Cond.stringRef "NutCaches" (352 : Nat) "neat") ∈ lw_tbl := lw_at lw_m10 37 rfl
theorem q2246 : (Jvm.Cond.stringRef "NutCaches" (354 : Nat) "dozy") ∈ lw_tbl := lw_at lw_m10 38 rfl
theorem q2247 : (Jvm.Cond.stringRef "NutCaches" (356 : Nat) "spy") ∈ lw_tbl := lw_at lw_m10 39 rfl
theorem q2248 : (Jvm.Cond.stringRef "NutCaches" (358 : Nat) "hedge") ∈ lw_tbl := lw_at lw_m10 40 rfl
theorem q2249 : (Jvm.Cond.stringRef "NutCaches" (360 : Nat) "pit") ∈ lw_tbl := lw_at lw_m10 41 rfl
theorem q2250 : (Jvm.Cond.stringRef "NutCaches" (362 : Nat) "knows") ∈ lw_tbl := lw_at lw_m10 42 rfl
theorem in_X0 : ∀ w ∈ wsX00, w ∈ lw_all := lw_in wsX00 [188, 190, 192, 194, 196, 198, 200, 202, 204, 206, 208, 210, 212] (by decide +kernel) (by decide +kernel)
/-! NutCaches$State -/
set_option maxRecDepth 100000
def RX1 : String := "NutCaches$State"
def TX1 : u_T := fun k => match k with
  | 0 => ("NutCaches$State", "place", "[B", true)
  | 1 => ("NutCaches$State", "nuts", "[B", true)
  | 2 => ("NutCaches$State", "pits", "I", false)
  | 3 => ("NutCaches$State", "at", "[B", true)
  | 4 => ("NutCaches$State", "lean", "[B", true)
  | 5 => ("NutCaches$State", "knows", "[S", true)
  | 6 => ("NutCaches$State", "day", "I", false)
  | 7 => ("NutCaches$State", "hungry", "I", false)
  | _ => ("NutCaches$State", "this$0", "LNutCaches;", true)
def tyX1 : Nat → FieldType := fun k => match k with
  | 0 => .array .byte
  | 1 => .array .byte
  | 2 => .int
  | 3 => .array .byte
  | 4 => .array .byte
  | 5 => .array .short
  | 6 => .int
  | 7 => .int
  | _ => .object "NutCaches"
abbrev wsX10 : List Cond := u_ws RX1 TX1 9
theorem nmX1 : ∀ a, a < 9 → ∀ b, b < 9 → a ≠ b → (TX1 a).2.1 ≠ (TX1 b).2.1 := by decide +kernel
theorem tyX1_ok : ∀ k, k < 9 → parseFieldDescriptor (TX1 k).2.2.1 = some (tyX1 k) := by decide +kernel
abbrev cX1_init : ByteArray := prog_11_method_1_code
def yX1_init : MethodName := ⟨RX1, "<init>", "(LNutCaches;)V"⟩
def dkwX1_init_2 : List UInt8 := [177]
abbrev dktX1_init_2 : List UInt8 := dkwX1_init_2 ++ []
def dkwX1_init_1 : List UInt8 := [181, 0, 19, 42, 8, 188, 8, 181, 0, 22, 42, 8, 188, 8, 181, 0, 25, 42, 8, 188, 9, 181, 0, 28]
abbrev dktX1_init_1 : List UInt8 := dkwX1_init_1 ++ dktX1_init_2
def dkwX1_init_0 : List UInt8 := [42, 43, 181, 0, 3, 42, 183, 0, 9, 42, 16, 9, 188, 8, 181, 0, 15, 42, 16, 9, 188, 8]
abbrev dktX1_init_0 : List UInt8 := dkwX1_init_0 ++ dktX1_init_1
theorem dksX1_init_0 : cX1_init.data.toList.drop 0 = dktX1_init_0 := by decide +kernel
theorem dksX1_init_1 : cX1_init.data.toList.drop 22 = dktX1_init_1 := dk_seg dksX1_init_0 22 rfl rfl
theorem dksX1_init_2 : cX1_init.data.toList.drop 46 = dktX1_init_2 := dk_seg dksX1_init_1 24 rfl rfl
theorem dX1_init_0 : decode cX1_init 0 = .ok (.aload_n 0, 1) := dk_42 (dk_at dksX1_init_0 0 rfl rfl)
theorem dX1_init_1 : decode cX1_init 1 = .ok (.aload_n 1, 1) := dk_43 (dk_at dksX1_init_0 1 rfl rfl)
theorem dX1_init_2 : decode cX1_init 2 = .ok (.putfield 3, 3) := dk_181 0 3 (dk_at dksX1_init_0 2 rfl rfl)
theorem dX1_init_5 : decode cX1_init 5 = .ok (.aload_n 0, 1) := dk_42 (dk_at dksX1_init_0 5 rfl rfl)
theorem dX1_init_6 : decode cX1_init 6 = .ok (.invokespecial 9, 3) := dk_183 0 9 (dk_at dksX1_init_0 6 rfl rfl)
theorem dX1_init_9 : decode cX1_init 9 = .ok (.aload_n 0, 1) := dk_42 (dk_at dksX1_init_0 9 rfl rfl)
theorem dX1_init_10 : decode cX1_init 10 = .ok (.bipush 9, 2) := dk_16 9 (dk_at dksX1_init_0 10 rfl rfl)
theorem dX1_init_12 : decode cX1_init 12 = .ok (.newarray .byte, 2) := dk_188_8 (dk_at dksX1_init_0 12 rfl rfl)
theorem dX1_init_14 : decode cX1_init 14 = .ok (.putfield 15, 3) := dk_181 0 15 (dk_at dksX1_init_0 14 rfl rfl)
theorem dX1_init_17 : decode cX1_init 17 = .ok (.aload_n 0, 1) := dk_42 (dk_at dksX1_init_0 17 rfl rfl)
theorem dX1_init_18 : decode cX1_init 18 = .ok (.bipush 9, 2) := dk_16 9 (dk_at dksX1_init_0 18 rfl rfl)
theorem dX1_init_20 : decode cX1_init 20 = .ok (.newarray .byte, 2) := dk_188_8 (dk_at dksX1_init_0 20 rfl rfl)
theorem dX1_init_22 : decode cX1_init 22 = .ok (.putfield 19, 3) := dk_181 0 19 (dk_at dksX1_init_1 0 rfl rfl)
theorem dX1_init_25 : decode cX1_init 25 = .ok (.aload_n 0, 1) := dk_42 (dk_at dksX1_init_1 3 rfl rfl)
theorem dX1_init_26 : decode cX1_init 26 = .ok (.iconst 5, 1) := dk_8 (dk_at dksX1_init_1 4 rfl rfl)
theorem dX1_init_27 : decode cX1_init 27 = .ok (.newarray .byte, 2) := dk_188_8 (dk_at dksX1_init_1 5 rfl rfl)
theorem dX1_init_29 : decode cX1_init 29 = .ok (.putfield 22, 3) := dk_181 0 22 (dk_at dksX1_init_1 7 rfl rfl)
theorem dX1_init_32 : decode cX1_init 32 = .ok (.aload_n 0, 1) := dk_42 (dk_at dksX1_init_1 10 rfl rfl)
theorem dX1_init_33 : decode cX1_init 33 = .ok (.iconst 5, 1) := dk_8 (dk_at dksX1_init_1 11 rfl rfl)
theorem dX1_init_34 : decode cX1_init 34 = .ok (.newarray .byte, 2) := dk_188_8 (dk_at dksX1_init_1 12 rfl rfl)
theorem dX1_init_36 : decode cX1_init 36 = .ok (.putfield 25, 3) := dk_181 0 25 (dk_at dksX1_init_1 14 rfl rfl)
theorem dX1_init_39 : decode cX1_init 39 = .ok (.aload_n 0, 1) := dk_42 (dk_at dksX1_init_1 17 rfl rfl)
theorem dX1_init_40 : decode cX1_init 40 = .ok (.iconst 5, 1) := dk_8 (dk_at dksX1_init_1 18 rfl rfl)
theorem dX1_init_41 : decode cX1_init 41 = .ok (.newarray .short, 2) := dk_188_9 (dk_at dksX1_init_1 19 rfl rfl)
theorem dX1_init_43 : decode cX1_init 43 = .ok (.putfield 28, 3) := dk_181 0 28 (dk_at dksX1_init_1 21 rfl rfl)
theorem dX1_init_46 : decode cX1_init 46 = .ok (.return_, 1) := dk_177 (dk_at dksX1_init_2 0 rfl rfl)
abbrev cX1_set : ByteArray := prog_11_method_2_code
def yX1_set : MethodName := ⟨RX1, "set", "(LNutCaches$State;)LNutCaches$State;"⟩
def dkwX1_set_3 : List UInt8 := [180, 0, 28, 3, 8, 184, 0, 32, 42, 43, 180, 0, 42, 181, 0, 42, 42, 176]
abbrev dktX1_set_3 : List UInt8 := dkwX1_set_3 ++ []
def dkwX1_set_2 : List UInt8 := [8, 184, 0, 32, 43, 180, 0, 25, 3, 42, 180, 0, 25, 3, 8, 184, 0, 32, 43, 180, 0, 28, 3, 42]
abbrev dktX1_set_2 : List UInt8 := dkwX1_set_2 ++ dktX1_set_3
def dkwX1_set_1 : List UInt8 := [3, 16, 9, 184, 0, 32, 42, 43, 180, 0, 38, 181, 0, 38, 43, 180, 0, 22, 3, 42, 180, 0, 22, 3]
abbrev dktX1_set_1 : List UInt8 := dkwX1_set_1 ++ dktX1_set_2
def dkwX1_set_0 : List UInt8 := [43, 180, 0, 15, 3, 42, 180, 0, 15, 3, 16, 9, 184, 0, 32, 43, 180, 0, 19, 3, 42, 180, 0, 19]
abbrev dktX1_set_0 : List UInt8 := dkwX1_set_0 ++ dktX1_set_1
theorem dksX1_set_0 : cX1_set.data.toList.drop 0 = dktX1_set_0 := by decide +kernel
theorem dksX1_set_1 : cX1_set.data.toList.drop 24 = dktX1_set_1 := dk_seg dksX1_set_0 24 rfl rfl
theorem dksX1_set_2 : cX1_set.data.toList.drop 48 = dktX1_set_2 := dk_seg dksX1_set_1 24 rfl rfl
theorem dksX1_set_3 : cX1_set.data.toList.drop 72 = dktX1_set_3 := dk_seg dksX1_set_2 24 rfl rfl
theorem dX1_set_0 : decode cX1_set 0 = .ok (.aload_n 1, 1) := dk_43 (dk_at dksX1_set_0 0 rfl rfl)
theorem dX1_set_1 : decode cX1_set 1 = .ok (.getfield 15, 3) := dk_180 0 15 (dk_at dksX1_set_0 1 rfl rfl)
theorem dX1_set_4 : decode cX1_set 4 = .ok (.iconst 0, 1) := dk_3 (dk_at dksX1_set_0 4 rfl rfl)
theorem dX1_set_5 : decode cX1_set 5 = .ok (.aload_n 0, 1) := dk_42 (dk_at dksX1_set_0 5 rfl rfl)
theorem dX1_set_6 : decode cX1_set 6 = .ok (.getfield 15, 3) := dk_180 0 15 (dk_at dksX1_set_0 6 rfl rfl)
theorem dX1_set_9 : decode cX1_set 9 = .ok (.iconst 0, 1) := dk_3 (dk_at dksX1_set_0 9 rfl rfl)
theorem dX1_set_10 : decode cX1_set 10 = .ok (.bipush 9, 2) := dk_16 9 (dk_at dksX1_set_0 10 rfl rfl)
theorem dX1_set_12 : decode cX1_set 12 = .ok (.invokestatic 32, 3) := dk_184 0 32 (dk_at dksX1_set_0 12 rfl rfl)
theorem dX1_set_15 : decode cX1_set 15 = .ok (.aload_n 1, 1) := dk_43 (dk_at dksX1_set_0 15 rfl rfl)
theorem dX1_set_16 : decode cX1_set 16 = .ok (.getfield 19, 3) := dk_180 0 19 (dk_at dksX1_set_0 16 rfl rfl)
theorem dX1_set_19 : decode cX1_set 19 = .ok (.iconst 0, 1) := dk_3 (dk_at dksX1_set_0 19 rfl rfl)
theorem dX1_set_20 : decode cX1_set 20 = .ok (.aload_n 0, 1) := dk_42 (dk_at dksX1_set_0 20 rfl rfl)
theorem dX1_set_21 : decode cX1_set 21 = .ok (.getfield 19, 3) := dk_180 0 19 (dk_at dksX1_set_0 21 rfl rfl)
theorem dX1_set_24 : decode cX1_set 24 = .ok (.iconst 0, 1) := dk_3 (dk_at dksX1_set_1 0 rfl rfl)
theorem dX1_set_25 : decode cX1_set 25 = .ok (.bipush 9, 2) := dk_16 9 (dk_at dksX1_set_1 1 rfl rfl)
theorem dX1_set_27 : decode cX1_set 27 = .ok (.invokestatic 32, 3) := dk_184 0 32 (dk_at dksX1_set_1 3 rfl rfl)
theorem dX1_set_30 : decode cX1_set 30 = .ok (.aload_n 0, 1) := dk_42 (dk_at dksX1_set_1 6 rfl rfl)
theorem dX1_set_31 : decode cX1_set 31 = .ok (.aload_n 1, 1) := dk_43 (dk_at dksX1_set_1 7 rfl rfl)
theorem dX1_set_32 : decode cX1_set 32 = .ok (.getfield 38, 3) := dk_180 0 38 (dk_at dksX1_set_1 8 rfl rfl)
theorem dX1_set_35 : decode cX1_set 35 = .ok (.putfield 38, 3) := dk_181 0 38 (dk_at dksX1_set_1 11 rfl rfl)
theorem dX1_set_38 : decode cX1_set 38 = .ok (.aload_n 1, 1) := dk_43 (dk_at dksX1_set_1 14 rfl rfl)
theorem dX1_set_39 : decode cX1_set 39 = .ok (.getfield 22, 3) := dk_180 0 22 (dk_at dksX1_set_1 15 rfl rfl)
theorem dX1_set_42 : decode cX1_set 42 = .ok (.iconst 0, 1) := dk_3 (dk_at dksX1_set_1 18 rfl rfl)
theorem dX1_set_43 : decode cX1_set 43 = .ok (.aload_n 0, 1) := dk_42 (dk_at dksX1_set_1 19 rfl rfl)
theorem dX1_set_44 : decode cX1_set 44 = .ok (.getfield 22, 3) := dk_180 0 22 (dk_at dksX1_set_1 20 rfl rfl)
theorem dX1_set_47 : decode cX1_set 47 = .ok (.iconst 0, 1) := dk_3 (dk_at dksX1_set_1 23 rfl rfl)
theorem dX1_set_48 : decode cX1_set 48 = .ok (.iconst 5, 1) := dk_8 (dk_at dksX1_set_2 0 rfl rfl)
theorem dX1_set_49 : decode cX1_set 49 = .ok (.invokestatic 32, 3) := dk_184 0 32 (dk_at dksX1_set_2 1 rfl rfl)
theorem dX1_set_52 : decode cX1_set 52 = .ok (.aload_n 1, 1) := dk_43 (dk_at dksX1_set_2 4 rfl rfl)
theorem dX1_set_53 : decode cX1_set 53 = .ok (.getfield 25, 3) := dk_180 0 25 (dk_at dksX1_set_2 5 rfl rfl)
theorem dX1_set_56 : decode cX1_set 56 = .ok (.iconst 0, 1) := dk_3 (dk_at dksX1_set_2 8 rfl rfl)
theorem dX1_set_57 : decode cX1_set 57 = .ok (.aload_n 0, 1) := dk_42 (dk_at dksX1_set_2 9 rfl rfl)
theorem dX1_set_58 : decode cX1_set 58 = .ok (.getfield 25, 3) := dk_180 0 25 (dk_at dksX1_set_2 10 rfl rfl)
theorem dX1_set_61 : decode cX1_set 61 = .ok (.iconst 0, 1) := dk_3 (dk_at dksX1_set_2 13 rfl rfl)
theorem dX1_set_62 : decode cX1_set 62 = .ok (.iconst 5, 1) := dk_8 (dk_at dksX1_set_2 14 rfl rfl)
theorem dX1_set_63 : decode cX1_set 63 = .ok (.invokestatic 32, 3) := dk_184 0 32 (dk_at dksX1_set_2 15 rfl rfl)
theorem dX1_set_66 : decode cX1_set 66 = .ok (.aload_n 1, 1) := dk_43 (dk_at dksX1_set_2 18 rfl rfl)
theorem dX1_set_67 : decode cX1_set 67 = .ok (.getfield 28, 3) := dk_180 0 28 (dk_at dksX1_set_2 19 rfl rfl)
theorem dX1_set_70 : decode cX1_set 70 = .ok (.iconst 0, 1) := dk_3 (dk_at dksX1_set_2 22 rfl rfl)
theorem dX1_set_71 : decode cX1_set 71 = .ok (.aload_n 0, 1) := dk_42 (dk_at dksX1_set_2 23 rfl rfl)
theorem dX1_set_72 : decode cX1_set 72 = .ok (.getfield 28, 3) := dk_180 0 28 (dk_at dksX1_set_3 0 rfl rfl)
theorem dX1_set_75 : decode cX1_set 75 = .ok (.iconst 0, 1) := dk_3 (dk_at dksX1_set_3 3 rfl rfl)
theorem dX1_set_76 : decode cX1_set 76 = .ok (.iconst 5, 1) := dk_8 (dk_at dksX1_set_3 4 rfl rfl)
theorem dX1_set_77 : decode cX1_set 77 = .ok (.invokestatic 32, 3) := dk_184 0 32 (dk_at dksX1_set_3 5 rfl rfl)
theorem dX1_set_80 : decode cX1_set 80 = .ok (.aload_n 0, 1) := dk_42 (dk_at dksX1_set_3 8 rfl rfl)
theorem dX1_set_81 : decode cX1_set 81 = .ok (.aload_n 1, 1) := dk_43 (dk_at dksX1_set_3 9 rfl rfl)
theorem dX1_set_82 : decode cX1_set 82 = .ok (.getfield 42, 3) := dk_180 0 42 (dk_at dksX1_set_3 10 rfl rfl)
theorem dX1_set_85 : decode cX1_set 85 = .ok (.putfield 42, 3) := dk_181 0 42 (dk_at dksX1_set_3 13 rfl rfl)
theorem dX1_set_88 : decode cX1_set 88 = .ok (.aload_n 0, 1) := dk_42 (dk_at dksX1_set_3 16 rfl rfl)
theorem dX1_set_89 : decode cX1_set 89 = .ok (.areturn, 1) := dk_176 (dk_at dksX1_set_3 17 rfl rfl)
abbrev cX1_pass : ByteArray := prog_11_method_9_code
def yX1_pass : MethodName := ⟨RX1, "pass", "(I)LNutCaches$State;"⟩
def dkwX1_pass_0 : List UInt8 := [3, 61, 28, 27, 162, 0, 13, 42, 182, 0, 110, 132, 2, 1, 167, 255, 244, 42, 176]
abbrev dktX1_pass_0 : List UInt8 := dkwX1_pass_0 ++ []
theorem dksX1_pass_0 : cX1_pass.data.toList.drop 0 = dktX1_pass_0 := by decide +kernel
theorem dX1_pass_0 : decode cX1_pass 0 = .ok (.iconst 0, 1) := dk_3 (dk_at dksX1_pass_0 0 rfl rfl)
theorem dX1_pass_1 : decode cX1_pass 1 = .ok (.istore_n 2, 1) := dk_61 (dk_at dksX1_pass_0 1 rfl rfl)
theorem dX1_pass_2 : decode cX1_pass 2 = .ok (.iload_n 2, 1) := dk_28 (dk_at dksX1_pass_0 2 rfl rfl)
theorem dX1_pass_3 : decode cX1_pass 3 = .ok (.iload_n 1, 1) := dk_27 (dk_at dksX1_pass_0 3 rfl rfl)
theorem dX1_pass_4 : decode cX1_pass 4 = .ok (.if_icmp .ge 13, 3) := dk_162 0 13 (dk_at dksX1_pass_0 4 rfl rfl)
theorem dX1_pass_7 : decode cX1_pass 7 = .ok (.aload_n 0, 1) := dk_42 (dk_at dksX1_pass_0 7 rfl rfl)
theorem dX1_pass_8 : decode cX1_pass 8 = .ok (.invokevirtual 110, 3) := dk_182 0 110 (dk_at dksX1_pass_0 8 rfl rfl)
theorem dX1_pass_11 : decode cX1_pass 11 = .ok (.iinc 2 1, 3) := dk_132 2 1 (dk_at dksX1_pass_0 11 rfl rfl)
theorem dX1_pass_14 : decode cX1_pass 14 = .ok (.goto (-12), 3) := dk_167 255 244 (dk_at dksX1_pass_0 14 rfl rfl)
theorem dX1_pass_17 : decode cX1_pass 17 = .ok (.aload_n 0, 1) := dk_42 (dk_at dksX1_pass_0 17 rfl rfl)
theorem dX1_pass_18 : decode cX1_pass 18 = .ok (.areturn, 1) := dk_176 (dk_at dksX1_pass_0 18 rfl rfl)
abbrev cX1_pass_2 : ByteArray := prog_11_method_8_code
def yX1_pass_2 : MethodName := ⟨RX1, "pass", "()V"⟩
def dkwX1_pass_2_6 : List UInt8 := [51, 4, 100, 184, 0, 107, 145, 84, 132, 1, 1, 167, 255, 127, 177]
abbrev dktX1_pass_2_6 : List UInt8 := dkwX1_pass_2_6 ++ []
def dkwX1_pass_2_5 : List UInt8 := [180, 0, 25, 27, 92, 51, 4, 96, 145, 84, 167, 0, 22, 42, 180, 0, 25, 27, 3, 42, 180, 0, 25, 27]
abbrev dktX1_pass_2_5 : List UInt8 := dkwX1_pass_2_5 ++ dktX1_pass_2_6
def dkwX1_pass_2_4 : List UInt8 := [182, 0, 60, 180, 0, 104, 162, 0, 29, 42, 89, 180, 0, 80, 4, 27, 120, 128, 181, 0, 80, 42]
abbrev dktX1_pass_2_4 : List UInt8 := dkwX1_pass_2_4 ++ dktX1_pass_2_5
def dkwX1_pass_2_3 : List UInt8 := [180, 0, 42, 182, 0, 98, 154, 0, 6, 167, 0, 67, 42, 27, 182, 0, 101, 42, 180, 0, 3, 27]
abbrev dktX1_pass_2_3 : List UInt8 := dkwX1_pass_2_3 ++ dktX1_pass_2_4
def dkwX1_pass_2_2 : List UInt8 := [182, 0, 60, 182, 0, 90, 153, 0, 8, 42, 27, 182, 0, 94, 42, 180, 0, 3, 27, 182, 0, 60, 42]
abbrev dktX1_pass_2_2 : List UInt8 := dkwX1_pass_2_2 ++ dktX1_pass_2_3
def dkwX1_pass_2_1 : List UInt8 := [180, 0, 83, 162, 0, 124, 42, 27, 182, 0, 86, 153, 0, 6, 167, 0, 107, 42, 180, 0, 3, 27]
abbrev dktX1_pass_2_1 : List UInt8 := dkwX1_pass_2_1 ++ dktX1_pass_2_2
def dkwX1_pass_2_0 : List UInt8 := [42, 89, 180, 0, 42, 4, 96, 181, 0, 42, 42, 3, 181, 0, 80, 3, 60, 27, 42, 180, 0, 3]
abbrev dktX1_pass_2_0 : List UInt8 := dkwX1_pass_2_0 ++ dktX1_pass_2_1
theorem dksX1_pass_2_0 : cX1_pass_2.data.toList.drop 0 = dktX1_pass_2_0 := by decide +kernel
theorem dksX1_pass_2_1 : cX1_pass_2.data.toList.drop 22 = dktX1_pass_2_1 := dk_seg dksX1_pass_2_0 22 rfl rfl
theorem dksX1_pass_2_2 : cX1_pass_2.data.toList.drop 44 = dktX1_pass_2_2 := dk_seg dksX1_pass_2_1 22 rfl rfl
theorem dksX1_pass_2_3 : cX1_pass_2.data.toList.drop 67 = dktX1_pass_2_3 := dk_seg dksX1_pass_2_2 23 rfl rfl
theorem dksX1_pass_2_4 : cX1_pass_2.data.toList.drop 89 = dktX1_pass_2_4 := dk_seg dksX1_pass_2_3 22 rfl rfl
theorem dksX1_pass_2_5 : cX1_pass_2.data.toList.drop 111 = dktX1_pass_2_5 := dk_seg dksX1_pass_2_4 22 rfl rfl
theorem dksX1_pass_2_6 : cX1_pass_2.data.toList.drop 135 = dktX1_pass_2_6 := dk_seg dksX1_pass_2_5 24 rfl rfl
theorem dX1_pass_2_0 : decode cX1_pass_2 0 = .ok (.aload_n 0, 1) := dk_42 (dk_at dksX1_pass_2_0 0 rfl rfl)
theorem dX1_pass_2_1 : decode cX1_pass_2 1 = .ok (.dup, 1) := dk_89 (dk_at dksX1_pass_2_0 1 rfl rfl)
theorem dX1_pass_2_2 : decode cX1_pass_2 2 = .ok (.getfield 42, 3) := dk_180 0 42 (dk_at dksX1_pass_2_0 2 rfl rfl)
theorem dX1_pass_2_5 : decode cX1_pass_2 5 = .ok (.iconst 1, 1) := dk_4 (dk_at dksX1_pass_2_0 5 rfl rfl)
theorem dX1_pass_2_6 : decode cX1_pass_2 6 = .ok (.iadd, 1) := dk_96 (dk_at dksX1_pass_2_0 6 rfl rfl)
theorem dX1_pass_2_7 : decode cX1_pass_2 7 = .ok (.putfield 42, 3) := dk_181 0 42 (dk_at dksX1_pass_2_0 7 rfl rfl)
theorem dX1_pass_2_10 : decode cX1_pass_2 10 = .ok (.aload_n 0, 1) := dk_42 (dk_at dksX1_pass_2_0 10 rfl rfl)
theorem dX1_pass_2_11 : decode cX1_pass_2 11 = .ok (.iconst 0, 1) := dk_3 (dk_at dksX1_pass_2_0 11 rfl rfl)
theorem dX1_pass_2_12 : decode cX1_pass_2 12 = .ok (.putfield 80, 3) := dk_181 0 80 (dk_at dksX1_pass_2_0 12 rfl rfl)
theorem dX1_pass_2_15 : decode cX1_pass_2 15 = .ok (.iconst 0, 1) := dk_3 (dk_at dksX1_pass_2_0 15 rfl rfl)
theorem dX1_pass_2_16 : decode cX1_pass_2 16 = .ok (.istore_n 1, 1) := dk_60 (dk_at dksX1_pass_2_0 16 rfl rfl)
theorem dX1_pass_2_17 : decode cX1_pass_2 17 = .ok (.iload_n 1, 1) := dk_27 (dk_at dksX1_pass_2_0 17 rfl rfl)
theorem dX1_pass_2_18 : decode cX1_pass_2 18 = .ok (.aload_n 0, 1) := dk_42 (dk_at dksX1_pass_2_0 18 rfl rfl)
theorem dX1_pass_2_19 : decode cX1_pass_2 19 = .ok (.getfield 3, 3) := dk_180 0 3 (dk_at dksX1_pass_2_0 19 rfl rfl)
theorem dX1_pass_2_22 : decode cX1_pass_2 22 = .ok (.getfield 83, 3) := dk_180 0 83 (dk_at dksX1_pass_2_1 0 rfl rfl)
theorem dX1_pass_2_25 : decode cX1_pass_2 25 = .ok (.if_icmp .ge 124, 3) := dk_162 0 124 (dk_at dksX1_pass_2_1 3 rfl rfl)
theorem dX1_pass_2_28 : decode cX1_pass_2 28 = .ok (.aload_n 0, 1) := dk_42 (dk_at dksX1_pass_2_1 6 rfl rfl)
theorem dX1_pass_2_29 : decode cX1_pass_2 29 = .ok (.iload_n 1, 1) := dk_27 (dk_at dksX1_pass_2_1 7 rfl rfl)
theorem dX1_pass_2_30 : decode cX1_pass_2 30 = .ok (.invokevirtual 86, 3) := dk_182 0 86 (dk_at dksX1_pass_2_1 8 rfl rfl)
theorem dX1_pass_2_33 : decode cX1_pass_2 33 = .ok (.ifCond .eq 6, 3) := dk_153 0 6 (dk_at dksX1_pass_2_1 11 rfl rfl)
theorem dX1_pass_2_36 : decode cX1_pass_2 36 = .ok (.goto 107, 3) := dk_167 0 107 (dk_at dksX1_pass_2_1 14 rfl rfl)
theorem dX1_pass_2_39 : decode cX1_pass_2 39 = .ok (.aload_n 0, 1) := dk_42 (dk_at dksX1_pass_2_1 17 rfl rfl)
theorem dX1_pass_2_40 : decode cX1_pass_2 40 = .ok (.getfield 3, 3) := dk_180 0 3 (dk_at dksX1_pass_2_1 18 rfl rfl)
theorem dX1_pass_2_43 : decode cX1_pass_2 43 = .ok (.iload_n 1, 1) := dk_27 (dk_at dksX1_pass_2_1 21 rfl rfl)
theorem dX1_pass_2_44 : decode cX1_pass_2 44 = .ok (.invokevirtual 60, 3) := dk_182 0 60 (dk_at dksX1_pass_2_2 0 rfl rfl)
theorem dX1_pass_2_47 : decode cX1_pass_2 47 = .ok (.invokevirtual 90, 3) := dk_182 0 90 (dk_at dksX1_pass_2_2 3 rfl rfl)
theorem dX1_pass_2_50 : decode cX1_pass_2 50 = .ok (.ifCond .eq 8, 3) := dk_153 0 8 (dk_at dksX1_pass_2_2 6 rfl rfl)
theorem dX1_pass_2_53 : decode cX1_pass_2 53 = .ok (.aload_n 0, 1) := dk_42 (dk_at dksX1_pass_2_2 9 rfl rfl)
theorem dX1_pass_2_54 : decode cX1_pass_2 54 = .ok (.iload_n 1, 1) := dk_27 (dk_at dksX1_pass_2_2 10 rfl rfl)
theorem dX1_pass_2_55 : decode cX1_pass_2 55 = .ok (.invokevirtual 94, 3) := dk_182 0 94 (dk_at dksX1_pass_2_2 11 rfl rfl)
theorem dX1_pass_2_58 : decode cX1_pass_2 58 = .ok (.aload_n 0, 1) := dk_42 (dk_at dksX1_pass_2_2 14 rfl rfl)
theorem dX1_pass_2_59 : decode cX1_pass_2 59 = .ok (.getfield 3, 3) := dk_180 0 3 (dk_at dksX1_pass_2_2 15 rfl rfl)
theorem dX1_pass_2_62 : decode cX1_pass_2 62 = .ok (.iload_n 1, 1) := dk_27 (dk_at dksX1_pass_2_2 18 rfl rfl)
theorem dX1_pass_2_63 : decode cX1_pass_2 63 = .ok (.invokevirtual 60, 3) := dk_182 0 60 (dk_at dksX1_pass_2_2 19 rfl rfl)
theorem dX1_pass_2_66 : decode cX1_pass_2 66 = .ok (.aload_n 0, 1) := dk_42 (dk_at dksX1_pass_2_2 22 rfl rfl)
theorem dX1_pass_2_67 : decode cX1_pass_2 67 = .ok (.getfield 42, 3) := dk_180 0 42 (dk_at dksX1_pass_2_3 0 rfl rfl)
theorem dX1_pass_2_70 : decode cX1_pass_2 70 = .ok (.invokevirtual 98, 3) := dk_182 0 98 (dk_at dksX1_pass_2_3 3 rfl rfl)
theorem dX1_pass_2_73 : decode cX1_pass_2 73 = .ok (.ifCond .ne 6, 3) := dk_154 0 6 (dk_at dksX1_pass_2_3 6 rfl rfl)
theorem dX1_pass_2_76 : decode cX1_pass_2 76 = .ok (.goto 67, 3) := dk_167 0 67 (dk_at dksX1_pass_2_3 9 rfl rfl)
theorem dX1_pass_2_79 : decode cX1_pass_2 79 = .ok (.aload_n 0, 1) := dk_42 (dk_at dksX1_pass_2_3 12 rfl rfl)
theorem dX1_pass_2_80 : decode cX1_pass_2 80 = .ok (.iload_n 1, 1) := dk_27 (dk_at dksX1_pass_2_3 13 rfl rfl)
theorem dX1_pass_2_81 : decode cX1_pass_2 81 = .ok (.invokevirtual 101, 3) := dk_182 0 101 (dk_at dksX1_pass_2_3 14 rfl rfl)
theorem dX1_pass_2_84 : decode cX1_pass_2 84 = .ok (.aload_n 0, 1) := dk_42 (dk_at dksX1_pass_2_3 17 rfl rfl)
theorem dX1_pass_2_85 : decode cX1_pass_2 85 = .ok (.getfield 3, 3) := dk_180 0 3 (dk_at dksX1_pass_2_3 18 rfl rfl)
theorem dX1_pass_2_88 : decode cX1_pass_2 88 = .ok (.iload_n 1, 1) := dk_27 (dk_at dksX1_pass_2_3 21 rfl rfl)
theorem dX1_pass_2_89 : decode cX1_pass_2 89 = .ok (.invokevirtual 60, 3) := dk_182 0 60 (dk_at dksX1_pass_2_4 0 rfl rfl)
theorem dX1_pass_2_92 : decode cX1_pass_2 92 = .ok (.getfield 104, 3) := dk_180 0 104 (dk_at dksX1_pass_2_4 3 rfl rfl)
theorem dX1_pass_2_95 : decode cX1_pass_2 95 = .ok (.if_icmp .ge 29, 3) := dk_162 0 29 (dk_at dksX1_pass_2_4 6 rfl rfl)
theorem dX1_pass_2_98 : decode cX1_pass_2 98 = .ok (.aload_n 0, 1) := dk_42 (dk_at dksX1_pass_2_4 9 rfl rfl)
theorem dX1_pass_2_99 : decode cX1_pass_2 99 = .ok (.dup, 1) := dk_89 (dk_at dksX1_pass_2_4 10 rfl rfl)
theorem dX1_pass_2_100 : decode cX1_pass_2 100 = .ok (.getfield 80, 3) := dk_180 0 80 (dk_at dksX1_pass_2_4 11 rfl rfl)
theorem dX1_pass_2_103 : decode cX1_pass_2 103 = .ok (.iconst 1, 1) := dk_4 (dk_at dksX1_pass_2_4 14 rfl rfl)
theorem dX1_pass_2_104 : decode cX1_pass_2 104 = .ok (.iload_n 1, 1) := dk_27 (dk_at dksX1_pass_2_4 15 rfl rfl)
theorem dX1_pass_2_105 : decode cX1_pass_2 105 = .ok (.ishl, 1) := dk_120 (dk_at dksX1_pass_2_4 16 rfl rfl)
theorem dX1_pass_2_106 : decode cX1_pass_2 106 = .ok (.ior, 1) := dk_128 (dk_at dksX1_pass_2_4 17 rfl rfl)
theorem dX1_pass_2_107 : decode cX1_pass_2 107 = .ok (.putfield 80, 3) := dk_181 0 80 (dk_at dksX1_pass_2_4 18 rfl rfl)
theorem dX1_pass_2_110 : decode cX1_pass_2 110 = .ok (.aload_n 0, 1) := dk_42 (dk_at dksX1_pass_2_4 21 rfl rfl)
theorem dX1_pass_2_111 : decode cX1_pass_2 111 = .ok (.getfield 25, 3) := dk_180 0 25 (dk_at dksX1_pass_2_5 0 rfl rfl)
theorem dX1_pass_2_114 : decode cX1_pass_2 114 = .ok (.iload_n 1, 1) := dk_27 (dk_at dksX1_pass_2_5 3 rfl rfl)
theorem dX1_pass_2_115 : decode cX1_pass_2 115 = .ok (.dup2, 1) := dk_92 (dk_at dksX1_pass_2_5 4 rfl rfl)
theorem dX1_pass_2_116 : decode cX1_pass_2 116 = .ok (.baload, 1) := dk_51 (dk_at dksX1_pass_2_5 5 rfl rfl)
theorem dX1_pass_2_117 : decode cX1_pass_2 117 = .ok (.iconst 1, 1) := dk_4 (dk_at dksX1_pass_2_5 6 rfl rfl)
theorem dX1_pass_2_118 : decode cX1_pass_2 118 = .ok (.iadd, 1) := dk_96 (dk_at dksX1_pass_2_5 7 rfl rfl)
theorem dX1_pass_2_119 : decode cX1_pass_2 119 = .ok (.i2b, 1) := dk_145 (dk_at dksX1_pass_2_5 8 rfl rfl)
theorem dX1_pass_2_120 : decode cX1_pass_2 120 = .ok (.bastore, 1) := dk_84 (dk_at dksX1_pass_2_5 9 rfl rfl)
theorem dX1_pass_2_121 : decode cX1_pass_2 121 = .ok (.goto 22, 3) := dk_167 0 22 (dk_at dksX1_pass_2_5 10 rfl rfl)
theorem dX1_pass_2_124 : decode cX1_pass_2 124 = .ok (.aload_n 0, 1) := dk_42 (dk_at dksX1_pass_2_5 13 rfl rfl)
theorem dX1_pass_2_125 : decode cX1_pass_2 125 = .ok (.getfield 25, 3) := dk_180 0 25 (dk_at dksX1_pass_2_5 14 rfl rfl)
theorem dX1_pass_2_128 : decode cX1_pass_2 128 = .ok (.iload_n 1, 1) := dk_27 (dk_at dksX1_pass_2_5 17 rfl rfl)
theorem dX1_pass_2_129 : decode cX1_pass_2 129 = .ok (.iconst 0, 1) := dk_3 (dk_at dksX1_pass_2_5 18 rfl rfl)
theorem dX1_pass_2_130 : decode cX1_pass_2 130 = .ok (.aload_n 0, 1) := dk_42 (dk_at dksX1_pass_2_5 19 rfl rfl)
theorem dX1_pass_2_131 : decode cX1_pass_2 131 = .ok (.getfield 25, 3) := dk_180 0 25 (dk_at dksX1_pass_2_5 20 rfl rfl)
theorem dX1_pass_2_134 : decode cX1_pass_2 134 = .ok (.iload_n 1, 1) := dk_27 (dk_at dksX1_pass_2_5 23 rfl rfl)
theorem dX1_pass_2_135 : decode cX1_pass_2 135 = .ok (.baload, 1) := dk_51 (dk_at dksX1_pass_2_6 0 rfl rfl)
theorem dX1_pass_2_136 : decode cX1_pass_2 136 = .ok (.iconst 1, 1) := dk_4 (dk_at dksX1_pass_2_6 1 rfl rfl)
theorem dX1_pass_2_137 : decode cX1_pass_2 137 = .ok (.isub, 1) := dk_100 (dk_at dksX1_pass_2_6 2 rfl rfl)
theorem dX1_pass_2_138 : decode cX1_pass_2 138 = .ok (.invokestatic 107, 3) := dk_184 0 107 (dk_at dksX1_pass_2_6 3 rfl rfl)
theorem dX1_pass_2_141 : decode cX1_pass_2 141 = .ok (.i2b, 1) := dk_145 (dk_at dksX1_pass_2_6 6 rfl rfl)
theorem dX1_pass_2_142 : decode cX1_pass_2 142 = .ok (.bastore, 1) := dk_84 (dk_at dksX1_pass_2_6 7 rfl rfl)
theorem dX1_pass_2_143 : decode cX1_pass_2 143 = .ok (.iinc 1 1, 3) := dk_132 1 1 (dk_at dksX1_pass_2_6 8 rfl rfl)
theorem dX1_pass_2_146 : decode cX1_pass_2 146 = .ok (.goto (-129), 3) := dk_167 255 127 (dk_at dksX1_pass_2_6 11 rfl rfl)
theorem dX1_pass_2_149 : decode cX1_pass_2 149 = .ok (.return_, 1) := dk_177 (dk_at dksX1_pass_2_6 14 rfl rfl)
abbrev cX1_isGone : ByteArray := prog_11_method_3_code
def yX1_isGone : MethodName := ⟨RX1, "isGone", "(I)Z"⟩
def dkwX1_isGone_0 : List UInt8 := [42, 180, 0, 25, 27, 51, 6, 160, 0, 7, 4, 167, 0, 4, 3, 172]
abbrev dktX1_isGone_0 : List UInt8 := dkwX1_isGone_0 ++ []
theorem dksX1_isGone_0 : cX1_isGone.data.toList.drop 0 = dktX1_isGone_0 := by decide +kernel
theorem dX1_isGone_0 : decode cX1_isGone 0 = .ok (.aload_n 0, 1) := dk_42 (dk_at dksX1_isGone_0 0 rfl rfl)
theorem dX1_isGone_1 : decode cX1_isGone 1 = .ok (.getfield 25, 3) := dk_180 0 25 (dk_at dksX1_isGone_0 1 rfl rfl)
theorem dX1_isGone_4 : decode cX1_isGone 4 = .ok (.iload_n 1, 1) := dk_27 (dk_at dksX1_isGone_0 4 rfl rfl)
theorem dX1_isGone_5 : decode cX1_isGone 5 = .ok (.baload, 1) := dk_51 (dk_at dksX1_isGone_0 5 rfl rfl)
theorem dX1_isGone_6 : decode cX1_isGone 6 = .ok (.iconst 3, 1) := dk_6 (dk_at dksX1_isGone_0 6 rfl rfl)
theorem dX1_isGone_7 : decode cX1_isGone 7 = .ok (.if_icmp .ne 7, 3) := dk_160 0 7 (dk_at dksX1_isGone_0 7 rfl rfl)
theorem dX1_isGone_10 : decode cX1_isGone 10 = .ok (.iconst 1, 1) := dk_4 (dk_at dksX1_isGone_0 10 rfl rfl)
theorem dX1_isGone_11 : decode cX1_isGone 11 = .ok (.goto 4, 3) := dk_167 0 4 (dk_at dksX1_isGone_0 11 rfl rfl)
theorem dX1_isGone_14 : decode cX1_isGone 14 = .ok (.iconst 0, 1) := dk_3 (dk_at dksX1_isGone_0 14 rfl rfl)
theorem dX1_isGone_15 : decode cX1_isGone 15 = .ok (.ireturn, 1) := dk_172 (dk_at dksX1_isGone_0 15 rfl rfl)
abbrev cX1_spy : ByteArray := prog_11_method_5_code
def yX1_spy : MethodName := ⟨RX1, "spy", "(I)V"⟩
def dkwX1_spy_2 : List UInt8 := [167, 255, 212, 177]
abbrev dktX1_spy_2 : List UInt8 := dkwX1_spy_2 ++ []
def dkwX1_spy_1 : List UInt8 := [182, 0, 51, 5, 163, 0, 17, 42, 180, 0, 28, 27, 92, 53, 4, 28, 120, 147, 128, 147, 86, 132, 2, 1]
abbrev dktX1_spy_1 : List UInt8 := dkwX1_spy_1 ++ dktX1_spy_2
def dkwX1_spy_0 : List UInt8 := [3, 61, 28, 42, 180, 0, 38, 162, 0, 42, 42, 180, 0, 19, 28, 51, 158, 0, 27, 42, 27, 28]
abbrev dktX1_spy_0 : List UInt8 := dkwX1_spy_0 ++ dktX1_spy_1
theorem dksX1_spy_0 : cX1_spy.data.toList.drop 0 = dktX1_spy_0 := by decide +kernel
theorem dksX1_spy_1 : cX1_spy.data.toList.drop 22 = dktX1_spy_1 := dk_seg dksX1_spy_0 22 rfl rfl
theorem dksX1_spy_2 : cX1_spy.data.toList.drop 46 = dktX1_spy_2 := dk_seg dksX1_spy_1 24 rfl rfl
theorem dX1_spy_0 : decode cX1_spy 0 = .ok (.iconst 0, 1) := dk_3 (dk_at dksX1_spy_0 0 rfl rfl)
theorem dX1_spy_1 : decode cX1_spy 1 = .ok (.istore_n 2, 1) := dk_61 (dk_at dksX1_spy_0 1 rfl rfl)
theorem dX1_spy_2 : decode cX1_spy 2 = .ok (.iload_n 2, 1) := dk_28 (dk_at dksX1_spy_0 2 rfl rfl)
theorem dX1_spy_3 : decode cX1_spy 3 = .ok (.aload_n 0, 1) := dk_42 (dk_at dksX1_spy_0 3 rfl rfl)
theorem dX1_spy_4 : decode cX1_spy 4 = .ok (.getfield 38, 3) := dk_180 0 38 (dk_at dksX1_spy_0 4 rfl rfl)
theorem dX1_spy_7 : decode cX1_spy 7 = .ok (.if_icmp .ge 42, 3) := dk_162 0 42 (dk_at dksX1_spy_0 7 rfl rfl)
theorem dX1_spy_10 : decode cX1_spy 10 = .ok (.aload_n 0, 1) := dk_42 (dk_at dksX1_spy_0 10 rfl rfl)
theorem dX1_spy_11 : decode cX1_spy 11 = .ok (.getfield 19, 3) := dk_180 0 19 (dk_at dksX1_spy_0 11 rfl rfl)
theorem dX1_spy_14 : decode cX1_spy 14 = .ok (.iload_n 2, 1) := dk_28 (dk_at dksX1_spy_0 14 rfl rfl)
theorem dX1_spy_15 : decode cX1_spy 15 = .ok (.baload, 1) := dk_51 (dk_at dksX1_spy_0 15 rfl rfl)
theorem dX1_spy_16 : decode cX1_spy 16 = .ok (.ifCond .le 27, 3) := dk_158 0 27 (dk_at dksX1_spy_0 16 rfl rfl)
theorem dX1_spy_19 : decode cX1_spy 19 = .ok (.aload_n 0, 1) := dk_42 (dk_at dksX1_spy_0 19 rfl rfl)
theorem dX1_spy_20 : decode cX1_spy 20 = .ok (.iload_n 1, 1) := dk_27 (dk_at dksX1_spy_0 20 rfl rfl)
theorem dX1_spy_21 : decode cX1_spy 21 = .ok (.iload_n 2, 1) := dk_28 (dk_at dksX1_spy_0 21 rfl rfl)
theorem dX1_spy_22 : decode cX1_spy 22 = .ok (.invokevirtual 51, 3) := dk_182 0 51 (dk_at dksX1_spy_1 0 rfl rfl)
theorem dX1_spy_25 : decode cX1_spy 25 = .ok (.iconst 2, 1) := dk_5 (dk_at dksX1_spy_1 3 rfl rfl)
theorem dX1_spy_26 : decode cX1_spy 26 = .ok (.if_icmp .gt 17, 3) := dk_163 0 17 (dk_at dksX1_spy_1 4 rfl rfl)
theorem dX1_spy_29 : decode cX1_spy 29 = .ok (.aload_n 0, 1) := dk_42 (dk_at dksX1_spy_1 7 rfl rfl)
theorem dX1_spy_30 : decode cX1_spy 30 = .ok (.getfield 28, 3) := dk_180 0 28 (dk_at dksX1_spy_1 8 rfl rfl)
theorem dX1_spy_33 : decode cX1_spy 33 = .ok (.iload_n 1, 1) := dk_27 (dk_at dksX1_spy_1 11 rfl rfl)
theorem dX1_spy_34 : decode cX1_spy 34 = .ok (.dup2, 1) := dk_92 (dk_at dksX1_spy_1 12 rfl rfl)
theorem dX1_spy_35 : decode cX1_spy 35 = .ok (.saload, 1) := dk_53 (dk_at dksX1_spy_1 13 rfl rfl)
theorem dX1_spy_36 : decode cX1_spy 36 = .ok (.iconst 1, 1) := dk_4 (dk_at dksX1_spy_1 14 rfl rfl)
theorem dX1_spy_37 : decode cX1_spy 37 = .ok (.iload_n 2, 1) := dk_28 (dk_at dksX1_spy_1 15 rfl rfl)
theorem dX1_spy_38 : decode cX1_spy 38 = .ok (.ishl, 1) := dk_120 (dk_at dksX1_spy_1 16 rfl rfl)
theorem dX1_spy_39 : decode cX1_spy 39 = .ok (.i2s, 1) := dk_147 (dk_at dksX1_spy_1 17 rfl rfl)
theorem dX1_spy_40 : decode cX1_spy 40 = .ok (.ior, 1) := dk_128 (dk_at dksX1_spy_1 18 rfl rfl)
theorem dX1_spy_41 : decode cX1_spy 41 = .ok (.i2s, 1) := dk_147 (dk_at dksX1_spy_1 19 rfl rfl)
theorem dX1_spy_42 : decode cX1_spy 42 = .ok (.sastore, 1) := dk_86 (dk_at dksX1_spy_1 20 rfl rfl)
theorem dX1_spy_43 : decode cX1_spy 43 = .ok (.iinc 2 1, 3) := dk_132 2 1 (dk_at dksX1_spy_1 21 rfl rfl)
theorem dX1_spy_46 : decode cX1_spy 46 = .ok (.goto (-44), 3) := dk_167 255 212 (dk_at dksX1_spy_2 0 rfl rfl)
theorem dX1_spy_49 : decode cX1_spy 49 = .ok (.return_, 1) := dk_177 (dk_at dksX1_spy_2 3 rfl rfl)
abbrev cX1_off : ByteArray := prog_11_method_4_code
def yX1_off : MethodName := ⟨RX1, "off", "(II)I"⟩
def dkwX1_off_0 : List UInt8 := [42, 180, 0, 22, 27, 51, 42, 180, 0, 15, 28, 51, 100, 184, 0, 45, 172]
abbrev dktX1_off_0 : List UInt8 := dkwX1_off_0 ++ []
theorem dksX1_off_0 : cX1_off.data.toList.drop 0 = dktX1_off_0 := by decide +kernel
theorem dX1_off_0 : decode cX1_off 0 = .ok (.aload_n 0, 1) := dk_42 (dk_at dksX1_off_0 0 rfl rfl)
theorem dX1_off_1 : decode cX1_off 1 = .ok (.getfield 22, 3) := dk_180 0 22 (dk_at dksX1_off_0 1 rfl rfl)
theorem dX1_off_4 : decode cX1_off 4 = .ok (.iload_n 1, 1) := dk_27 (dk_at dksX1_off_0 4 rfl rfl)
theorem dX1_off_5 : decode cX1_off 5 = .ok (.baload, 1) := dk_51 (dk_at dksX1_off_0 5 rfl rfl)
theorem dX1_off_6 : decode cX1_off 6 = .ok (.aload_n 0, 1) := dk_42 (dk_at dksX1_off_0 6 rfl rfl)
theorem dX1_off_7 : decode cX1_off 7 = .ok (.getfield 15, 3) := dk_180 0 15 (dk_at dksX1_off_0 7 rfl rfl)
theorem dX1_off_10 : decode cX1_off 10 = .ok (.iload_n 2, 1) := dk_28 (dk_at dksX1_off_0 10 rfl rfl)
theorem dX1_off_11 : decode cX1_off 11 = .ok (.baload, 1) := dk_51 (dk_at dksX1_off_0 11 rfl rfl)
theorem dX1_off_12 : decode cX1_off 12 = .ok (.isub, 1) := dk_100 (dk_at dksX1_off_0 12 rfl rfl)
theorem dX1_off_13 : decode cX1_off 13 = .ok (.invokestatic 45, 3) := dk_184 0 45 (dk_at dksX1_off_0 13 rfl rfl)
theorem dX1_off_16 : decode cX1_off 16 = .ok (.ireturn, 1) := dk_172 (dk_at dksX1_off_0 16 rfl rfl)
abbrev cX1_eats : ByteArray := prog_11_method_7_code
def yX1_eats : MethodName := ⟨RX1, "eats", "(I)I"⟩
def dkwX1_eats_4 : List UInt8 := [53, 4, 21, 4, 120, 2, 130, 147, 126, 147, 86, 42, 27, 182, 0, 77, 54, 4, 167, 255, 164, 29, 172]
abbrev dktX1_eats_4 : List UInt8 := dkwX1_eats_4 ++ []
def dkwX1_eats_3 : List UInt8 := [100, 145, 84, 29, 21, 5, 96, 62, 42, 180, 0, 19, 21, 4, 51, 154, 0, 20, 42, 180, 0, 28, 27, 92]
abbrev dktX1_eats_3 : List UInt8 := dkwX1_eats_3 ++ dktX1_eats_4
def dkwX1_eats_2 : List UInt8 := [42, 180, 0, 22, 27, 42, 180, 0, 15, 21, 4, 51, 84, 42, 180, 0, 19, 21, 4, 92, 51, 21, 5, 145]
abbrev dktX1_eats_2 : List UInt8 := dkwX1_eats_2 ++ dktX1_eats_3
def dkwX1_eats_1 : List UInt8 := [162, 0, 93, 21, 4, 2, 159, 0, 87, 28, 29, 100, 42, 180, 0, 19, 21, 4, 51, 184, 0, 70, 54, 5]
abbrev dktX1_eats_1 : List UInt8 := dkwX1_eats_1 ++ dktX1_eats_2
def dkwX1_eats_0 : List UInt8 := [42, 180, 0, 3, 27, 182, 0, 60, 182, 0, 73, 61, 3, 62, 42, 27, 182, 0, 77, 54, 4, 29, 28]
abbrev dktX1_eats_0 : List UInt8 := dkwX1_eats_0 ++ dktX1_eats_1
theorem dksX1_eats_0 : cX1_eats.data.toList.drop 0 = dktX1_eats_0 := by decide +kernel
theorem dksX1_eats_1 : cX1_eats.data.toList.drop 23 = dktX1_eats_1 := dk_seg dksX1_eats_0 23 rfl rfl
theorem dksX1_eats_2 : cX1_eats.data.toList.drop 47 = dktX1_eats_2 := dk_seg dksX1_eats_1 24 rfl rfl
theorem dksX1_eats_3 : cX1_eats.data.toList.drop 71 = dktX1_eats_3 := dk_seg dksX1_eats_2 24 rfl rfl
theorem dksX1_eats_4 : cX1_eats.data.toList.drop 95 = dktX1_eats_4 := dk_seg dksX1_eats_3 24 rfl rfl
theorem dX1_eats_0 : decode cX1_eats 0 = .ok (.aload_n 0, 1) := dk_42 (dk_at dksX1_eats_0 0 rfl rfl)
theorem dX1_eats_1 : decode cX1_eats 1 = .ok (.getfield 3, 3) := dk_180 0 3 (dk_at dksX1_eats_0 1 rfl rfl)
theorem dX1_eats_4 : decode cX1_eats 4 = .ok (.iload_n 1, 1) := dk_27 (dk_at dksX1_eats_0 4 rfl rfl)
theorem dX1_eats_5 : decode cX1_eats 5 = .ok (.invokevirtual 60, 3) := dk_182 0 60 (dk_at dksX1_eats_0 5 rfl rfl)
theorem dX1_eats_8 : decode cX1_eats 8 = .ok (.invokevirtual 73, 3) := dk_182 0 73 (dk_at dksX1_eats_0 8 rfl rfl)
theorem dX1_eats_11 : decode cX1_eats 11 = .ok (.istore_n 2, 1) := dk_61 (dk_at dksX1_eats_0 11 rfl rfl)
theorem dX1_eats_12 : decode cX1_eats 12 = .ok (.iconst 0, 1) := dk_3 (dk_at dksX1_eats_0 12 rfl rfl)
theorem dX1_eats_13 : decode cX1_eats 13 = .ok (.istore_n 3, 1) := dk_62 (dk_at dksX1_eats_0 13 rfl rfl)
theorem dX1_eats_14 : decode cX1_eats 14 = .ok (.aload_n 0, 1) := dk_42 (dk_at dksX1_eats_0 14 rfl rfl)
theorem dX1_eats_15 : decode cX1_eats 15 = .ok (.iload_n 1, 1) := dk_27 (dk_at dksX1_eats_0 15 rfl rfl)
theorem dX1_eats_16 : decode cX1_eats 16 = .ok (.invokevirtual 77, 3) := dk_182 0 77 (dk_at dksX1_eats_0 16 rfl rfl)
theorem dX1_eats_19 : decode cX1_eats 19 = .ok (.istore 4, 2) := dk_54 4 (dk_at dksX1_eats_0 19 rfl rfl)
theorem dX1_eats_21 : decode cX1_eats 21 = .ok (.iload_n 3, 1) := dk_29 (dk_at dksX1_eats_0 21 rfl rfl)
theorem dX1_eats_22 : decode cX1_eats 22 = .ok (.iload_n 2, 1) := dk_28 (dk_at dksX1_eats_0 22 rfl rfl)
theorem dX1_eats_23 : decode cX1_eats 23 = .ok (.if_icmp .ge 93, 3) := dk_162 0 93 (dk_at dksX1_eats_1 0 rfl rfl)
theorem dX1_eats_26 : decode cX1_eats 26 = .ok (.iload 4, 2) := dk_21 4 (dk_at dksX1_eats_1 3 rfl rfl)
theorem dX1_eats_28 : decode cX1_eats 28 = .ok (.iconst (-1), 1) := dk_2 (dk_at dksX1_eats_1 5 rfl rfl)
theorem dX1_eats_29 : decode cX1_eats 29 = .ok (.if_icmp .eq 87, 3) := dk_159 0 87 (dk_at dksX1_eats_1 6 rfl rfl)
theorem dX1_eats_32 : decode cX1_eats 32 = .ok (.iload_n 2, 1) := dk_28 (dk_at dksX1_eats_1 9 rfl rfl)
theorem dX1_eats_33 : decode cX1_eats 33 = .ok (.iload_n 3, 1) := dk_29 (dk_at dksX1_eats_1 10 rfl rfl)
theorem dX1_eats_34 : decode cX1_eats 34 = .ok (.isub, 1) := dk_100 (dk_at dksX1_eats_1 11 rfl rfl)
theorem dX1_eats_35 : decode cX1_eats 35 = .ok (.aload_n 0, 1) := dk_42 (dk_at dksX1_eats_1 12 rfl rfl)
theorem dX1_eats_36 : decode cX1_eats 36 = .ok (.getfield 19, 3) := dk_180 0 19 (dk_at dksX1_eats_1 13 rfl rfl)
theorem dX1_eats_39 : decode cX1_eats 39 = .ok (.iload 4, 2) := dk_21 4 (dk_at dksX1_eats_1 16 rfl rfl)
theorem dX1_eats_41 : decode cX1_eats 41 = .ok (.baload, 1) := dk_51 (dk_at dksX1_eats_1 18 rfl rfl)
theorem dX1_eats_42 : decode cX1_eats 42 = .ok (.invokestatic 70, 3) := dk_184 0 70 (dk_at dksX1_eats_1 19 rfl rfl)
theorem dX1_eats_45 : decode cX1_eats 45 = .ok (.istore 5, 2) := dk_54 5 (dk_at dksX1_eats_1 22 rfl rfl)
theorem dX1_eats_47 : decode cX1_eats 47 = .ok (.aload_n 0, 1) := dk_42 (dk_at dksX1_eats_2 0 rfl rfl)
theorem dX1_eats_48 : decode cX1_eats 48 = .ok (.getfield 22, 3) := dk_180 0 22 (dk_at dksX1_eats_2 1 rfl rfl)
theorem dX1_eats_51 : decode cX1_eats 51 = .ok (.iload_n 1, 1) := dk_27 (dk_at dksX1_eats_2 4 rfl rfl)
theorem dX1_eats_52 : decode cX1_eats 52 = .ok (.aload_n 0, 1) := dk_42 (dk_at dksX1_eats_2 5 rfl rfl)
theorem dX1_eats_53 : decode cX1_eats 53 = .ok (.getfield 15, 3) := dk_180 0 15 (dk_at dksX1_eats_2 6 rfl rfl)
theorem dX1_eats_56 : decode cX1_eats 56 = .ok (.iload 4, 2) := dk_21 4 (dk_at dksX1_eats_2 9 rfl rfl)
theorem dX1_eats_58 : decode cX1_eats 58 = .ok (.baload, 1) := dk_51 (dk_at dksX1_eats_2 11 rfl rfl)
theorem dX1_eats_59 : decode cX1_eats 59 = .ok (.bastore, 1) := dk_84 (dk_at dksX1_eats_2 12 rfl rfl)
theorem dX1_eats_60 : decode cX1_eats 60 = .ok (.aload_n 0, 1) := dk_42 (dk_at dksX1_eats_2 13 rfl rfl)
theorem dX1_eats_61 : decode cX1_eats 61 = .ok (.getfield 19, 3) := dk_180 0 19 (dk_at dksX1_eats_2 14 rfl rfl)
theorem dX1_eats_64 : decode cX1_eats 64 = .ok (.iload 4, 2) := dk_21 4 (dk_at dksX1_eats_2 17 rfl rfl)
theorem dX1_eats_66 : decode cX1_eats 66 = .ok (.dup2, 1) := dk_92 (dk_at dksX1_eats_2 19 rfl rfl)
theorem dX1_eats_67 : decode cX1_eats 67 = .ok (.baload, 1) := dk_51 (dk_at dksX1_eats_2 20 rfl rfl)
theorem dX1_eats_68 : decode cX1_eats 68 = .ok (.iload 5, 2) := dk_21 5 (dk_at dksX1_eats_2 21 rfl rfl)
theorem dX1_eats_70 : decode cX1_eats 70 = .ok (.i2b, 1) := dk_145 (dk_at dksX1_eats_2 23 rfl rfl)
theorem dX1_eats_71 : decode cX1_eats 71 = .ok (.isub, 1) := dk_100 (dk_at dksX1_eats_3 0 rfl rfl)
theorem dX1_eats_72 : decode cX1_eats 72 = .ok (.i2b, 1) := dk_145 (dk_at dksX1_eats_3 1 rfl rfl)
theorem dX1_eats_73 : decode cX1_eats 73 = .ok (.bastore, 1) := dk_84 (dk_at dksX1_eats_3 2 rfl rfl)
theorem dX1_eats_74 : decode cX1_eats 74 = .ok (.iload_n 3, 1) := dk_29 (dk_at dksX1_eats_3 3 rfl rfl)
theorem dX1_eats_75 : decode cX1_eats 75 = .ok (.iload 5, 2) := dk_21 5 (dk_at dksX1_eats_3 4 rfl rfl)
theorem dX1_eats_77 : decode cX1_eats 77 = .ok (.iadd, 1) := dk_96 (dk_at dksX1_eats_3 6 rfl rfl)
theorem dX1_eats_78 : decode cX1_eats 78 = .ok (.istore_n 3, 1) := dk_62 (dk_at dksX1_eats_3 7 rfl rfl)
theorem dX1_eats_79 : decode cX1_eats 79 = .ok (.aload_n 0, 1) := dk_42 (dk_at dksX1_eats_3 8 rfl rfl)
theorem dX1_eats_80 : decode cX1_eats 80 = .ok (.getfield 19, 3) := dk_180 0 19 (dk_at dksX1_eats_3 9 rfl rfl)
theorem dX1_eats_83 : decode cX1_eats 83 = .ok (.iload 4, 2) := dk_21 4 (dk_at dksX1_eats_3 12 rfl rfl)
theorem dX1_eats_85 : decode cX1_eats 85 = .ok (.baload, 1) := dk_51 (dk_at dksX1_eats_3 14 rfl rfl)
theorem dX1_eats_86 : decode cX1_eats 86 = .ok (.ifCond .ne 20, 3) := dk_154 0 20 (dk_at dksX1_eats_3 15 rfl rfl)
theorem dX1_eats_89 : decode cX1_eats 89 = .ok (.aload_n 0, 1) := dk_42 (dk_at dksX1_eats_3 18 rfl rfl)
theorem dX1_eats_90 : decode cX1_eats 90 = .ok (.getfield 28, 3) := dk_180 0 28 (dk_at dksX1_eats_3 19 rfl rfl)
theorem dX1_eats_93 : decode cX1_eats 93 = .ok (.iload_n 1, 1) := dk_27 (dk_at dksX1_eats_3 22 rfl rfl)
theorem dX1_eats_94 : decode cX1_eats 94 = .ok (.dup2, 1) := dk_92 (dk_at dksX1_eats_3 23 rfl rfl)
theorem dX1_eats_95 : decode cX1_eats 95 = .ok (.saload, 1) := dk_53 (dk_at dksX1_eats_4 0 rfl rfl)
theorem dX1_eats_96 : decode cX1_eats 96 = .ok (.iconst 1, 1) := dk_4 (dk_at dksX1_eats_4 1 rfl rfl)
theorem dX1_eats_97 : decode cX1_eats 97 = .ok (.iload 4, 2) := dk_21 4 (dk_at dksX1_eats_4 2 rfl rfl)
theorem dX1_eats_99 : decode cX1_eats 99 = .ok (.ishl, 1) := dk_120 (dk_at dksX1_eats_4 4 rfl rfl)
theorem dX1_eats_100 : decode cX1_eats 100 = .ok (.iconst (-1), 1) := dk_2 (dk_at dksX1_eats_4 5 rfl rfl)
theorem dX1_eats_101 : decode cX1_eats 101 = .ok (.ixor, 1) := dk_130 (dk_at dksX1_eats_4 6 rfl rfl)
theorem dX1_eats_102 : decode cX1_eats 102 = .ok (.i2s, 1) := dk_147 (dk_at dksX1_eats_4 7 rfl rfl)
theorem dX1_eats_103 : decode cX1_eats 103 = .ok (.iand, 1) := dk_126 (dk_at dksX1_eats_4 8 rfl rfl)
theorem dX1_eats_104 : decode cX1_eats 104 = .ok (.i2s, 1) := dk_147 (dk_at dksX1_eats_4 9 rfl rfl)
theorem dX1_eats_105 : decode cX1_eats 105 = .ok (.sastore, 1) := dk_86 (dk_at dksX1_eats_4 10 rfl rfl)
theorem dX1_eats_106 : decode cX1_eats 106 = .ok (.aload_n 0, 1) := dk_42 (dk_at dksX1_eats_4 11 rfl rfl)
theorem dX1_eats_107 : decode cX1_eats 107 = .ok (.iload_n 1, 1) := dk_27 (dk_at dksX1_eats_4 12 rfl rfl)
theorem dX1_eats_108 : decode cX1_eats 108 = .ok (.invokevirtual 77, 3) := dk_182 0 77 (dk_at dksX1_eats_4 13 rfl rfl)
theorem dX1_eats_111 : decode cX1_eats 111 = .ok (.istore 4, 2) := dk_54 4 (dk_at dksX1_eats_4 16 rfl rfl)
theorem dX1_eats_113 : decode cX1_eats 113 = .ok (.goto (-92), 3) := dk_167 255 164 (dk_at dksX1_eats_4 18 rfl rfl)
theorem dX1_eats_116 : decode cX1_eats 116 = .ok (.iload_n 3, 1) := dk_29 (dk_at dksX1_eats_4 21 rfl rfl)
theorem dX1_eats_117 : decode cX1_eats 117 = .ok (.ireturn, 1) := dk_172 (dk_at dksX1_eats_4 22 rfl rfl)
abbrev cX1_picks : ByteArray := prog_11_method_6_code
def yX1_picks : MethodName := ⟨RX1, "picks", "(I)I"⟩
def dkwX1_picks_4 : List UInt8 := [28, 61, 29, 21, 5, 184, 0, 70, 62, 132, 4, 1, 167, 255, 161, 28, 172]
abbrev dktX1_picks_4 : List UInt8 := dkwX1_picks_4 ++ []
def dkwX1_picks_3 : List UInt8 := [180, 0, 19, 21, 4, 51, 21, 4, 182, 0, 64, 54, 5, 21, 5, 29, 162, 0, 8, 21, 4, 167, 0, 4]
abbrev dktX1_picks_3 : List UInt8 := dkwX1_picks_3 ++ dktX1_picks_4
def dkwX1_picks_2 : List UInt8 := [180, 0, 3, 27, 182, 0, 60, 42, 27, 21, 4, 182, 0, 51, 42, 180, 0, 15, 21, 4, 51, 42]
abbrev dktX1_picks_2 : List UInt8 := dkwX1_picks_2 ++ dktX1_picks_3
def dkwX1_picks_1 : List UInt8 := [21, 4, 184, 0, 56, 153, 0, 72, 42, 180, 0, 19, 21, 4, 51, 154, 0, 6, 167, 0, 59, 42]
abbrev dktX1_picks_1 : List UInt8 := dkwX1_picks_1 ++ dktX1_picks_2
def dkwX1_picks_0 : List UInt8 := [2, 61, 18, 55, 62, 3, 54, 4, 21, 4, 42, 180, 0, 38, 162, 0, 92, 42, 180, 0, 28, 27, 53]
abbrev dktX1_picks_0 : List UInt8 := dkwX1_picks_0 ++ dktX1_picks_1
theorem dksX1_picks_0 : cX1_picks.data.toList.drop 0 = dktX1_picks_0 := by decide +kernel
theorem dksX1_picks_1 : cX1_picks.data.toList.drop 23 = dktX1_picks_1 := dk_seg dksX1_picks_0 23 rfl rfl
theorem dksX1_picks_2 : cX1_picks.data.toList.drop 45 = dktX1_picks_2 := dk_seg dksX1_picks_1 22 rfl rfl
theorem dksX1_picks_3 : cX1_picks.data.toList.drop 67 = dktX1_picks_3 := dk_seg dksX1_picks_2 22 rfl rfl
theorem dksX1_picks_4 : cX1_picks.data.toList.drop 91 = dktX1_picks_4 := dk_seg dksX1_picks_3 24 rfl rfl
theorem dX1_picks_0 : decode cX1_picks 0 = .ok (.iconst (-1), 1) := dk_2 (dk_at dksX1_picks_0 0 rfl rfl)
theorem dX1_picks_1 : decode cX1_picks 1 = .ok (.istore_n 2, 1) := dk_61 (dk_at dksX1_picks_0 1 rfl rfl)
theorem dX1_picks_2 : decode cX1_picks 2 = .ok (.ldc 55, 2) := dk_18 55 (dk_at dksX1_picks_0 2 rfl rfl)
theorem dX1_picks_4 : decode cX1_picks 4 = .ok (.istore_n 3, 1) := dk_62 (dk_at dksX1_picks_0 4 rfl rfl)
theorem dX1_picks_5 : decode cX1_picks 5 = .ok (.iconst 0, 1) := dk_3 (dk_at dksX1_picks_0 5 rfl rfl)
theorem dX1_picks_6 : decode cX1_picks 6 = .ok (.istore 4, 2) := dk_54 4 (dk_at dksX1_picks_0 6 rfl rfl)
theorem dX1_picks_8 : decode cX1_picks 8 = .ok (.iload 4, 2) := dk_21 4 (dk_at dksX1_picks_0 8 rfl rfl)
theorem dX1_picks_10 : decode cX1_picks 10 = .ok (.aload_n 0, 1) := dk_42 (dk_at dksX1_picks_0 10 rfl rfl)
theorem dX1_picks_11 : decode cX1_picks 11 = .ok (.getfield 38, 3) := dk_180 0 38 (dk_at dksX1_picks_0 11 rfl rfl)
theorem dX1_picks_14 : decode cX1_picks 14 = .ok (.if_icmp .ge 92, 3) := dk_162 0 92 (dk_at dksX1_picks_0 14 rfl rfl)
theorem dX1_picks_17 : decode cX1_picks 17 = .ok (.aload_n 0, 1) := dk_42 (dk_at dksX1_picks_0 17 rfl rfl)
theorem dX1_picks_18 : decode cX1_picks 18 = .ok (.getfield 28, 3) := dk_180 0 28 (dk_at dksX1_picks_0 18 rfl rfl)
theorem dX1_picks_21 : decode cX1_picks 21 = .ok (.iload_n 1, 1) := dk_27 (dk_at dksX1_picks_0 21 rfl rfl)
theorem dX1_picks_22 : decode cX1_picks 22 = .ok (.saload, 1) := dk_53 (dk_at dksX1_picks_0 22 rfl rfl)
theorem dX1_picks_23 : decode cX1_picks 23 = .ok (.iload 4, 2) := dk_21 4 (dk_at dksX1_picks_1 0 rfl rfl)
theorem dX1_picks_25 : decode cX1_picks 25 = .ok (.invokestatic 56, 3) := dk_184 0 56 (dk_at dksX1_picks_1 2 rfl rfl)
theorem dX1_picks_28 : decode cX1_picks 28 = .ok (.ifCond .eq 72, 3) := dk_153 0 72 (dk_at dksX1_picks_1 5 rfl rfl)
theorem dX1_picks_31 : decode cX1_picks 31 = .ok (.aload_n 0, 1) := dk_42 (dk_at dksX1_picks_1 8 rfl rfl)
theorem dX1_picks_32 : decode cX1_picks 32 = .ok (.getfield 19, 3) := dk_180 0 19 (dk_at dksX1_picks_1 9 rfl rfl)
theorem dX1_picks_35 : decode cX1_picks 35 = .ok (.iload 4, 2) := dk_21 4 (dk_at dksX1_picks_1 12 rfl rfl)
theorem dX1_picks_37 : decode cX1_picks 37 = .ok (.baload, 1) := dk_51 (dk_at dksX1_picks_1 14 rfl rfl)
theorem dX1_picks_38 : decode cX1_picks 38 = .ok (.ifCond .ne 6, 3) := dk_154 0 6 (dk_at dksX1_picks_1 15 rfl rfl)
theorem dX1_picks_41 : decode cX1_picks 41 = .ok (.goto 59, 3) := dk_167 0 59 (dk_at dksX1_picks_1 18 rfl rfl)
theorem dX1_picks_44 : decode cX1_picks 44 = .ok (.aload_n 0, 1) := dk_42 (dk_at dksX1_picks_1 21 rfl rfl)
theorem dX1_picks_45 : decode cX1_picks 45 = .ok (.getfield 3, 3) := dk_180 0 3 (dk_at dksX1_picks_2 0 rfl rfl)
theorem dX1_picks_48 : decode cX1_picks 48 = .ok (.iload_n 1, 1) := dk_27 (dk_at dksX1_picks_2 3 rfl rfl)
theorem dX1_picks_49 : decode cX1_picks 49 = .ok (.invokevirtual 60, 3) := dk_182 0 60 (dk_at dksX1_picks_2 4 rfl rfl)
theorem dX1_picks_52 : decode cX1_picks 52 = .ok (.aload_n 0, 1) := dk_42 (dk_at dksX1_picks_2 7 rfl rfl)
theorem dX1_picks_53 : decode cX1_picks 53 = .ok (.iload_n 1, 1) := dk_27 (dk_at dksX1_picks_2 8 rfl rfl)
theorem dX1_picks_54 : decode cX1_picks 54 = .ok (.iload 4, 2) := dk_21 4 (dk_at dksX1_picks_2 9 rfl rfl)
theorem dX1_picks_56 : decode cX1_picks 56 = .ok (.invokevirtual 51, 3) := dk_182 0 51 (dk_at dksX1_picks_2 11 rfl rfl)
theorem dX1_picks_59 : decode cX1_picks 59 = .ok (.aload_n 0, 1) := dk_42 (dk_at dksX1_picks_2 14 rfl rfl)
theorem dX1_picks_60 : decode cX1_picks 60 = .ok (.getfield 15, 3) := dk_180 0 15 (dk_at dksX1_picks_2 15 rfl rfl)
theorem dX1_picks_63 : decode cX1_picks 63 = .ok (.iload 4, 2) := dk_21 4 (dk_at dksX1_picks_2 18 rfl rfl)
theorem dX1_picks_65 : decode cX1_picks 65 = .ok (.baload, 1) := dk_51 (dk_at dksX1_picks_2 20 rfl rfl)
theorem dX1_picks_66 : decode cX1_picks 66 = .ok (.aload_n 0, 1) := dk_42 (dk_at dksX1_picks_2 21 rfl rfl)
theorem dX1_picks_67 : decode cX1_picks 67 = .ok (.getfield 19, 3) := dk_180 0 19 (dk_at dksX1_picks_3 0 rfl rfl)
theorem dX1_picks_70 : decode cX1_picks 70 = .ok (.iload 4, 2) := dk_21 4 (dk_at dksX1_picks_3 3 rfl rfl)
theorem dX1_picks_72 : decode cX1_picks 72 = .ok (.baload, 1) := dk_51 (dk_at dksX1_picks_3 5 rfl rfl)
theorem dX1_picks_73 : decode cX1_picks 73 = .ok (.iload 4, 2) := dk_21 4 (dk_at dksX1_picks_3 6 rfl rfl)
theorem dX1_picks_75 : decode cX1_picks 75 = .ok (.invokevirtual 64, 3) := dk_182 0 64 (dk_at dksX1_picks_3 8 rfl rfl)
theorem dX1_picks_78 : decode cX1_picks 78 = .ok (.istore 5, 2) := dk_54 5 (dk_at dksX1_picks_3 11 rfl rfl)
theorem dX1_picks_80 : decode cX1_picks 80 = .ok (.iload 5, 2) := dk_21 5 (dk_at dksX1_picks_3 13 rfl rfl)
theorem dX1_picks_82 : decode cX1_picks 82 = .ok (.iload_n 3, 1) := dk_29 (dk_at dksX1_picks_3 15 rfl rfl)
theorem dX1_picks_83 : decode cX1_picks 83 = .ok (.if_icmp .ge 8, 3) := dk_162 0 8 (dk_at dksX1_picks_3 16 rfl rfl)
theorem dX1_picks_86 : decode cX1_picks 86 = .ok (.iload 4, 2) := dk_21 4 (dk_at dksX1_picks_3 19 rfl rfl)
theorem dX1_picks_88 : decode cX1_picks 88 = .ok (.goto 4, 3) := dk_167 0 4 (dk_at dksX1_picks_3 21 rfl rfl)
theorem dX1_picks_91 : decode cX1_picks 91 = .ok (.iload_n 2, 1) := dk_28 (dk_at dksX1_picks_4 0 rfl rfl)
theorem dX1_picks_92 : decode cX1_picks 92 = .ok (.istore_n 2, 1) := dk_61 (dk_at dksX1_picks_4 1 rfl rfl)
theorem dX1_picks_93 : decode cX1_picks 93 = .ok (.iload_n 3, 1) := dk_29 (dk_at dksX1_picks_4 2 rfl rfl)
theorem dX1_picks_94 : decode cX1_picks 94 = .ok (.iload 5, 2) := dk_21 5 (dk_at dksX1_picks_4 3 rfl rfl)
theorem dX1_picks_96 : decode cX1_picks 96 = .ok (.invokestatic 70, 3) := dk_184 0 70 (dk_at dksX1_picks_4 5 rfl rfl)
theorem dX1_picks_99 : decode cX1_picks 99 = .ok (.istore_n 3, 1) := dk_62 (dk_at dksX1_picks_4 8 rfl rfl)
theorem dX1_picks_100 : decode cX1_picks 100 = .ok (.iinc 4 1, 3) := dk_132 4 1 (dk_at dksX1_picks_4 9 rfl rfl)
theorem dX1_picks_103 : decode cX1_picks 103 = .ok (.goto (-95), 3) := dk_167 255 161 (dk_at dksX1_picks_4 12 rfl rfl)
theorem dX1_picks_106 : decode cX1_picks 106 = .ok (.iload_n 2, 1) := dk_28 (dk_at dksX1_picks_4 15 rfl rfl)
theorem dX1_picks_107 : decode cX1_picks 107 = .ok (.ireturn, 1) := dk_172 (dk_at dksX1_picks_4 16 rfl rfl)
abbrev cX1_alive : ByteArray := prog_11_method_10_code
def yX1_alive : MethodName := ⟨RX1, "alive", "()I"⟩
def dkwX1_alive_1 : List UInt8 := [3, 167, 0, 6, 4, 28, 120, 128, 60, 132, 2, 1, 167, 255, 224, 27, 172]
abbrev dktX1_alive_1 : List UInt8 := dkwX1_alive_1 ++ []
def dkwX1_alive_0 : List UInt8 := [3, 60, 3, 61, 28, 42, 180, 0, 3, 180, 0, 83, 162, 0, 27, 27, 42, 28, 182, 0, 86, 153, 0, 7]
abbrev dktX1_alive_0 : List UInt8 := dkwX1_alive_0 ++ dktX1_alive_1
theorem dksX1_alive_0 : cX1_alive.data.toList.drop 0 = dktX1_alive_0 := by decide +kernel
theorem dksX1_alive_1 : cX1_alive.data.toList.drop 24 = dktX1_alive_1 := dk_seg dksX1_alive_0 24 rfl rfl
theorem dX1_alive_0 : decode cX1_alive 0 = .ok (.iconst 0, 1) := dk_3 (dk_at dksX1_alive_0 0 rfl rfl)
theorem dX1_alive_1 : decode cX1_alive 1 = .ok (.istore_n 1, 1) := dk_60 (dk_at dksX1_alive_0 1 rfl rfl)
theorem dX1_alive_2 : decode cX1_alive 2 = .ok (.iconst 0, 1) := dk_3 (dk_at dksX1_alive_0 2 rfl rfl)
theorem dX1_alive_3 : decode cX1_alive 3 = .ok (.istore_n 2, 1) := dk_61 (dk_at dksX1_alive_0 3 rfl rfl)
theorem dX1_alive_4 : decode cX1_alive 4 = .ok (.iload_n 2, 1) := dk_28 (dk_at dksX1_alive_0 4 rfl rfl)
theorem dX1_alive_5 : decode cX1_alive 5 = .ok (.aload_n 0, 1) := dk_42 (dk_at dksX1_alive_0 5 rfl rfl)
theorem dX1_alive_6 : decode cX1_alive 6 = .ok (.getfield 3, 3) := dk_180 0 3 (dk_at dksX1_alive_0 6 rfl rfl)
theorem dX1_alive_9 : decode cX1_alive 9 = .ok (.getfield 83, 3) := dk_180 0 83 (dk_at dksX1_alive_0 9 rfl rfl)
theorem dX1_alive_12 : decode cX1_alive 12 = .ok (.if_icmp .ge 27, 3) := dk_162 0 27 (dk_at dksX1_alive_0 12 rfl rfl)
theorem dX1_alive_15 : decode cX1_alive 15 = .ok (.iload_n 1, 1) := dk_27 (dk_at dksX1_alive_0 15 rfl rfl)
theorem dX1_alive_16 : decode cX1_alive 16 = .ok (.aload_n 0, 1) := dk_42 (dk_at dksX1_alive_0 16 rfl rfl)
theorem dX1_alive_17 : decode cX1_alive 17 = .ok (.iload_n 2, 1) := dk_28 (dk_at dksX1_alive_0 17 rfl rfl)
theorem dX1_alive_18 : decode cX1_alive 18 = .ok (.invokevirtual 86, 3) := dk_182 0 86 (dk_at dksX1_alive_0 18 rfl rfl)
theorem dX1_alive_21 : decode cX1_alive 21 = .ok (.ifCond .eq 7, 3) := dk_153 0 7 (dk_at dksX1_alive_0 21 rfl rfl)
theorem dX1_alive_24 : decode cX1_alive 24 = .ok (.iconst 0, 1) := dk_3 (dk_at dksX1_alive_1 0 rfl rfl)
theorem dX1_alive_25 : decode cX1_alive 25 = .ok (.goto 6, 3) := dk_167 0 6 (dk_at dksX1_alive_1 1 rfl rfl)
theorem dX1_alive_28 : decode cX1_alive 28 = .ok (.iconst 1, 1) := dk_4 (dk_at dksX1_alive_1 4 rfl rfl)
theorem dX1_alive_29 : decode cX1_alive 29 = .ok (.iload_n 2, 1) := dk_28 (dk_at dksX1_alive_1 5 rfl rfl)
theorem dX1_alive_30 : decode cX1_alive 30 = .ok (.ishl, 1) := dk_120 (dk_at dksX1_alive_1 6 rfl rfl)
theorem dX1_alive_31 : decode cX1_alive 31 = .ok (.ior, 1) := dk_128 (dk_at dksX1_alive_1 7 rfl rfl)
theorem dX1_alive_32 : decode cX1_alive 32 = .ok (.istore_n 1, 1) := dk_60 (dk_at dksX1_alive_1 8 rfl rfl)
theorem dX1_alive_33 : decode cX1_alive 33 = .ok (.iinc 2 1, 3) := dk_132 2 1 (dk_at dksX1_alive_1 9 rfl rfl)
theorem dX1_alive_36 : decode cX1_alive 36 = .ok (.goto (-32), 3) := dk_167 255 224 (dk_at dksX1_alive_1 12 rfl rfl)
theorem dX1_alive_39 : decode cX1_alive 39 = .ok (.iload_n 1, 1) := dk_27 (dk_at dksX1_alive_1 15 rfl rfl)
theorem dX1_alive_40 : decode cX1_alive 40 = .ok (.ireturn, 1) := dk_172 (dk_at dksX1_alive_1 16 rfl rfl)
abbrev cX1_stored : ByteArray := prog_11_method_11_code
def yX1_stored : MethodName := ⟨RX1, "stored", "()I"⟩
def dkwX1_stored_1 : List UInt8 := [120, 167, 0, 4, 3, 128, 60, 132, 2, 1, 167, 255, 226, 27, 172]
abbrev dktX1_stored_1 : List UInt8 := dkwX1_stored_1 ++ []
def dkwX1_stored_0 : List UInt8 := [3, 60, 3, 61, 28, 42, 180, 0, 38, 162, 0, 28, 27, 42, 180, 0, 19, 28, 51, 158, 0, 9, 4, 28]
abbrev dktX1_stored_0 : List UInt8 := dkwX1_stored_0 ++ dktX1_stored_1
theorem dksX1_stored_0 : cX1_stored.data.toList.drop 0 = dktX1_stored_0 := by decide +kernel
theorem dksX1_stored_1 : cX1_stored.data.toList.drop 24 = dktX1_stored_1 := dk_seg dksX1_stored_0 24 rfl rfl
theorem dX1_stored_0 : decode cX1_stored 0 = .ok (.iconst 0, 1) := dk_3 (dk_at dksX1_stored_0 0 rfl rfl)
theorem dX1_stored_1 : decode cX1_stored 1 = .ok (.istore_n 1, 1) := dk_60 (dk_at dksX1_stored_0 1 rfl rfl)
theorem dX1_stored_2 : decode cX1_stored 2 = .ok (.iconst 0, 1) := dk_3 (dk_at dksX1_stored_0 2 rfl rfl)
theorem dX1_stored_3 : decode cX1_stored 3 = .ok (.istore_n 2, 1) := dk_61 (dk_at dksX1_stored_0 3 rfl rfl)
theorem dX1_stored_4 : decode cX1_stored 4 = .ok (.iload_n 2, 1) := dk_28 (dk_at dksX1_stored_0 4 rfl rfl)
theorem dX1_stored_5 : decode cX1_stored 5 = .ok (.aload_n 0, 1) := dk_42 (dk_at dksX1_stored_0 5 rfl rfl)
theorem dX1_stored_6 : decode cX1_stored 6 = .ok (.getfield 38, 3) := dk_180 0 38 (dk_at dksX1_stored_0 6 rfl rfl)
theorem dX1_stored_9 : decode cX1_stored 9 = .ok (.if_icmp .ge 28, 3) := dk_162 0 28 (dk_at dksX1_stored_0 9 rfl rfl)
theorem dX1_stored_12 : decode cX1_stored 12 = .ok (.iload_n 1, 1) := dk_27 (dk_at dksX1_stored_0 12 rfl rfl)
theorem dX1_stored_13 : decode cX1_stored 13 = .ok (.aload_n 0, 1) := dk_42 (dk_at dksX1_stored_0 13 rfl rfl)
theorem dX1_stored_14 : decode cX1_stored 14 = .ok (.getfield 19, 3) := dk_180 0 19 (dk_at dksX1_stored_0 14 rfl rfl)
theorem dX1_stored_17 : decode cX1_stored 17 = .ok (.iload_n 2, 1) := dk_28 (dk_at dksX1_stored_0 17 rfl rfl)
theorem dX1_stored_18 : decode cX1_stored 18 = .ok (.baload, 1) := dk_51 (dk_at dksX1_stored_0 18 rfl rfl)
theorem dX1_stored_19 : decode cX1_stored 19 = .ok (.ifCond .le 9, 3) := dk_158 0 9 (dk_at dksX1_stored_0 19 rfl rfl)
theorem dX1_stored_22 : decode cX1_stored 22 = .ok (.iconst 1, 1) := dk_4 (dk_at dksX1_stored_0 22 rfl rfl)
theorem dX1_stored_23 : decode cX1_stored 23 = .ok (.iload_n 2, 1) := dk_28 (dk_at dksX1_stored_0 23 rfl rfl)
theorem dX1_stored_24 : decode cX1_stored 24 = .ok (.ishl, 1) := dk_120 (dk_at dksX1_stored_1 0 rfl rfl)
theorem dX1_stored_25 : decode cX1_stored 25 = .ok (.goto 4, 3) := dk_167 0 4 (dk_at dksX1_stored_1 1 rfl rfl)
theorem dX1_stored_28 : decode cX1_stored 28 = .ok (.iconst 0, 1) := dk_3 (dk_at dksX1_stored_1 4 rfl rfl)
theorem dX1_stored_29 : decode cX1_stored 29 = .ok (.ior, 1) := dk_128 (dk_at dksX1_stored_1 5 rfl rfl)
theorem dX1_stored_30 : decode cX1_stored 30 = .ok (.istore_n 1, 1) := dk_60 (dk_at dksX1_stored_1 6 rfl rfl)
theorem dX1_stored_31 : decode cX1_stored 31 = .ok (.iinc 2 1, 3) := dk_132 2 1 (dk_at dksX1_stored_1 7 rfl rfl)
theorem dX1_stored_34 : decode cX1_stored 34 = .ok (.goto (-30), 3) := dk_167 255 226 (dk_at dksX1_stored_1 10 rfl rfl)
theorem dX1_stored_37 : decode cX1_stored 37 = .ok (.iload_n 1, 1) := dk_27 (dk_at dksX1_stored_1 13 rfl rfl)
theorem dX1_stored_38 : decode cX1_stored 38 = .ok (.ireturn, 1) := dk_172 (dk_at dksX1_stored_1 14 rfl rfl)
theorem q50 : (Jvm.Cond.initialized "NutCaches$State") ∈ lw_all := lw_g (lw_at lw_m1 2 rfl) rfl
theorem q107 : (Jvm.Cond.instantiable "NutCaches$State" (9 : Nat)) ∈ lw_all := lw_g (lw_at lw_m1 59 rfl) rfl
theorem q109 : (Jvm.Cond.instanceMethod ({ cls := "NutCaches$State", name := "<init>", desc := "(LNutCaches;)V" } : Jvm.MethodName)) ∈ lw_all := lw_g (lw_at lw_m1 61 rfl) rfl
theorem q110 : (Jvm.Cond.code ({ cls := "NutCaches$State", name := "<init>", desc := "(LNutCaches;)V" } : Jvm.MethodName) prog_11_method_1_code (2 : Nat) (Option.none : Option Jvm.ClassFile.FieldType)) ∈ lw_all := lw_g (lw_at lw_m1 62 rfl) rfl
theorem q111 : (Jvm.Cond.methodLink "NutCaches$State" (9 : Nat) ({ cls := "java/lang/Object", name := "<init>", desc := "()V" } : Jvm.MethodName)) ∈ lw_all := lw_g (lw_at lw_m1 63 rfl) rfl
theorem q112 : (Jvm.Cond.fieldLink "NutCaches$State" (15 : Nat) "NutCaches$State" "place" "[B") ∈ lw_all := lw_g (lw_at lw_m1 64 rfl) rfl
theorem q114 : (Jvm.Cond.fieldLink "NutCaches$State" (19 : Nat) "NutCaches$State" "nuts" "[B") ∈ lw_all := lw_g (lw_at lw_m1 66 rfl) rfl
theorem q117 : (Jvm.Cond.fieldLink "NutCaches$State" (38 : Nat) "NutCaches$State" "pits" "I") ∈ lw_all := lw_g (lw_at lw_m1 69 rfl) rfl
theorem q119 : (Jvm.Cond.fieldLink "NutCaches$State" (22 : Nat) "NutCaches$State" "at" "[B") ∈ lw_all := lw_g (lw_at lw_m1 71 rfl) rfl
theorem q121 : (Jvm.Cond.fieldLink "NutCaches$State" (25 : Nat) "NutCaches$State" "lean" "[B") ∈ lw_all := lw_g (lw_at lw_m1 73 rfl) rfl
theorem q123 : (Jvm.Cond.fieldLink "NutCaches$State" (28 : Nat) "NutCaches$State" "knows" "[S") ∈ lw_all := lw_g (lw_at lw_m1 75 rfl) rfl
theorem q125 : (Jvm.Cond.fieldLink "NutCaches$State" (42 : Nat) "NutCaches$State" "day" "I") ∈ lw_all := lw_g (lw_at lw_m1 77 rfl) rfl
theorem q127 : (Jvm.Cond.fieldLink "NutCaches$State" (80 : Nat) "NutCaches$State" "hungry" "I") ∈ lw_all := lw_g (lw_at lw_m1 79 rfl) rfl
theorem q129 : (Jvm.Cond.fieldLink "NutCaches$State" (3 : Nat) "NutCaches$State" "this$0" "LNutCaches;") ∈ lw_all := lw_g (lw_at lw_m1 81 rfl) rfl
theorem q130 : (Jvm.Cond.laysFinal "NutCaches$State" "NutCaches$State" "place" "[B") ∈ lw_all := lw_g (lw_at lw_m1 82 rfl) rfl
theorem q131 : (Jvm.Cond.soleField "NutCaches$State" "place") ∈ lw_all := lw_g (lw_at lw_m1 83 rfl) rfl
theorem q132 : (Jvm.Cond.laysFinal "NutCaches$State" "NutCaches$State" "nuts" "[B") ∈ lw_all := lw_g (lw_at lw_m1 84 rfl) rfl
theorem q133 : (Jvm.Cond.soleField "NutCaches$State" "nuts") ∈ lw_all := lw_g (lw_at lw_m1 85 rfl) rfl
theorem q134 : (Jvm.Cond.lays "NutCaches$State" "NutCaches$State" "pits" "I") ∈ lw_all := lw_g (lw_at lw_m1 86 rfl) rfl
theorem q135 : (Jvm.Cond.soleField "NutCaches$State" "pits") ∈ lw_all := lw_g (lw_at lw_m1 87 rfl) rfl
theorem q136 : (Jvm.Cond.laysFinal "NutCaches$State" "NutCaches$State" "at" "[B") ∈ lw_all := lw_g (lw_at lw_m1 88 rfl) rfl
theorem q137 : (Jvm.Cond.soleField "NutCaches$State" "at") ∈ lw_all := lw_g (lw_at lw_m1 89 rfl) rfl
theorem q138 : (Jvm.Cond.laysFinal "NutCaches$State" "NutCaches$State" "lean" "[B") ∈ lw_all := lw_g (lw_at lw_m1 90 rfl) rfl
theorem q139 : (Jvm.Cond.soleField "NutCaches$State" "lean") ∈ lw_all := lw_g (lw_at lw_m1 91 rfl) rfl
theorem q140 : (Jvm.Cond.laysFinal "NutCaches$State" "NutCaches$State" "knows" "[S") ∈ lw_all := lw_g (lw_at lw_m1 92 rfl) rfl
theorem q141 : (Jvm.Cond.soleField "NutCaches$State" "knows") ∈ lw_all := lw_g (lw_at lw_m1 93 rfl) rfl
theorem q142 : (Jvm.Cond.lays "NutCaches$State" "NutCaches$State" "day" "I") ∈ lw_all := lw_g (lw_at lw_m1 94 rfl) rfl
theorem q143 : (Jvm.Cond.soleField "NutCaches$State" "day") ∈ lw_all := lw_g (lw_at lw_m1 95 rfl) rfl
theorem q144 : (Jvm.Cond.lays "NutCaches$State" "NutCaches$State" "hungry" "I") ∈ lw_all := lw_g (lw_at lw_m1 96 rfl) rfl
theorem q145 : (Jvm.Cond.soleField "NutCaches$State" "hungry") ∈ lw_all := lw_g (lw_at lw_m1 97 rfl) rfl
theorem q146 : (Jvm.Cond.laysFinal "NutCaches$State" "NutCaches$State" "this$0" "LNutCaches;") ∈ lw_all := lw_g (lw_at lw_m1 98 rfl) rfl
theorem q147 : (Jvm.Cond.soleField "NutCaches$State" "this$0") ∈ lw_all := lw_g (lw_at lw_m1 99 rfl) rfl
theorem q148 : (Jvm.Cond.superclass "NutCaches$State" "java/lang/Object") ∈ lw_all := lw_g (lw_at lw_m1 100 rfl) rfl
theorem q161 : (Jvm.Cond.instanceMethod ({ cls := "NutCaches$State", name := "set", desc := "(LNutCaches$State;)LNutCaches$State;" } : Jvm.MethodName)) ∈ lw_all := lw_g (lw_at lw_m1 113 rfl) rfl
theorem q162 : (Jvm.Cond.selects "NutCaches$State" ({ cls := "NutCaches$State", name := "set", desc := "(LNutCaches$State;)LNutCaches$State;" } : Jvm.MethodName) ({ cls := "NutCaches$State", name := "set", desc := "(LNutCaches$State;)LNutCaches$State;" } : Jvm.MethodName)) ∈ lw_all := lw_g (lw_at lw_m1 114 rfl) rfl
theorem q163 : (Jvm.Cond.code ({ cls := "NutCaches$State", name := "set", desc := "(LNutCaches$State;)LNutCaches$State;" } : Jvm.MethodName) prog_11_method_2_code (2 : Nat) (Option.some (Jvm.ClassFile.FieldType.object "NutCaches$State"))) ∈ lw_all := lw_g (lw_at lw_m1 115 rfl) rfl
theorem q164 : (Jvm.Cond.methodLink "NutCaches$State" (32 : Nat) ({ cls := "java/lang/System", name := "arraycopy", desc := "(Ljava/lang/Object;ILjava/lang/Object;II)V" } : Jvm.MethodName)) ∈ lw_all := lw_g (lw_at lw_m1 116 rfl) rfl
theorem q172 : (Jvm.Cond.fieldLinkNest "NutCaches$State" (83 : Nat) "NutCaches" "many" "I" "NutCaches") ∈ lw_tbl := lw_at lw_m1 124 rfl
theorem q617 : (Jvm.Cond.selects "NutCaches$State" ({ cls := "java/lang/Object", name := "equals", desc := "(Ljava/lang/Object;)Z" } : Jvm.MethodName) ({ cls := "java/lang/Object", name := "equals", desc := "(Ljava/lang/Object;)Z" } : Jvm.MethodName)) ∈ lw_all := lw_g (lw_at lw_m3 89 rfl) rfl
theorem q766 : (Jvm.Cond.fieldLink "NutCaches$State" (104 : Nat) "NutCaches$Squirrel" "needs" "I") ∈ lw_all := lw_g (lw_at lw_m3 238 rfl) rfl
theorem q925 : (Jvm.Cond.instanceMethod ({ cls := "NutCaches$State", name := "pass", desc := "(I)LNutCaches$State;" } : Jvm.MethodName)) ∈ lw_all := lw_g (lw_at lw_m4 157 rfl) rfl
theorem q926 : (Jvm.Cond.selects "NutCaches$State" ({ cls := "NutCaches$State", name := "pass", desc := "(I)LNutCaches$State;" } : Jvm.MethodName) ({ cls := "NutCaches$State", name := "pass", desc := "(I)LNutCaches$State;" } : Jvm.MethodName)) ∈ lw_all := lw_g (lw_at lw_m4 158 rfl) rfl
theorem q927 : (Jvm.Cond.code ({ cls := "NutCaches$State", name := "pass", desc := "(I)LNutCaches$State;" } : Jvm.MethodName) prog_11_method_9_code (3 : Nat) (Option.some (Jvm.ClassFile.FieldType.object "NutCaches$State"))) ∈ lw_all := lw_g (lw_at lw_m4 159 rfl) rfl
theorem q928 : (Jvm.Cond.methodLink "NutCaches$State" (110 : Nat) ({ cls := "NutCaches$State", name := "pass", desc := "()V" } : Jvm.MethodName)) ∈ lw_all := lw_g (lw_at lw_m4 160 rfl) rfl
theorem q929 : (Jvm.Cond.instanceMethod ({ cls := "NutCaches$State", name := "pass", desc := "()V" } : Jvm.MethodName)) ∈ lw_all := lw_g (lw_at lw_m4 161 rfl) rfl
theorem q930 : (Jvm.Cond.selects "NutCaches$State" ({ cls := "NutCaches$State", name := "pass", desc := "()V" } : Jvm.MethodName) ({ cls := "NutCaches$State", name := "pass", desc := "()V" } : Jvm.MethodName)) ∈ lw_all := lw_g (lw_at lw_m4 162 rfl) rfl
theorem q931 : (Jvm.Cond.code ({ cls := "NutCaches$State", name := "pass", desc := "()V" } : Jvm.MethodName) prog_11_method_8_code (2 : Nat) (Option.none : Option Jvm.ClassFile.FieldType)) ∈ lw_all := lw_g (lw_at lw_m4 163 rfl) rfl
theorem q932 : (Jvm.Cond.methodLink "NutCaches$State" (86 : Nat) ({ cls := "NutCaches$State", name := "isGone", desc := "(I)Z" } : Jvm.MethodName)) ∈ lw_all := lw_g (lw_at lw_m4 164 rfl) rfl
theorem q933 : (Jvm.Cond.instanceMethod ({ cls := "NutCaches$State", name := "isGone", desc := "(I)Z" } : Jvm.MethodName)) ∈ lw_all := lw_g (lw_at lw_m4 165 rfl) rfl
theorem q934 : (Jvm.Cond.selects "NutCaches$State" ({ cls := "NutCaches$State", name := "isGone", desc := "(I)Z" } : Jvm.MethodName) ({ cls := "NutCaches$State", name := "isGone", desc := "(I)Z" } : Jvm.MethodName)) ∈ lw_all := lw_g (lw_at lw_m4 166 rfl) rfl
theorem q935 : (Jvm.Cond.code ({ cls := "NutCaches$State", name := "isGone", desc := "(I)Z" } : Jvm.MethodName) prog_11_method_3_code (2 : Nat) (Option.some Jvm.ClassFile.FieldType.boolean)) ∈ lw_all := lw_g (lw_at lw_m4 167 rfl) rfl
theorem q936 : (Jvm.Cond.methodLinkNest "NutCaches$State" (60 : Nat) ({ cls := "NutCaches", name := "squirrel", desc := "(I)LNutCaches$Squirrel;" } : Jvm.MethodName) "NutCaches") ∈ lw_tbl := lw_at lw_m4 168 rfl
theorem q948 : (Jvm.Cond.methodLink "NutCaches$State" (94 : Nat) ({ cls := "NutCaches$State", name := "spy", desc := "(I)V" } : Jvm.MethodName)) ∈ lw_all := lw_g (lw_at lw_m4 180 rfl) rfl
theorem q949 : (Jvm.Cond.privateMethod ({ cls := "NutCaches$State", name := "spy", desc := "(I)V" } : Jvm.MethodName)) ∈ lw_tbl := lw_at lw_m4 181 rfl
theorem q950 : (Jvm.Cond.instanceMethod ({ cls := "NutCaches$State", name := "spy", desc := "(I)V" } : Jvm.MethodName)) ∈ lw_all := lw_g (lw_at lw_m4 182 rfl) rfl
theorem q951 : (Jvm.Cond.code ({ cls := "NutCaches$State", name := "spy", desc := "(I)V" } : Jvm.MethodName) prog_11_method_5_code (3 : Nat) (Option.none : Option Jvm.ClassFile.FieldType)) ∈ lw_all := lw_g (lw_at lw_m4 183 rfl) rfl
theorem q952 : (Jvm.Cond.methodLink "NutCaches$State" (51 : Nat) ({ cls := "NutCaches$State", name := "off", desc := "(II)I" } : Jvm.MethodName)) ∈ lw_all := lw_g (lw_at lw_m4 184 rfl) rfl
theorem q953 : (Jvm.Cond.privateMethod ({ cls := "NutCaches$State", name := "off", desc := "(II)I" } : Jvm.MethodName)) ∈ lw_tbl := lw_at lw_m4 185 rfl
theorem q954 : (Jvm.Cond.instanceMethod ({ cls := "NutCaches$State", name := "off", desc := "(II)I" } : Jvm.MethodName)) ∈ lw_all := lw_g (lw_at lw_m4 186 rfl) rfl
theorem q955 : (Jvm.Cond.code ({ cls := "NutCaches$State", name := "off", desc := "(II)I" } : Jvm.MethodName) prog_11_method_4_code (3 : Nat) (Option.some Jvm.ClassFile.FieldType.int)) ∈ lw_all := lw_g (lw_at lw_m4 187 rfl) rfl
theorem q956 : (Jvm.Cond.methodLink "NutCaches$State" (45 : Nat) ({ cls := "java/lang/Math", name := "abs", desc := "(I)I" } : Jvm.MethodName)) ∈ lw_all := lw_g (lw_at lw_m4 188 rfl) rfl
theorem q973 : (Jvm.Cond.methodLink "NutCaches$State" (101 : Nat) ({ cls := "NutCaches$State", name := "eats", desc := "(I)I" } : Jvm.MethodName)) ∈ lw_all := lw_g (lw_at lw_m4 205 rfl) rfl
theorem q974 : (Jvm.Cond.privateMethod ({ cls := "NutCaches$State", name := "eats", desc := "(I)I" } : Jvm.MethodName)) ∈ lw_tbl := lw_at lw_m4 206 rfl
theorem q975 : (Jvm.Cond.instanceMethod ({ cls := "NutCaches$State", name := "eats", desc := "(I)I" } : Jvm.MethodName)) ∈ lw_all := lw_g (lw_at lw_m4 207 rfl) rfl
theorem q976 : (Jvm.Cond.code ({ cls := "NutCaches$State", name := "eats", desc := "(I)I" } : Jvm.MethodName) prog_11_method_7_code (6 : Nat) (Option.some Jvm.ClassFile.FieldType.int)) ∈ lw_all := lw_g (lw_at lw_m4 208 rfl) rfl
theorem q977 : (Jvm.Cond.methodLink "NutCaches$State" (73 : Nat) ({ cls := "NutCaches$Squirrel", name := "wants", desc := "()I" } : Jvm.MethodName)) ∈ lw_all := lw_g (lw_at lw_m4 209 rfl) rfl
theorem q978 : (Jvm.Cond.methodLink "NutCaches$State" (77 : Nat) ({ cls := "NutCaches$State", name := "picks", desc := "(I)I" } : Jvm.MethodName)) ∈ lw_all := lw_g (lw_at lw_m4 210 rfl) rfl
theorem q979 : (Jvm.Cond.privateMethod ({ cls := "NutCaches$State", name := "picks", desc := "(I)I" } : Jvm.MethodName)) ∈ lw_tbl := lw_at lw_m4 211 rfl
theorem q980 : (Jvm.Cond.instanceMethod ({ cls := "NutCaches$State", name := "picks", desc := "(I)I" } : Jvm.MethodName)) ∈ lw_all := lw_g (lw_at lw_m4 212 rfl) rfl
theorem q981 : (Jvm.Cond.code ({ cls := "NutCaches$State", name := "picks", desc := "(I)I" } : Jvm.MethodName) prog_11_method_6_code (6 : Nat) (Option.some Jvm.ClassFile.FieldType.int)) ∈ lw_all := lw_g (lw_at lw_m4 213 rfl) rfl
theorem q982 : (Jvm.Cond.constant "NutCaches$State" (55 : Nat) (999999 : Int32)) ∈ lw_all := lw_g (lw_at lw_m4 214 rfl) rfl
theorem q983 : (Jvm.Cond.methodLinkNest "NutCaches$State" (56 : Nat) ({ cls := "NutCaches", name := "has", desc := "(II)Z" } : Jvm.MethodName) "NutCaches") ∈ lw_tbl := lw_at lw_m4 215 rfl
theorem q997 : (Jvm.Cond.methodLink "NutCaches$State" (70 : Nat) ({ cls := "java/lang/Math", name := "min", desc := "(II)I" } : Jvm.MethodName)) ∈ lw_all := lw_g (lw_at lw_m4 229 rfl) rfl
theorem q998 : (Jvm.Cond.methodLink "NutCaches$State" (107 : Nat) ({ cls := "java/lang/Math", name := "max", desc := "(II)I" } : Jvm.MethodName)) ∈ lw_all := lw_g (lw_at lw_m4 230 rfl) rfl
theorem q1050 : (Jvm.Cond.instanceMethod ({ cls := "NutCaches$State", name := "alive", desc := "()I" } : Jvm.MethodName)) ∈ lw_all := lw_g (lw_at lw_m5 42 rfl) rfl
theorem q1051 : (Jvm.Cond.selects "NutCaches$State" ({ cls := "NutCaches$State", name := "alive", desc := "()I" } : Jvm.MethodName) ({ cls := "NutCaches$State", name := "alive", desc := "()I" } : Jvm.MethodName)) ∈ lw_all := lw_g (lw_at lw_m5 43 rfl) rfl
theorem q1052 : (Jvm.Cond.code ({ cls := "NutCaches$State", name := "alive", desc := "()I" } : Jvm.MethodName) prog_11_method_10_code (3 : Nat) (Option.some Jvm.ClassFile.FieldType.int)) ∈ lw_all := lw_g (lw_at lw_m5 44 rfl) rfl
theorem q1081 : (Jvm.Cond.instanceMethod ({ cls := "NutCaches$State", name := "stored", desc := "()I" } : Jvm.MethodName)) ∈ lw_all := lw_g (lw_at lw_m5 73 rfl) rfl
theorem q1082 : (Jvm.Cond.selects "NutCaches$State" ({ cls := "NutCaches$State", name := "stored", desc := "()I" } : Jvm.MethodName) ({ cls := "NutCaches$State", name := "stored", desc := "()I" } : Jvm.MethodName)) ∈ lw_all := lw_g (lw_at lw_m5 74 rfl) rfl
theorem q1083 : (Jvm.Cond.code ({ cls := "NutCaches$State", name := "stored", desc := "()I" } : Jvm.MethodName) prog_11_method_11_code (3 : Nat) (Option.some Jvm.ClassFile.FieldType.int)) ∈ lw_all := lw_g (lw_at lw_m5 75 rfl) rfl
theorem q1430 : (Jvm.Cond.selects "NutCaches$State" ({ cls := "java/lang/Object", name := "getClass", desc := "()Ljava/lang/Class;" } : Jvm.MethodName) ({ cls := "java/lang/Object", name := "getClass", desc := "()Ljava/lang/Class;" } : Jvm.MethodName)) ∈ lw_all := lw_g (lw_at lw_m6 182 rfl) rfl
theorem q2204 : (Jvm.Cond.castable "NutCaches$State" "java/lang/Object") ∈ lw_tbl := lw_at lw_m9 236 rfl
theorem in_X1 : ∀ w ∈ wsX10, w ∈ lw_all := lw_in wsX10 [130, 132, 134, 136, 138, 140, 142, 144, 146] (by decide +kernel) (by decide +kernel)
