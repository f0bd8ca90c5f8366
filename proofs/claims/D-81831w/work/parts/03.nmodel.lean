/-! NutCachesModel -/
set_option maxRecDepth 100000
def RX2 : String := "NutCachesModel"
def TX2 : u_T := fun k => match k with
  | 0 => ("NutCachesModel", "text", "[I", true)
  | 1 => ("NutCachesModel", "letters", "I", false)
  | 2 => ("NutCachesModel", "at", "I", false)
  | 3 => ("NutCachesModel", "start", "I", false)
  | 4 => ("NutCachesModel", "token", "I", false)
  | 5 => ("NutCachesModel", "length", "I", false)
  | 6 => ("NutCachesModel", "value", "I", false)
  | 7 => ("NutCachesModel", "wrong", "I", false)
  | 8 => ("NutCachesModel", "clauses", "I", false)
  | 9 => ("NutCachesModel", "told", "[I", true)
  | 10 => ("NutCachesModel", "draft", "[I", true)
  | 11 => ("NutCachesModel", "now", "[I", true)
  | 12 => ("NutCachesModel", "tried", "[I", true)
  | 13 => ("NutCachesModel", "past", "[I", true)
  | 14 => ("NutCachesModel", "undos", "I", false)
  | 15 => ("NutCachesModel", "kept", "[I", true)
  | 16 => ("NutCachesModel", "isKept", "[Z", true)
  | 17 => ("NutCachesModel", "ate", "[I", true)
  | 18 => ("NutCachesModel", "sight", "[I", true)
  | 19 => ("NutCachesModel", "sights", "I", false)
  | 20 => ("NutCachesModel", "many", "[I", true)
  | 21 => ("NutCachesModel", "hand", "[I", true)
  | 22 => ("NutCachesModel", "came", "[I", true)
  | 23 => ("NutCachesModel", "sort", "[I", true)
  | _ => ("NutCachesModel", "thing", "[I", true)
def tyX2 : Nat → FieldType := fun k => match k with
  | 0 => .array .int
  | 1 => .int
  | 2 => .int
  | 3 => .int
  | 4 => .int
  | 5 => .int
  | 6 => .int
  | 7 => .int
  | 8 => .int
  | 9 => .array .int
  | 10 => .array .int
  | 11 => .array .int
  | 12 => .array .int
  | 13 => .array .int
  | 14 => .int
  | 15 => .array .int
  | 16 => .array .boolean
  | 17 => .array .int
  | 18 => .array .int
  | 19 => .int
  | 20 => .array .int
  | 21 => .array .int
  | 22 => .array .int
  | 23 => .array .int
  | _ => .array .int
abbrev wsX20 : List Cond := u_ws RX2 TX2 25
set_option maxRecDepth 100000 in
theorem nmX2 : ∀ a, a < 25 → ∀ b, b < 25 → a ≠ b → (TX2 a).2.1 ≠ (TX2 b).2.1 := by decide +kernel
set_option maxRecDepth 100000 in
theorem tyX2_ok : ∀ k, k < 25 → parseFieldDescriptor (TX2 k).2.2.1 = some (tyX2 k) := by decide +kernel
abbrev cX2_init : ByteArray := prog_14_method_1_code
def yX2_init : MethodName := ⟨RX2, "<init>", "()V"⟩
def dkwX2_init_5 : List UInt8 := [188, 10, 181, 0, 53, 42, 182, 0, 56, 177]
abbrev dktX2_init_5 : List UInt8 := dkwX2_init_5 ++ []
def dkwX2_init_4 : List UInt8 := [188, 10, 181, 0, 44, 42, 6, 188, 10, 181, 0, 47, 42, 16, 36, 188, 10, 181, 0, 50, 42, 16, 36]
abbrev dktX2_init_4 : List UInt8 := dkwX2_init_4 ++ dktX2_init_5
def dkwX2_init_3 : List UInt8 := [8, 188, 10, 181, 0, 35, 42, 16, 24, 188, 10, 181, 0, 38, 42, 6, 188, 10, 181, 0, 41, 42, 6]
abbrev dktX2_init_3 : List UInt8 := dkwX2_init_3 ++ dktX2_init_4
def dkwX2_init_2 : List UInt8 := [17, 1, 112, 188, 10, 181, 0, 25, 42, 16, 92, 188, 10, 181, 0, 28, 42, 5, 188, 4, 181, 0, 31, 42]
abbrev dktX2_init_2 : List UInt8 := dkwX2_init_2 ++ dktX2_init_3
def dkwX2_init_1 : List UInt8 := [188, 10, 181, 0, 16, 42, 16, 46, 188, 10, 181, 0, 19, 42, 16, 46, 188, 10, 181, 0, 22, 42]
abbrev dktX2_init_1 : List UInt8 := dkwX2_init_1 ++ dktX2_init_2
def dkwX2_init_0 : List UInt8 := [42, 183, 0, 1, 42, 17, 0, 200, 188, 10, 181, 0, 7, 42, 16, 46, 188, 10, 181, 0, 13, 42, 16, 46]
abbrev dktX2_init_0 : List UInt8 := dkwX2_init_0 ++ dktX2_init_1
theorem dksX2_init_0 : cX2_init.data.toList.drop 0 = dktX2_init_0 := by decide +kernel
theorem dksX2_init_1 : cX2_init.data.toList.drop 24 = dktX2_init_1 := dk_seg dksX2_init_0 24 rfl rfl
theorem dksX2_init_2 : cX2_init.data.toList.drop 46 = dktX2_init_2 := dk_seg dksX2_init_1 22 rfl rfl
theorem dksX2_init_3 : cX2_init.data.toList.drop 70 = dktX2_init_3 := dk_seg dksX2_init_2 24 rfl rfl
theorem dksX2_init_4 : cX2_init.data.toList.drop 93 = dktX2_init_4 := dk_seg dksX2_init_3 23 rfl rfl
theorem dksX2_init_5 : cX2_init.data.toList.drop 116 = dktX2_init_5 := dk_seg dksX2_init_4 23 rfl rfl
theorem dX2_init_0 : decode cX2_init 0 = .ok (.aload_n 0, 1) := dk_42 (dk_at dksX2_init_0 0 rfl rfl)
theorem dX2_init_1 : decode cX2_init 1 = .ok (.invokespecial 1, 3) := dk_183 0 1 (dk_at dksX2_init_0 1 rfl rfl)
theorem dX2_init_4 : decode cX2_init 4 = .ok (.aload_n 0, 1) := dk_42 (dk_at dksX2_init_0 4 rfl rfl)
theorem dX2_init_5 : decode cX2_init 5 = .ok (.sipush 200, 3) := dk_17 0 200 (dk_at dksX2_init_0 5 rfl rfl)
theorem dX2_init_8 : decode cX2_init 8 = .ok (.newarray .int, 2) := dk_188_10 (dk_at dksX2_init_0 8 rfl rfl)
theorem dX2_init_10 : decode cX2_init 10 = .ok (.putfield 7, 3) := dk_181 0 7 (dk_at dksX2_init_0 10 rfl rfl)
theorem dX2_init_13 : decode cX2_init 13 = .ok (.aload_n 0, 1) := dk_42 (dk_at dksX2_init_0 13 rfl rfl)
theorem dX2_init_14 : decode cX2_init 14 = .ok (.bipush 46, 2) := dk_16 46 (dk_at dksX2_init_0 14 rfl rfl)
theorem dX2_init_16 : decode cX2_init 16 = .ok (.newarray .int, 2) := dk_188_10 (dk_at dksX2_init_0 16 rfl rfl)
theorem dX2_init_18 : decode cX2_init 18 = .ok (.putfield 13, 3) := dk_181 0 13 (dk_at dksX2_init_0 18 rfl rfl)
theorem dX2_init_21 : decode cX2_init 21 = .ok (.aload_n 0, 1) := dk_42 (dk_at dksX2_init_0 21 rfl rfl)
theorem dX2_init_22 : decode cX2_init 22 = .ok (.bipush 46, 2) := dk_16 46 (dk_at dksX2_init_0 22 rfl rfl)
theorem dX2_init_24 : decode cX2_init 24 = .ok (.newarray .int, 2) := dk_188_10 (dk_at dksX2_init_1 0 rfl rfl)
theorem dX2_init_26 : decode cX2_init 26 = .ok (.putfield 16, 3) := dk_181 0 16 (dk_at dksX2_init_1 2 rfl rfl)
theorem dX2_init_29 : decode cX2_init 29 = .ok (.aload_n 0, 1) := dk_42 (dk_at dksX2_init_1 5 rfl rfl)
theorem dX2_init_30 : decode cX2_init 30 = .ok (.bipush 46, 2) := dk_16 46 (dk_at dksX2_init_1 6 rfl rfl)
theorem dX2_init_32 : decode cX2_init 32 = .ok (.newarray .int, 2) := dk_188_10 (dk_at dksX2_init_1 8 rfl rfl)
theorem dX2_init_34 : decode cX2_init 34 = .ok (.putfield 19, 3) := dk_181 0 19 (dk_at dksX2_init_1 10 rfl rfl)
theorem dX2_init_37 : decode cX2_init 37 = .ok (.aload_n 0, 1) := dk_42 (dk_at dksX2_init_1 13 rfl rfl)
theorem dX2_init_38 : decode cX2_init 38 = .ok (.bipush 46, 2) := dk_16 46 (dk_at dksX2_init_1 14 rfl rfl)
theorem dX2_init_40 : decode cX2_init 40 = .ok (.newarray .int, 2) := dk_188_10 (dk_at dksX2_init_1 16 rfl rfl)
theorem dX2_init_42 : decode cX2_init 42 = .ok (.putfield 22, 3) := dk_181 0 22 (dk_at dksX2_init_1 18 rfl rfl)
theorem dX2_init_45 : decode cX2_init 45 = .ok (.aload_n 0, 1) := dk_42 (dk_at dksX2_init_1 21 rfl rfl)
theorem dX2_init_46 : decode cX2_init 46 = .ok (.sipush 368, 3) := dk_17 1 112 (dk_at dksX2_init_2 0 rfl rfl)
theorem dX2_init_49 : decode cX2_init 49 = .ok (.newarray .int, 2) := dk_188_10 (dk_at dksX2_init_2 3 rfl rfl)
theorem dX2_init_51 : decode cX2_init 51 = .ok (.putfield 25, 3) := dk_181 0 25 (dk_at dksX2_init_2 5 rfl rfl)
theorem dX2_init_54 : decode cX2_init 54 = .ok (.aload_n 0, 1) := dk_42 (dk_at dksX2_init_2 8 rfl rfl)
theorem dX2_init_55 : decode cX2_init 55 = .ok (.bipush 92, 2) := dk_16 92 (dk_at dksX2_init_2 9 rfl rfl)
theorem dX2_init_57 : decode cX2_init 57 = .ok (.newarray .int, 2) := dk_188_10 (dk_at dksX2_init_2 11 rfl rfl)
theorem dX2_init_59 : decode cX2_init 59 = .ok (.putfield 28, 3) := dk_181 0 28 (dk_at dksX2_init_2 13 rfl rfl)
theorem dX2_init_62 : decode cX2_init 62 = .ok (.aload_n 0, 1) := dk_42 (dk_at dksX2_init_2 16 rfl rfl)
theorem dX2_init_63 : decode cX2_init 63 = .ok (.iconst 2, 1) := dk_5 (dk_at dksX2_init_2 17 rfl rfl)
theorem dX2_init_64 : decode cX2_init 64 = .ok (.newarray .boolean, 2) := dk_188_4 (dk_at dksX2_init_2 18 rfl rfl)
theorem dX2_init_66 : decode cX2_init 66 = .ok (.putfield 31, 3) := dk_181 0 31 (dk_at dksX2_init_2 20 rfl rfl)
theorem dX2_init_69 : decode cX2_init 69 = .ok (.aload_n 0, 1) := dk_42 (dk_at dksX2_init_2 23 rfl rfl)
theorem dX2_init_70 : decode cX2_init 70 = .ok (.iconst 5, 1) := dk_8 (dk_at dksX2_init_3 0 rfl rfl)
theorem dX2_init_71 : decode cX2_init 71 = .ok (.newarray .int, 2) := dk_188_10 (dk_at dksX2_init_3 1 rfl rfl)
theorem dX2_init_73 : decode cX2_init 73 = .ok (.putfield 35, 3) := dk_181 0 35 (dk_at dksX2_init_3 3 rfl rfl)
theorem dX2_init_76 : decode cX2_init 76 = .ok (.aload_n 0, 1) := dk_42 (dk_at dksX2_init_3 6 rfl rfl)
theorem dX2_init_77 : decode cX2_init 77 = .ok (.bipush 24, 2) := dk_16 24 (dk_at dksX2_init_3 7 rfl rfl)
theorem dX2_init_79 : decode cX2_init 79 = .ok (.newarray .int, 2) := dk_188_10 (dk_at dksX2_init_3 9 rfl rfl)
theorem dX2_init_81 : decode cX2_init 81 = .ok (.putfield 38, 3) := dk_181 0 38 (dk_at dksX2_init_3 11 rfl rfl)
theorem dX2_init_84 : decode cX2_init 84 = .ok (.aload_n 0, 1) := dk_42 (dk_at dksX2_init_3 14 rfl rfl)
theorem dX2_init_85 : decode cX2_init 85 = .ok (.iconst 3, 1) := dk_6 (dk_at dksX2_init_3 15 rfl rfl)
theorem dX2_init_86 : decode cX2_init 86 = .ok (.newarray .int, 2) := dk_188_10 (dk_at dksX2_init_3 16 rfl rfl)
theorem dX2_init_88 : decode cX2_init 88 = .ok (.putfield 41, 3) := dk_181 0 41 (dk_at dksX2_init_3 18 rfl rfl)
theorem dX2_init_91 : decode cX2_init 91 = .ok (.aload_n 0, 1) := dk_42 (dk_at dksX2_init_3 21 rfl rfl)
theorem dX2_init_92 : decode cX2_init 92 = .ok (.iconst 3, 1) := dk_6 (dk_at dksX2_init_3 22 rfl rfl)
theorem dX2_init_93 : decode cX2_init 93 = .ok (.newarray .int, 2) := dk_188_10 (dk_at dksX2_init_4 0 rfl rfl)
theorem dX2_init_95 : decode cX2_init 95 = .ok (.putfield 44, 3) := dk_181 0 44 (dk_at dksX2_init_4 2 rfl rfl)
theorem dX2_init_98 : decode cX2_init 98 = .ok (.aload_n 0, 1) := dk_42 (dk_at dksX2_init_4 5 rfl rfl)
theorem dX2_init_99 : decode cX2_init 99 = .ok (.iconst 3, 1) := dk_6 (dk_at dksX2_init_4 6 rfl rfl)
theorem dX2_init_100 : decode cX2_init 100 = .ok (.newarray .int, 2) := dk_188_10 (dk_at dksX2_init_4 7 rfl rfl)
theorem dX2_init_102 : decode cX2_init 102 = .ok (.putfield 47, 3) := dk_181 0 47 (dk_at dksX2_init_4 9 rfl rfl)
theorem dX2_init_105 : decode cX2_init 105 = .ok (.aload_n 0, 1) := dk_42 (dk_at dksX2_init_4 12 rfl rfl)
theorem dX2_init_106 : decode cX2_init 106 = .ok (.bipush 36, 2) := dk_16 36 (dk_at dksX2_init_4 13 rfl rfl)
theorem dX2_init_108 : decode cX2_init 108 = .ok (.newarray .int, 2) := dk_188_10 (dk_at dksX2_init_4 15 rfl rfl)
theorem dX2_init_110 : decode cX2_init 110 = .ok (.putfield 50, 3) := dk_181 0 50 (dk_at dksX2_init_4 17 rfl rfl)
theorem dX2_init_113 : decode cX2_init 113 = .ok (.aload_n 0, 1) := dk_42 (dk_at dksX2_init_4 20 rfl rfl)
theorem dX2_init_114 : decode cX2_init 114 = .ok (.bipush 36, 2) := dk_16 36 (dk_at dksX2_init_4 21 rfl rfl)
theorem dX2_init_116 : decode cX2_init 116 = .ok (.newarray .int, 2) := dk_188_10 (dk_at dksX2_init_5 0 rfl rfl)
theorem dX2_init_118 : decode cX2_init 118 = .ok (.putfield 53, 3) := dk_181 0 53 (dk_at dksX2_init_5 2 rfl rfl)
theorem dX2_init_121 : decode cX2_init 121 = .ok (.aload_n 0, 1) := dk_42 (dk_at dksX2_init_5 5 rfl rfl)
theorem dX2_init_122 : decode cX2_init 122 = .ok (.invokevirtual 56, 3) := dk_182 0 56 (dk_at dksX2_init_5 6 rfl rfl)
theorem dX2_init_125 : decode cX2_init 125 = .ok (.return_, 1) := dk_177 (dk_at dksX2_init_5 9 rfl rfl)
abbrev cX2_misses : ByteArray := prog_14_method_3_code
def yX2_misses : MethodName := ⟨RX2, "misses", "()V"⟩
def dkwX2_misses_1 : List UInt8 := [167, 255, 234, 177]
abbrev dktX2_misses_1 : List UInt8 := dkwX2_misses_1 ++ []
def dkwX2_misses_0 : List UInt8 := [3, 60, 27, 6, 162, 0, 23, 42, 180, 0, 41, 27, 2, 79, 42, 180, 0, 47, 27, 2, 79, 132, 1, 1]
abbrev dktX2_misses_0 : List UInt8 := dkwX2_misses_0 ++ dktX2_misses_1
theorem dksX2_misses_0 : cX2_misses.data.toList.drop 0 = dktX2_misses_0 := by decide +kernel
theorem dksX2_misses_1 : cX2_misses.data.toList.drop 24 = dktX2_misses_1 := dk_seg dksX2_misses_0 24 rfl rfl
theorem dX2_misses_0 : decode cX2_misses 0 = .ok (.iconst 0, 1) := dk_3 (dk_at dksX2_misses_0 0 rfl rfl)
theorem dX2_misses_1 : decode cX2_misses 1 = .ok (.istore_n 1, 1) := dk_60 (dk_at dksX2_misses_0 1 rfl rfl)
theorem dX2_misses_2 : decode cX2_misses 2 = .ok (.iload_n 1, 1) := dk_27 (dk_at dksX2_misses_0 2 rfl rfl)
theorem dX2_misses_3 : decode cX2_misses 3 = .ok (.iconst 3, 1) := dk_6 (dk_at dksX2_misses_0 3 rfl rfl)
theorem dX2_misses_4 : decode cX2_misses 4 = .ok (.if_icmp .ge 23, 3) := dk_162 0 23 (dk_at dksX2_misses_0 4 rfl rfl)
theorem dX2_misses_7 : decode cX2_misses 7 = .ok (.aload_n 0, 1) := dk_42 (dk_at dksX2_misses_0 7 rfl rfl)
theorem dX2_misses_8 : decode cX2_misses 8 = .ok (.getfield 41, 3) := dk_180 0 41 (dk_at dksX2_misses_0 8 rfl rfl)
theorem dX2_misses_11 : decode cX2_misses 11 = .ok (.iload_n 1, 1) := dk_27 (dk_at dksX2_misses_0 11 rfl rfl)
theorem dX2_misses_12 : decode cX2_misses 12 = .ok (.iconst (-1), 1) := dk_2 (dk_at dksX2_misses_0 12 rfl rfl)
theorem dX2_misses_13 : decode cX2_misses 13 = .ok (.iastore, 1) := dk_79 (dk_at dksX2_misses_0 13 rfl rfl)
theorem dX2_misses_14 : decode cX2_misses 14 = .ok (.aload_n 0, 1) := dk_42 (dk_at dksX2_misses_0 14 rfl rfl)
theorem dX2_misses_15 : decode cX2_misses 15 = .ok (.getfield 47, 3) := dk_180 0 47 (dk_at dksX2_misses_0 15 rfl rfl)
theorem dX2_misses_18 : decode cX2_misses 18 = .ok (.iload_n 1, 1) := dk_27 (dk_at dksX2_misses_0 18 rfl rfl)
theorem dX2_misses_19 : decode cX2_misses 19 = .ok (.iconst (-1), 1) := dk_2 (dk_at dksX2_misses_0 19 rfl rfl)
theorem dX2_misses_20 : decode cX2_misses 20 = .ok (.iastore, 1) := dk_79 (dk_at dksX2_misses_0 20 rfl rfl)
theorem dX2_misses_21 : decode cX2_misses 21 = .ok (.iinc 1 1, 3) := dk_132 1 1 (dk_at dksX2_misses_0 21 rfl rfl)
theorem dX2_misses_24 : decode cX2_misses 24 = .ok (.goto (-22), 3) := dk_167 255 234 (dk_at dksX2_misses_1 0 rfl rfl)
theorem dX2_misses_27 : decode cX2_misses 27 = .ok (.return_, 1) := dk_177 (dk_at dksX2_misses_1 3 rfl rfl)
abbrev cX2_write : ByteArray := prog_14_method_10_code
def yX2_write : MethodName := ⟨RX2, "write", "(I)I"⟩
def dkwX2_write_2 : List UInt8 := [180, 0, 63, 172]
abbrev dktX2_write_2 : List UInt8 := dkwX2_write_2 ++ []
def dkwX2_write_1 : List UInt8 := [16, 251, 172, 42, 180, 0, 7, 42, 180, 0, 63, 27, 79, 42, 89, 180, 0, 63, 4, 96, 181, 0, 63, 42]
abbrev dktX2_write_1 : List UInt8 := dkwX2_write_1 ++ dktX2_write_2
def dkwX2_write_0 : List UInt8 := [27, 3, 17, 0, 255, 184, 0, 59, 154, 0, 6, 16, 253, 172, 42, 180, 0, 63, 17, 0, 200, 160, 0, 6]
abbrev dktX2_write_0 : List UInt8 := dkwX2_write_0 ++ dktX2_write_1
theorem dksX2_write_0 : cX2_write.data.toList.drop 0 = dktX2_write_0 := by decide +kernel
theorem dksX2_write_1 : cX2_write.data.toList.drop 24 = dktX2_write_1 := dk_seg dksX2_write_0 24 rfl rfl
theorem dksX2_write_2 : cX2_write.data.toList.drop 48 = dktX2_write_2 := dk_seg dksX2_write_1 24 rfl rfl
theorem dX2_write_0 : decode cX2_write 0 = .ok (.iload_n 1, 1) := dk_27 (dk_at dksX2_write_0 0 rfl rfl)
theorem dX2_write_1 : decode cX2_write 1 = .ok (.iconst 0, 1) := dk_3 (dk_at dksX2_write_0 1 rfl rfl)
theorem dX2_write_2 : decode cX2_write 2 = .ok (.sipush 255, 3) := dk_17 0 255 (dk_at dksX2_write_0 2 rfl rfl)
theorem dX2_write_5 : decode cX2_write 5 = .ok (.invokestatic 59, 3) := dk_184 0 59 (dk_at dksX2_write_0 5 rfl rfl)
theorem dX2_write_8 : decode cX2_write 8 = .ok (.ifCond .ne 6, 3) := dk_154 0 6 (dk_at dksX2_write_0 8 rfl rfl)
theorem dX2_write_11 : decode cX2_write 11 = .ok (.bipush (-3), 2) := dk_16 253 (dk_at dksX2_write_0 11 rfl rfl)
theorem dX2_write_13 : decode cX2_write 13 = .ok (.ireturn, 1) := dk_172 (dk_at dksX2_write_0 13 rfl rfl)
theorem dX2_write_14 : decode cX2_write 14 = .ok (.aload_n 0, 1) := dk_42 (dk_at dksX2_write_0 14 rfl rfl)
theorem dX2_write_15 : decode cX2_write 15 = .ok (.getfield 63, 3) := dk_180 0 63 (dk_at dksX2_write_0 15 rfl rfl)
theorem dX2_write_18 : decode cX2_write 18 = .ok (.sipush 200, 3) := dk_17 0 200 (dk_at dksX2_write_0 18 rfl rfl)
theorem dX2_write_21 : decode cX2_write 21 = .ok (.if_icmp .ne 6, 3) := dk_160 0 6 (dk_at dksX2_write_0 21 rfl rfl)
theorem dX2_write_24 : decode cX2_write 24 = .ok (.bipush (-5), 2) := dk_16 251 (dk_at dksX2_write_1 0 rfl rfl)
theorem dX2_write_26 : decode cX2_write 26 = .ok (.ireturn, 1) := dk_172 (dk_at dksX2_write_1 2 rfl rfl)
theorem dX2_write_27 : decode cX2_write 27 = .ok (.aload_n 0, 1) := dk_42 (dk_at dksX2_write_1 3 rfl rfl)
theorem dX2_write_28 : decode cX2_write 28 = .ok (.getfield 7, 3) := dk_180 0 7 (dk_at dksX2_write_1 4 rfl rfl)
theorem dX2_write_31 : decode cX2_write 31 = .ok (.aload_n 0, 1) := dk_42 (dk_at dksX2_write_1 7 rfl rfl)
theorem dX2_write_32 : decode cX2_write 32 = .ok (.getfield 63, 3) := dk_180 0 63 (dk_at dksX2_write_1 8 rfl rfl)
theorem dX2_write_35 : decode cX2_write 35 = .ok (.iload_n 1, 1) := dk_27 (dk_at dksX2_write_1 11 rfl rfl)
theorem dX2_write_36 : decode cX2_write 36 = .ok (.iastore, 1) := dk_79 (dk_at dksX2_write_1 12 rfl rfl)
theorem dX2_write_37 : decode cX2_write 37 = .ok (.aload_n 0, 1) := dk_42 (dk_at dksX2_write_1 13 rfl rfl)
theorem dX2_write_38 : decode cX2_write 38 = .ok (.dup, 1) := dk_89 (dk_at dksX2_write_1 14 rfl rfl)
theorem dX2_write_39 : decode cX2_write 39 = .ok (.getfield 63, 3) := dk_180 0 63 (dk_at dksX2_write_1 15 rfl rfl)
theorem dX2_write_42 : decode cX2_write 42 = .ok (.iconst 1, 1) := dk_4 (dk_at dksX2_write_1 18 rfl rfl)
theorem dX2_write_43 : decode cX2_write 43 = .ok (.iadd, 1) := dk_96 (dk_at dksX2_write_1 19 rfl rfl)
theorem dX2_write_44 : decode cX2_write 44 = .ok (.putfield 63, 3) := dk_181 0 63 (dk_at dksX2_write_1 20 rfl rfl)
theorem dX2_write_47 : decode cX2_write 47 = .ok (.aload_n 0, 1) := dk_42 (dk_at dksX2_write_1 23 rfl rfl)
theorem dX2_write_48 : decode cX2_write 48 = .ok (.getfield 63, 3) := dk_180 0 63 (dk_at dksX2_write_2 0 rfl rfl)
theorem dX2_write_51 : decode cX2_write 51 = .ok (.ireturn, 1) := dk_172 (dk_at dksX2_write_2 3 rfl rfl)
abbrev cX2_in : ByteArray := prog_14_method_4_code
def yX2_in : MethodName := ⟨RX2, "in", "(III)Z"⟩
def dkwX2_in_0 : List UInt8 := [26, 27, 161, 0, 12, 26, 28, 163, 0, 7, 4, 167, 0, 4, 3, 172]
abbrev dktX2_in_0 : List UInt8 := dkwX2_in_0 ++ []
theorem dksX2_in_0 : cX2_in.data.toList.drop 0 = dktX2_in_0 := by decide +kernel
theorem dX2_in_0 : decode cX2_in 0 = .ok (.iload_n 0, 1) := dk_26 (dk_at dksX2_in_0 0 rfl rfl)
theorem dX2_in_1 : decode cX2_in 1 = .ok (.iload_n 1, 1) := dk_27 (dk_at dksX2_in_0 1 rfl rfl)
theorem dX2_in_2 : decode cX2_in 2 = .ok (.if_icmp .lt 12, 3) := dk_161 0 12 (dk_at dksX2_in_0 2 rfl rfl)
theorem dX2_in_5 : decode cX2_in 5 = .ok (.iload_n 0, 1) := dk_26 (dk_at dksX2_in_0 5 rfl rfl)
theorem dX2_in_6 : decode cX2_in 6 = .ok (.iload_n 2, 1) := dk_28 (dk_at dksX2_in_0 6 rfl rfl)
theorem dX2_in_7 : decode cX2_in 7 = .ok (.if_icmp .gt 7, 3) := dk_163 0 7 (dk_at dksX2_in_0 7 rfl rfl)
theorem dX2_in_10 : decode cX2_in 10 = .ok (.iconst 1, 1) := dk_4 (dk_at dksX2_in_0 10 rfl rfl)
theorem dX2_in_11 : decode cX2_in 11 = .ok (.goto 4, 3) := dk_167 0 4 (dk_at dksX2_in_0 11 rfl rfl)
theorem dX2_in_14 : decode cX2_in 14 = .ok (.iconst 0, 1) := dk_3 (dk_at dksX2_in_0 14 rfl rfl)
theorem dX2_in_15 : decode cX2_in 15 = .ok (.ireturn, 1) := dk_172 (dk_at dksX2_in_0 15 rfl rfl)
abbrev cX2_erase : ByteArray := prog_14_method_11_code
def yX2_erase : MethodName := ⟨RX2, "erase", "()I"⟩
def dkwX2_erase_0 : List UInt8 := [42, 180, 0, 63, 60, 42, 3, 181, 0, 63, 27, 172]
abbrev dktX2_erase_0 : List UInt8 := dkwX2_erase_0 ++ []
theorem dksX2_erase_0 : cX2_erase.data.toList.drop 0 = dktX2_erase_0 := by decide +kernel
theorem dX2_erase_0 : decode cX2_erase 0 = .ok (.aload_n 0, 1) := dk_42 (dk_at dksX2_erase_0 0 rfl rfl)
theorem dX2_erase_1 : decode cX2_erase 1 = .ok (.getfield 63, 3) := dk_180 0 63 (dk_at dksX2_erase_0 1 rfl rfl)
theorem dX2_erase_4 : decode cX2_erase 4 = .ok (.istore_n 1, 1) := dk_60 (dk_at dksX2_erase_0 4 rfl rfl)
theorem dX2_erase_5 : decode cX2_erase 5 = .ok (.aload_n 0, 1) := dk_42 (dk_at dksX2_erase_0 5 rfl rfl)
theorem dX2_erase_6 : decode cX2_erase 6 = .ok (.iconst 0, 1) := dk_3 (dk_at dksX2_erase_0 6 rfl rfl)
theorem dX2_erase_7 : decode cX2_erase 7 = .ok (.putfield 63, 3) := dk_181 0 63 (dk_at dksX2_erase_0 7 rfl rfl)
theorem dX2_erase_10 : decode cX2_erase 10 = .ok (.iload_n 1, 1) := dk_27 (dk_at dksX2_erase_0 10 rfl rfl)
theorem dX2_erase_11 : decode cX2_erase 11 = .ok (.ireturn, 1) := dk_172 (dk_at dksX2_erase_0 11 rfl rfl)
abbrev cX2_fault : ByteArray := prog_14_method_27_code
def yX2_fault : MethodName := ⟨RX2, "fault", "()I"⟩
def dkwX2_fault_0 : List UInt8 := [42, 182, 0, 140, 42, 180, 0, 93, 172]
abbrev dktX2_fault_0 : List UInt8 := dkwX2_fault_0 ++ []
theorem dksX2_fault_0 : cX2_fault.data.toList.drop 0 = dktX2_fault_0 := by decide +kernel
theorem dX2_fault_0 : decode cX2_fault 0 = .ok (.aload_n 0, 1) := dk_42 (dk_at dksX2_fault_0 0 rfl rfl)
theorem dX2_fault_1 : decode cX2_fault 1 = .ok (.invokevirtual 140, 3) := dk_182 0 140 (dk_at dksX2_fault_0 1 rfl rfl)
theorem dX2_fault_4 : decode cX2_fault 4 = .ok (.aload_n 0, 1) := dk_42 (dk_at dksX2_fault_0 4 rfl rfl)
theorem dX2_fault_5 : decode cX2_fault 5 = .ok (.getfield 93, 3) := dk_180 0 93 (dk_at dksX2_fault_0 5 rfl rfl)
theorem dX2_fault_8 : decode cX2_fault 8 = .ok (.ireturn, 1) := dk_172 (dk_at dksX2_fault_0 8 rfl rfl)
abbrev cX2_reads : ByteArray := prog_14_method_26_code
def yX2_reads : MethodName := ⟨RX2, "reads", "()V"⟩
def dkwX2_reads_4 : List UInt8 := [182, 0, 96, 177]
abbrev dktX2_reads_4 : List UInt8 := dkwX2_reads_4 ++ []
def dkwX2_reads_3 : List UInt8 := [180, 0, 134, 4, 96, 181, 0, 134, 167, 255, 213, 42, 42, 180, 0, 90, 153, 0, 7, 4, 167, 0, 4, 3]
abbrev dktX2_reads_3 : List UInt8 := dkwX2_reads_3 ++ dktX2_reads_4
def dkwX2_reads_2 : List UInt8 := [6, 160, 0, 33, 42, 180, 0, 134, 16, 24, 162, 0, 24, 42, 182, 0, 100, 42, 182, 0, 137, 42, 89]
abbrev dktX2_reads_2 : List UInt8 := dkwX2_reads_2 ++ dktX2_reads_3
def dkwX2_reads_1 : List UInt8 := [4, 181, 0, 134, 42, 182, 0, 100, 42, 182, 0, 137, 42, 180, 0, 93, 2, 160, 0, 41, 42, 180, 0, 90]
abbrev dktX2_reads_1 : List UInt8 := dkwX2_reads_1 ++ dktX2_reads_2
def dkwX2_reads_0 : List UInt8 := [42, 180, 0, 13, 3, 42, 180, 0, 16, 3, 184, 0, 130, 42, 3, 181, 0, 67, 42, 2, 181, 0, 93, 42]
abbrev dktX2_reads_0 : List UInt8 := dkwX2_reads_0 ++ dktX2_reads_1
theorem dksX2_reads_0 : cX2_reads.data.toList.drop 0 = dktX2_reads_0 := by decide +kernel
theorem dksX2_reads_1 : cX2_reads.data.toList.drop 24 = dktX2_reads_1 := dk_seg dksX2_reads_0 24 rfl rfl
theorem dksX2_reads_2 : cX2_reads.data.toList.drop 48 = dktX2_reads_2 := dk_seg dksX2_reads_1 24 rfl rfl
theorem dksX2_reads_3 : cX2_reads.data.toList.drop 71 = dktX2_reads_3 := dk_seg dksX2_reads_2 23 rfl rfl
theorem dksX2_reads_4 : cX2_reads.data.toList.drop 95 = dktX2_reads_4 := dk_seg dksX2_reads_3 24 rfl rfl
theorem dX2_reads_0 : decode cX2_reads 0 = .ok (.aload_n 0, 1) := dk_42 (dk_at dksX2_reads_0 0 rfl rfl)
theorem dX2_reads_1 : decode cX2_reads 1 = .ok (.getfield 13, 3) := dk_180 0 13 (dk_at dksX2_reads_0 1 rfl rfl)
theorem dX2_reads_4 : decode cX2_reads 4 = .ok (.iconst 0, 1) := dk_3 (dk_at dksX2_reads_0 4 rfl rfl)
theorem dX2_reads_5 : decode cX2_reads 5 = .ok (.aload_n 0, 1) := dk_42 (dk_at dksX2_reads_0 5 rfl rfl)
theorem dX2_reads_6 : decode cX2_reads 6 = .ok (.getfield 16, 3) := dk_180 0 16 (dk_at dksX2_reads_0 6 rfl rfl)
theorem dX2_reads_9 : decode cX2_reads 9 = .ok (.iconst 0, 1) := dk_3 (dk_at dksX2_reads_0 9 rfl rfl)
theorem dX2_reads_10 : decode cX2_reads 10 = .ok (.invokestatic 130, 3) := dk_184 0 130 (dk_at dksX2_reads_0 10 rfl rfl)
theorem dX2_reads_13 : decode cX2_reads 13 = .ok (.aload_n 0, 1) := dk_42 (dk_at dksX2_reads_0 13 rfl rfl)
theorem dX2_reads_14 : decode cX2_reads 14 = .ok (.iconst 0, 1) := dk_3 (dk_at dksX2_reads_0 14 rfl rfl)
theorem dX2_reads_15 : decode cX2_reads 15 = .ok (.putfield 67, 3) := dk_181 0 67 (dk_at dksX2_reads_0 15 rfl rfl)
theorem dX2_reads_18 : decode cX2_reads 18 = .ok (.aload_n 0, 1) := dk_42 (dk_at dksX2_reads_0 18 rfl rfl)
theorem dX2_reads_19 : decode cX2_reads 19 = .ok (.iconst (-1), 1) := dk_2 (dk_at dksX2_reads_0 19 rfl rfl)
theorem dX2_reads_20 : decode cX2_reads 20 = .ok (.putfield 93, 3) := dk_181 0 93 (dk_at dksX2_reads_0 20 rfl rfl)
theorem dX2_reads_23 : decode cX2_reads 23 = .ok (.aload_n 0, 1) := dk_42 (dk_at dksX2_reads_0 23 rfl rfl)
theorem dX2_reads_24 : decode cX2_reads 24 = .ok (.iconst 1, 1) := dk_4 (dk_at dksX2_reads_1 0 rfl rfl)
theorem dX2_reads_25 : decode cX2_reads 25 = .ok (.putfield 134, 3) := dk_181 0 134 (dk_at dksX2_reads_1 1 rfl rfl)
theorem dX2_reads_28 : decode cX2_reads 28 = .ok (.aload_n 0, 1) := dk_42 (dk_at dksX2_reads_1 4 rfl rfl)
theorem dX2_reads_29 : decode cX2_reads 29 = .ok (.invokevirtual 100, 3) := dk_182 0 100 (dk_at dksX2_reads_1 5 rfl rfl)
theorem dX2_reads_32 : decode cX2_reads 32 = .ok (.aload_n 0, 1) := dk_42 (dk_at dksX2_reads_1 8 rfl rfl)
theorem dX2_reads_33 : decode cX2_reads 33 = .ok (.invokevirtual 137, 3) := dk_182 0 137 (dk_at dksX2_reads_1 9 rfl rfl)
theorem dX2_reads_36 : decode cX2_reads 36 = .ok (.aload_n 0, 1) := dk_42 (dk_at dksX2_reads_1 12 rfl rfl)
theorem dX2_reads_37 : decode cX2_reads 37 = .ok (.getfield 93, 3) := dk_180 0 93 (dk_at dksX2_reads_1 13 rfl rfl)
theorem dX2_reads_40 : decode cX2_reads 40 = .ok (.iconst (-1), 1) := dk_2 (dk_at dksX2_reads_1 16 rfl rfl)
theorem dX2_reads_41 : decode cX2_reads 41 = .ok (.if_icmp .ne 41, 3) := dk_160 0 41 (dk_at dksX2_reads_1 17 rfl rfl)
theorem dX2_reads_44 : decode cX2_reads 44 = .ok (.aload_n 0, 1) := dk_42 (dk_at dksX2_reads_1 20 rfl rfl)
theorem dX2_reads_45 : decode cX2_reads 45 = .ok (.getfield 90, 3) := dk_180 0 90 (dk_at dksX2_reads_1 21 rfl rfl)
theorem dX2_reads_48 : decode cX2_reads 48 = .ok (.iconst 3, 1) := dk_6 (dk_at dksX2_reads_2 0 rfl rfl)
theorem dX2_reads_49 : decode cX2_reads 49 = .ok (.if_icmp .ne 33, 3) := dk_160 0 33 (dk_at dksX2_reads_2 1 rfl rfl)
theorem dX2_reads_52 : decode cX2_reads 52 = .ok (.aload_n 0, 1) := dk_42 (dk_at dksX2_reads_2 4 rfl rfl)
theorem dX2_reads_53 : decode cX2_reads 53 = .ok (.getfield 134, 3) := dk_180 0 134 (dk_at dksX2_reads_2 5 rfl rfl)
theorem dX2_reads_56 : decode cX2_reads 56 = .ok (.bipush 24, 2) := dk_16 24 (dk_at dksX2_reads_2 8 rfl rfl)
theorem dX2_reads_58 : decode cX2_reads 58 = .ok (.if_icmp .ge 24, 3) := dk_162 0 24 (dk_at dksX2_reads_2 10 rfl rfl)
theorem dX2_reads_61 : decode cX2_reads 61 = .ok (.aload_n 0, 1) := dk_42 (dk_at dksX2_reads_2 13 rfl rfl)
theorem dX2_reads_62 : decode cX2_reads 62 = .ok (.invokevirtual 100, 3) := dk_182 0 100 (dk_at dksX2_reads_2 14 rfl rfl)
theorem dX2_reads_65 : decode cX2_reads 65 = .ok (.aload_n 0, 1) := dk_42 (dk_at dksX2_reads_2 17 rfl rfl)
theorem dX2_reads_66 : decode cX2_reads 66 = .ok (.invokevirtual 137, 3) := dk_182 0 137 (dk_at dksX2_reads_2 18 rfl rfl)
theorem dX2_reads_69 : decode cX2_reads 69 = .ok (.aload_n 0, 1) := dk_42 (dk_at dksX2_reads_2 21 rfl rfl)
theorem dX2_reads_70 : decode cX2_reads 70 = .ok (.dup, 1) := dk_89 (dk_at dksX2_reads_2 22 rfl rfl)
theorem dX2_reads_71 : decode cX2_reads 71 = .ok (.getfield 134, 3) := dk_180 0 134 (dk_at dksX2_reads_3 0 rfl rfl)
theorem dX2_reads_74 : decode cX2_reads 74 = .ok (.iconst 1, 1) := dk_4 (dk_at dksX2_reads_3 3 rfl rfl)
theorem dX2_reads_75 : decode cX2_reads 75 = .ok (.iadd, 1) := dk_96 (dk_at dksX2_reads_3 4 rfl rfl)
theorem dX2_reads_76 : decode cX2_reads 76 = .ok (.putfield 134, 3) := dk_181 0 134 (dk_at dksX2_reads_3 5 rfl rfl)
theorem dX2_reads_79 : decode cX2_reads 79 = .ok (.goto (-43), 3) := dk_167 255 213 (dk_at dksX2_reads_3 8 rfl rfl)
theorem dX2_reads_82 : decode cX2_reads 82 = .ok (.aload_n 0, 1) := dk_42 (dk_at dksX2_reads_3 11 rfl rfl)
theorem dX2_reads_83 : decode cX2_reads 83 = .ok (.aload_n 0, 1) := dk_42 (dk_at dksX2_reads_3 12 rfl rfl)
theorem dX2_reads_84 : decode cX2_reads 84 = .ok (.getfield 90, 3) := dk_180 0 90 (dk_at dksX2_reads_3 13 rfl rfl)
theorem dX2_reads_87 : decode cX2_reads 87 = .ok (.ifCond .eq 7, 3) := dk_153 0 7 (dk_at dksX2_reads_3 16 rfl rfl)
theorem dX2_reads_90 : decode cX2_reads 90 = .ok (.iconst 1, 1) := dk_4 (dk_at dksX2_reads_3 19 rfl rfl)
theorem dX2_reads_91 : decode cX2_reads 91 = .ok (.goto 4, 3) := dk_167 0 4 (dk_at dksX2_reads_3 20 rfl rfl)
theorem dX2_reads_94 : decode cX2_reads 94 = .ok (.iconst 0, 1) := dk_3 (dk_at dksX2_reads_3 23 rfl rfl)
theorem dX2_reads_95 : decode cX2_reads 95 = .ok (.invokevirtual 96, 3) := dk_182 0 96 (dk_at dksX2_reads_4 0 rfl rfl)
theorem dX2_reads_98 : decode cX2_reads 98 = .ok (.return_, 1) := dk_177 (dk_at dksX2_reads_4 3 rfl rfl)
abbrev cX2_copies : ByteArray := prog_14_method_9_code
def yX2_copies : MethodName := ⟨RX2, "copies", "([II[II)V"⟩
def dkwX2_copies_1 : List UInt8 := [132, 4, 1, 167, 255, 234, 177]
abbrev dktX2_copies_1 : List UInt8 := dkwX2_copies_1 ++ []
def dkwX2_copies_0 : List UInt8 := [3, 54, 4, 21, 4, 16, 46, 162, 0, 21, 44, 29, 21, 4, 96, 42, 27, 21, 4, 96, 46, 79]
abbrev dktX2_copies_0 : List UInt8 := dkwX2_copies_0 ++ dktX2_copies_1
theorem dksX2_copies_0 : cX2_copies.data.toList.drop 0 = dktX2_copies_0 := by decide +kernel
theorem dksX2_copies_1 : cX2_copies.data.toList.drop 22 = dktX2_copies_1 := dk_seg dksX2_copies_0 22 rfl rfl
theorem dX2_copies_0 : decode cX2_copies 0 = .ok (.iconst 0, 1) := dk_3 (dk_at dksX2_copies_0 0 rfl rfl)
theorem dX2_copies_1 : decode cX2_copies 1 = .ok (.istore 4, 2) := dk_54 4 (dk_at dksX2_copies_0 1 rfl rfl)
theorem dX2_copies_3 : decode cX2_copies 3 = .ok (.iload 4, 2) := dk_21 4 (dk_at dksX2_copies_0 3 rfl rfl)
theorem dX2_copies_5 : decode cX2_copies 5 = .ok (.bipush 46, 2) := dk_16 46 (dk_at dksX2_copies_0 5 rfl rfl)
theorem dX2_copies_7 : decode cX2_copies 7 = .ok (.if_icmp .ge 21, 3) := dk_162 0 21 (dk_at dksX2_copies_0 7 rfl rfl)
theorem dX2_copies_10 : decode cX2_copies 10 = .ok (.aload_n 2, 1) := dk_44 (dk_at dksX2_copies_0 10 rfl rfl)
theorem dX2_copies_11 : decode cX2_copies 11 = .ok (.iload_n 3, 1) := dk_29 (dk_at dksX2_copies_0 11 rfl rfl)
theorem dX2_copies_12 : decode cX2_copies 12 = .ok (.iload 4, 2) := dk_21 4 (dk_at dksX2_copies_0 12 rfl rfl)
theorem dX2_copies_14 : decode cX2_copies 14 = .ok (.iadd, 1) := dk_96 (dk_at dksX2_copies_0 14 rfl rfl)
theorem dX2_copies_15 : decode cX2_copies 15 = .ok (.aload_n 0, 1) := dk_42 (dk_at dksX2_copies_0 15 rfl rfl)
theorem dX2_copies_16 : decode cX2_copies 16 = .ok (.iload_n 1, 1) := dk_27 (dk_at dksX2_copies_0 16 rfl rfl)
theorem dX2_copies_17 : decode cX2_copies 17 = .ok (.iload 4, 2) := dk_21 4 (dk_at dksX2_copies_0 17 rfl rfl)
theorem dX2_copies_19 : decode cX2_copies 19 = .ok (.iadd, 1) := dk_96 (dk_at dksX2_copies_0 19 rfl rfl)
theorem dX2_copies_20 : decode cX2_copies 20 = .ok (.iaload, 1) := dk_46 (dk_at dksX2_copies_0 20 rfl rfl)
theorem dX2_copies_21 : decode cX2_copies 21 = .ok (.iastore, 1) := dk_79 (dk_at dksX2_copies_0 21 rfl rfl)
theorem dX2_copies_22 : decode cX2_copies 22 = .ok (.iinc 4 1, 3) := dk_132 4 1 (dk_at dksX2_copies_1 0 rfl rfl)
theorem dX2_copies_25 : decode cX2_copies 25 = .ok (.goto (-22), 3) := dk_167 255 234 (dk_at dksX2_copies_1 3 rfl rfl)
theorem dX2_copies_28 : decode cX2_copies 28 = .ok (.return_, 1) := dk_177 (dk_at dksX2_copies_1 6 rfl rfl)
abbrev cX2_advances : ByteArray := prog_14_method_15_code
def yX2_advances : MethodName := ⟨RX2, "advances", "()V"⟩
def dkwX2_advances_11 : List UInt8 := [4, 167, 0, 4, 3, 96, 181, 0, 67, 177]
abbrev dktX2_advances_11 : List UInt8 := dkwX2_advances_11 ++ []
def dkwX2_advances_10 : List UInt8 := [167, 255, 127, 42, 89, 180, 0, 67, 42, 180, 0, 90, 6, 159, 0, 11, 42, 180, 0, 90, 7, 160, 0, 7]
abbrev dktX2_advances_10 : List UInt8 := dkwX2_advances_10 ++ dktX2_advances_11
def dkwX2_advances_9 : List UInt8 := [181, 0, 80, 42, 89, 180, 0, 77, 4, 96, 181, 0, 77, 42, 89, 180, 0, 67, 4, 96, 181, 0, 67]
abbrev dktX2_advances_9 : List UInt8 := dkwX2_advances_9 ++ dktX2_advances_10
def dkwX2_advances_8 : List UInt8 := [167, 0, 22, 16, 10, 42, 180, 0, 80, 104, 42, 42, 180, 0, 67, 182, 0, 70, 96, 16, 48, 100]
abbrev dktX2_advances_8 : List UInt8 := dkwX2_advances_8 ++ dktX2_advances_9
def dkwX2_advances_7 : List UInt8 := [160, 0, 25, 16, 32, 42, 180, 0, 80, 104, 42, 42, 180, 0, 67, 182, 0, 70, 96, 16, 96, 100]
abbrev dktX2_advances_7 : List UInt8 := dkwX2_advances_7 ++ dktX2_advances_8
def dkwX2_advances_6 : List UInt8 := [184, 0, 87, 153, 0, 91, 42, 42, 180, 0, 77, 8, 164, 0, 7, 2, 167, 0, 52, 42, 180, 0, 90, 4]
abbrev dktX2_advances_6 : List UInt8 := dkwX2_advances_6 ++ dktX2_advances_7
def dkwX2_advances_5 : List UInt8 := [184, 0, 83, 154, 0, 25, 42, 180, 0, 90, 5, 160, 0, 105, 42, 42, 180, 0, 67, 182, 0, 70]
abbrev dktX2_advances_5 : List UInt8 := dkwX2_advances_5 ++ dktX2_advances_6
def dkwX2_advances_4 : List UInt8 := [167, 0, 4, 7, 181, 0, 90, 42, 180, 0, 90, 4, 160, 0, 17, 42, 42, 180, 0, 67, 182, 0, 70]
abbrev dktX2_advances_4 : List UInt8 := dkwX2_advances_4 ++ dktX2_advances_5
def dkwX2_advances_3 : List UInt8 := [4, 167, 0, 25, 27, 184, 0, 87, 153, 0, 7, 5, 167, 0, 14, 27, 16, 59, 160, 0, 7, 6]
abbrev dktX2_advances_3 : List UInt8 := dkwX2_advances_3 ++ dktX2_advances_4
def dkwX2_advances_2 : List UInt8 := [180, 0, 67, 182, 0, 70, 60, 42, 27, 2, 160, 0, 7, 3, 167, 0, 36, 27, 184, 0, 83, 153, 0, 7]
abbrev dktX2_advances_2 : List UInt8 := dkwX2_advances_2 ++ dktX2_advances_3
def dkwX2_advances_1 : List UInt8 := [167, 255, 233, 42, 42, 180, 0, 67, 181, 0, 74, 42, 3, 181, 0, 77, 42, 3, 181, 0, 80, 42, 42]
abbrev dktX2_advances_1 : List UInt8 := dkwX2_advances_1 ++ dktX2_advances_2
def dkwX2_advances_0 : List UInt8 := [42, 42, 180, 0, 67, 182, 0, 70, 16, 32, 160, 0, 16, 42, 89, 180, 0, 67, 4, 96, 181, 0, 67]
abbrev dktX2_advances_0 : List UInt8 := dkwX2_advances_0 ++ dktX2_advances_1
theorem dksX2_advances_0 : cX2_advances.data.toList.drop 0 = dktX2_advances_0 := by decide +kernel
theorem dksX2_advances_1 : cX2_advances.data.toList.drop 23 = dktX2_advances_1 := dk_seg dksX2_advances_0 23 rfl rfl
theorem dksX2_advances_2 : cX2_advances.data.toList.drop 46 = dktX2_advances_2 := dk_seg dksX2_advances_1 23 rfl rfl
theorem dksX2_advances_3 : cX2_advances.data.toList.drop 70 = dktX2_advances_3 := dk_seg dksX2_advances_2 24 rfl rfl
theorem dksX2_advances_4 : cX2_advances.data.toList.drop 92 = dktX2_advances_4 := dk_seg dksX2_advances_3 22 rfl rfl
theorem dksX2_advances_5 : cX2_advances.data.toList.drop 115 = dktX2_advances_5 := dk_seg dksX2_advances_4 23 rfl rfl
theorem dksX2_advances_6 : cX2_advances.data.toList.drop 137 = dktX2_advances_6 := dk_seg dksX2_advances_5 22 rfl rfl
theorem dksX2_advances_7 : cX2_advances.data.toList.drop 161 = dktX2_advances_7 := dk_seg dksX2_advances_6 24 rfl rfl
theorem dksX2_advances_8 : cX2_advances.data.toList.drop 183 = dktX2_advances_8 := dk_seg dksX2_advances_7 22 rfl rfl
theorem dksX2_advances_9 : cX2_advances.data.toList.drop 205 = dktX2_advances_9 := dk_seg dksX2_advances_8 22 rfl rfl
theorem dksX2_advances_10 : cX2_advances.data.toList.drop 228 = dktX2_advances_10 := dk_seg dksX2_advances_9 23 rfl rfl
theorem dksX2_advances_11 : cX2_advances.data.toList.drop 252 = dktX2_advances_11 := dk_seg dksX2_advances_10 24 rfl rfl
theorem dX2_advances_0 : decode cX2_advances 0 = .ok (.aload_n 0, 1) := dk_42 (dk_at dksX2_advances_0 0 rfl rfl)
theorem dX2_advances_1 : decode cX2_advances 1 = .ok (.aload_n 0, 1) := dk_42 (dk_at dksX2_advances_0 1 rfl rfl)
theorem dX2_advances_2 : decode cX2_advances 2 = .ok (.getfield 67, 3) := dk_180 0 67 (dk_at dksX2_advances_0 2 rfl rfl)
theorem dX2_advances_5 : decode cX2_advances 5 = .ok (.invokevirtual 70, 3) := dk_182 0 70 (dk_at dksX2_advances_0 5 rfl rfl)
theorem dX2_advances_8 : decode cX2_advances 8 = .ok (.bipush 32, 2) := dk_16 32 (dk_at dksX2_advances_0 8 rfl rfl)
theorem dX2_advances_10 : decode cX2_advances 10 = .ok (.if_icmp .ne 16, 3) := dk_160 0 16 (dk_at dksX2_advances_0 10 rfl rfl)
theorem dX2_advances_13 : decode cX2_advances 13 = .ok (.aload_n 0, 1) := dk_42 (dk_at dksX2_advances_0 13 rfl rfl)
theorem dX2_advances_14 : decode cX2_advances 14 = .ok (.dup, 1) := dk_89 (dk_at dksX2_advances_0 14 rfl rfl)
theorem dX2_advances_15 : decode cX2_advances 15 = .ok (.getfield 67, 3) := dk_180 0 67 (dk_at dksX2_advances_0 15 rfl rfl)
theorem dX2_advances_18 : decode cX2_advances 18 = .ok (.iconst 1, 1) := dk_4 (dk_at dksX2_advances_0 18 rfl rfl)
theorem dX2_advances_19 : decode cX2_advances 19 = .ok (.iadd, 1) := dk_96 (dk_at dksX2_advances_0 19 rfl rfl)
theorem dX2_advances_20 : decode cX2_advances 20 = .ok (.putfield 67, 3) := dk_181 0 67 (dk_at dksX2_advances_0 20 rfl rfl)
theorem dX2_advances_23 : decode cX2_advances 23 = .ok (.goto (-23), 3) := dk_167 255 233 (dk_at dksX2_advances_1 0 rfl rfl)
theorem dX2_advances_26 : decode cX2_advances 26 = .ok (.aload_n 0, 1) := dk_42 (dk_at dksX2_advances_1 3 rfl rfl)
theorem dX2_advances_27 : decode cX2_advances 27 = .ok (.aload_n 0, 1) := dk_42 (dk_at dksX2_advances_1 4 rfl rfl)
theorem dX2_advances_28 : decode cX2_advances 28 = .ok (.getfield 67, 3) := dk_180 0 67 (dk_at dksX2_advances_1 5 rfl rfl)
theorem dX2_advances_31 : decode cX2_advances 31 = .ok (.putfield 74, 3) := dk_181 0 74 (dk_at dksX2_advances_1 8 rfl rfl)
theorem dX2_advances_34 : decode cX2_advances 34 = .ok (.aload_n 0, 1) := dk_42 (dk_at dksX2_advances_1 11 rfl rfl)
theorem dX2_advances_35 : decode cX2_advances 35 = .ok (.iconst 0, 1) := dk_3 (dk_at dksX2_advances_1 12 rfl rfl)
theorem dX2_advances_36 : decode cX2_advances 36 = .ok (.putfield 77, 3) := dk_181 0 77 (dk_at dksX2_advances_1 13 rfl rfl)
theorem dX2_advances_39 : decode cX2_advances 39 = .ok (.aload_n 0, 1) := dk_42 (dk_at dksX2_advances_1 16 rfl rfl)
theorem dX2_advances_40 : decode cX2_advances 40 = .ok (.iconst 0, 1) := dk_3 (dk_at dksX2_advances_1 17 rfl rfl)
theorem dX2_advances_41 : decode cX2_advances 41 = .ok (.putfield 80, 3) := dk_181 0 80 (dk_at dksX2_advances_1 18 rfl rfl)
theorem dX2_advances_44 : decode cX2_advances 44 = .ok (.aload_n 0, 1) := dk_42 (dk_at dksX2_advances_1 21 rfl rfl)
theorem dX2_advances_45 : decode cX2_advances 45 = .ok (.aload_n 0, 1) := dk_42 (dk_at dksX2_advances_1 22 rfl rfl)
theorem dX2_advances_46 : decode cX2_advances 46 = .ok (.getfield 67, 3) := dk_180 0 67 (dk_at dksX2_advances_2 0 rfl rfl)
theorem dX2_advances_49 : decode cX2_advances 49 = .ok (.invokevirtual 70, 3) := dk_182 0 70 (dk_at dksX2_advances_2 3 rfl rfl)
theorem dX2_advances_52 : decode cX2_advances 52 = .ok (.istore_n 1, 1) := dk_60 (dk_at dksX2_advances_2 6 rfl rfl)
theorem dX2_advances_53 : decode cX2_advances 53 = .ok (.aload_n 0, 1) := dk_42 (dk_at dksX2_advances_2 7 rfl rfl)
theorem dX2_advances_54 : decode cX2_advances 54 = .ok (.iload_n 1, 1) := dk_27 (dk_at dksX2_advances_2 8 rfl rfl)
theorem dX2_advances_55 : decode cX2_advances 55 = .ok (.iconst (-1), 1) := dk_2 (dk_at dksX2_advances_2 9 rfl rfl)
theorem dX2_advances_56 : decode cX2_advances 56 = .ok (.if_icmp .ne 7, 3) := dk_160 0 7 (dk_at dksX2_advances_2 10 rfl rfl)
theorem dX2_advances_59 : decode cX2_advances 59 = .ok (.iconst 0, 1) := dk_3 (dk_at dksX2_advances_2 13 rfl rfl)
theorem dX2_advances_60 : decode cX2_advances 60 = .ok (.goto 36, 3) := dk_167 0 36 (dk_at dksX2_advances_2 14 rfl rfl)
theorem dX2_advances_63 : decode cX2_advances 63 = .ok (.iload_n 1, 1) := dk_27 (dk_at dksX2_advances_2 17 rfl rfl)
theorem dX2_advances_64 : decode cX2_advances 64 = .ok (.invokestatic 83, 3) := dk_184 0 83 (dk_at dksX2_advances_2 18 rfl rfl)
theorem dX2_advances_67 : decode cX2_advances 67 = .ok (.ifCond .eq 7, 3) := dk_153 0 7 (dk_at dksX2_advances_2 21 rfl rfl)
theorem dX2_advances_70 : decode cX2_advances 70 = .ok (.iconst 1, 1) := dk_4 (dk_at dksX2_advances_3 0 rfl rfl)
theorem dX2_advances_71 : decode cX2_advances 71 = .ok (.goto 25, 3) := dk_167 0 25 (dk_at dksX2_advances_3 1 rfl rfl)
theorem dX2_advances_74 : decode cX2_advances 74 = .ok (.iload_n 1, 1) := dk_27 (dk_at dksX2_advances_3 4 rfl rfl)
theorem dX2_advances_75 : decode cX2_advances 75 = .ok (.invokestatic 87, 3) := dk_184 0 87 (dk_at dksX2_advances_3 5 rfl rfl)
theorem dX2_advances_78 : decode cX2_advances 78 = .ok (.ifCond .eq 7, 3) := dk_153 0 7 (dk_at dksX2_advances_3 8 rfl rfl)
theorem dX2_advances_81 : decode cX2_advances 81 = .ok (.iconst 2, 1) := dk_5 (dk_at dksX2_advances_3 11 rfl rfl)
theorem dX2_advances_82 : decode cX2_advances 82 = .ok (.goto 14, 3) := dk_167 0 14 (dk_at dksX2_advances_3 12 rfl rfl)
theorem dX2_advances_85 : decode cX2_advances 85 = .ok (.iload_n 1, 1) := dk_27 (dk_at dksX2_advances_3 15 rfl rfl)
theorem dX2_advances_86 : decode cX2_advances 86 = .ok (.bipush 59, 2) := dk_16 59 (dk_at dksX2_advances_3 16 rfl rfl)
theorem dX2_advances_88 : decode cX2_advances 88 = .ok (.if_icmp .ne 7, 3) := dk_160 0 7 (dk_at dksX2_advances_3 18 rfl rfl)
theorem dX2_advances_91 : decode cX2_advances 91 = .ok (.iconst 3, 1) := dk_6 (dk_at dksX2_advances_3 21 rfl rfl)
theorem dX2_advances_92 : decode cX2_advances 92 = .ok (.goto 4, 3) := dk_167 0 4 (dk_at dksX2_advances_4 0 rfl rfl)
theorem dX2_advances_95 : decode cX2_advances 95 = .ok (.iconst 4, 1) := dk_7 (dk_at dksX2_advances_4 3 rfl rfl)
theorem dX2_advances_96 : decode cX2_advances 96 = .ok (.putfield 90, 3) := dk_181 0 90 (dk_at dksX2_advances_4 4 rfl rfl)
theorem dX2_advances_99 : decode cX2_advances 99 = .ok (.aload_n 0, 1) := dk_42 (dk_at dksX2_advances_4 7 rfl rfl)
theorem dX2_advances_100 : decode cX2_advances 100 = .ok (.getfield 90, 3) := dk_180 0 90 (dk_at dksX2_advances_4 8 rfl rfl)
theorem dX2_advances_103 : decode cX2_advances 103 = .ok (.iconst 1, 1) := dk_4 (dk_at dksX2_advances_4 11 rfl rfl)
theorem dX2_advances_104 : decode cX2_advances 104 = .ok (.if_icmp .ne 17, 3) := dk_160 0 17 (dk_at dksX2_advances_4 12 rfl rfl)
theorem dX2_advances_107 : decode cX2_advances 107 = .ok (.aload_n 0, 1) := dk_42 (dk_at dksX2_advances_4 15 rfl rfl)
theorem dX2_advances_108 : decode cX2_advances 108 = .ok (.aload_n 0, 1) := dk_42 (dk_at dksX2_advances_4 16 rfl rfl)
theorem dX2_advances_109 : decode cX2_advances 109 = .ok (.getfield 67, 3) := dk_180 0 67 (dk_at dksX2_advances_4 17 rfl rfl)
theorem dX2_advances_112 : decode cX2_advances 112 = .ok (.invokevirtual 70, 3) := dk_182 0 70 (dk_at dksX2_advances_4 20 rfl rfl)
theorem dX2_advances_115 : decode cX2_advances 115 = .ok (.invokestatic 83, 3) := dk_184 0 83 (dk_at dksX2_advances_5 0 rfl rfl)
theorem dX2_advances_118 : decode cX2_advances 118 = .ok (.ifCond .ne 25, 3) := dk_154 0 25 (dk_at dksX2_advances_5 3 rfl rfl)
theorem dX2_advances_121 : decode cX2_advances 121 = .ok (.aload_n 0, 1) := dk_42 (dk_at dksX2_advances_5 6 rfl rfl)
theorem dX2_advances_122 : decode cX2_advances 122 = .ok (.getfield 90, 3) := dk_180 0 90 (dk_at dksX2_advances_5 7 rfl rfl)
theorem dX2_advances_125 : decode cX2_advances 125 = .ok (.iconst 2, 1) := dk_5 (dk_at dksX2_advances_5 10 rfl rfl)
theorem dX2_advances_126 : decode cX2_advances 126 = .ok (.if_icmp .ne 105, 3) := dk_160 0 105 (dk_at dksX2_advances_5 11 rfl rfl)
theorem dX2_advances_129 : decode cX2_advances 129 = .ok (.aload_n 0, 1) := dk_42 (dk_at dksX2_advances_5 14 rfl rfl)
theorem dX2_advances_130 : decode cX2_advances 130 = .ok (.aload_n 0, 1) := dk_42 (dk_at dksX2_advances_5 15 rfl rfl)
theorem dX2_advances_131 : decode cX2_advances 131 = .ok (.getfield 67, 3) := dk_180 0 67 (dk_at dksX2_advances_5 16 rfl rfl)
theorem dX2_advances_134 : decode cX2_advances 134 = .ok (.invokevirtual 70, 3) := dk_182 0 70 (dk_at dksX2_advances_5 19 rfl rfl)
theorem dX2_advances_137 : decode cX2_advances 137 = .ok (.invokestatic 87, 3) := dk_184 0 87 (dk_at dksX2_advances_6 0 rfl rfl)
theorem dX2_advances_140 : decode cX2_advances 140 = .ok (.ifCond .eq 91, 3) := dk_153 0 91 (dk_at dksX2_advances_6 3 rfl rfl)
theorem dX2_advances_143 : decode cX2_advances 143 = .ok (.aload_n 0, 1) := dk_42 (dk_at dksX2_advances_6 6 rfl rfl)
theorem dX2_advances_144 : decode cX2_advances 144 = .ok (.aload_n 0, 1) := dk_42 (dk_at dksX2_advances_6 7 rfl rfl)
theorem dX2_advances_145 : decode cX2_advances 145 = .ok (.getfield 77, 3) := dk_180 0 77 (dk_at dksX2_advances_6 8 rfl rfl)
theorem dX2_advances_148 : decode cX2_advances 148 = .ok (.iconst 5, 1) := dk_8 (dk_at dksX2_advances_6 11 rfl rfl)
theorem dX2_advances_149 : decode cX2_advances 149 = .ok (.if_icmp .le 7, 3) := dk_164 0 7 (dk_at dksX2_advances_6 12 rfl rfl)
theorem dX2_advances_152 : decode cX2_advances 152 = .ok (.iconst (-1), 1) := dk_2 (dk_at dksX2_advances_6 15 rfl rfl)
theorem dX2_advances_153 : decode cX2_advances 153 = .ok (.goto 52, 3) := dk_167 0 52 (dk_at dksX2_advances_6 16 rfl rfl)
theorem dX2_advances_156 : decode cX2_advances 156 = .ok (.aload_n 0, 1) := dk_42 (dk_at dksX2_advances_6 19 rfl rfl)
theorem dX2_advances_157 : decode cX2_advances 157 = .ok (.getfield 90, 3) := dk_180 0 90 (dk_at dksX2_advances_6 20 rfl rfl)
theorem dX2_advances_160 : decode cX2_advances 160 = .ok (.iconst 1, 1) := dk_4 (dk_at dksX2_advances_6 23 rfl rfl)
theorem dX2_advances_161 : decode cX2_advances 161 = .ok (.if_icmp .ne 25, 3) := dk_160 0 25 (dk_at dksX2_advances_7 0 rfl rfl)
theorem dX2_advances_164 : decode cX2_advances 164 = .ok (.bipush 32, 2) := dk_16 32 (dk_at dksX2_advances_7 3 rfl rfl)
theorem dX2_advances_166 : decode cX2_advances 166 = .ok (.aload_n 0, 1) := dk_42 (dk_at dksX2_advances_7 5 rfl rfl)
theorem dX2_advances_167 : decode cX2_advances 167 = .ok (.getfield 80, 3) := dk_180 0 80 (dk_at dksX2_advances_7 6 rfl rfl)
theorem dX2_advances_170 : decode cX2_advances 170 = .ok (.imul, 1) := dk_104 (dk_at dksX2_advances_7 9 rfl rfl)
theorem dX2_advances_171 : decode cX2_advances 171 = .ok (.aload_n 0, 1) := dk_42 (dk_at dksX2_advances_7 10 rfl rfl)
theorem dX2_advances_172 : decode cX2_advances 172 = .ok (.aload_n 0, 1) := dk_42 (dk_at dksX2_advances_7 11 rfl rfl)
theorem dX2_advances_173 : decode cX2_advances 173 = .ok (.getfield 67, 3) := dk_180 0 67 (dk_at dksX2_advances_7 12 rfl rfl)
theorem dX2_advances_176 : decode cX2_advances 176 = .ok (.invokevirtual 70, 3) := dk_182 0 70 (dk_at dksX2_advances_7 15 rfl rfl)
theorem dX2_advances_179 : decode cX2_advances 179 = .ok (.iadd, 1) := dk_96 (dk_at dksX2_advances_7 18 rfl rfl)
theorem dX2_advances_180 : decode cX2_advances 180 = .ok (.bipush 96, 2) := dk_16 96 (dk_at dksX2_advances_7 19 rfl rfl)
theorem dX2_advances_182 : decode cX2_advances 182 = .ok (.isub, 1) := dk_100 (dk_at dksX2_advances_7 21 rfl rfl)
theorem dX2_advances_183 : decode cX2_advances 183 = .ok (.goto 22, 3) := dk_167 0 22 (dk_at dksX2_advances_8 0 rfl rfl)
theorem dX2_advances_186 : decode cX2_advances 186 = .ok (.bipush 10, 2) := dk_16 10 (dk_at dksX2_advances_8 3 rfl rfl)
theorem dX2_advances_188 : decode cX2_advances 188 = .ok (.aload_n 0, 1) := dk_42 (dk_at dksX2_advances_8 5 rfl rfl)
theorem dX2_advances_189 : decode cX2_advances 189 = .ok (.getfield 80, 3) := dk_180 0 80 (dk_at dksX2_advances_8 6 rfl rfl)
theorem dX2_advances_192 : decode cX2_advances 192 = .ok (.imul, 1) := dk_104 (dk_at dksX2_advances_8 9 rfl rfl)
theorem dX2_advances_193 : decode cX2_advances 193 = .ok (.aload_n 0, 1) := dk_42 (dk_at dksX2_advances_8 10 rfl rfl)
theorem dX2_advances_194 : decode cX2_advances 194 = .ok (.aload_n 0, 1) := dk_42 (dk_at dksX2_advances_8 11 rfl rfl)
theorem dX2_advances_195 : decode cX2_advances 195 = .ok (.getfield 67, 3) := dk_180 0 67 (dk_at dksX2_advances_8 12 rfl rfl)
theorem dX2_advances_198 : decode cX2_advances 198 = .ok (.invokevirtual 70, 3) := dk_182 0 70 (dk_at dksX2_advances_8 15 rfl rfl)
theorem dX2_advances_201 : decode cX2_advances 201 = .ok (.iadd, 1) := dk_96 (dk_at dksX2_advances_8 18 rfl rfl)
theorem dX2_advances_202 : decode cX2_advances 202 = .ok (.bipush 48, 2) := dk_16 48 (dk_at dksX2_advances_8 19 rfl rfl)
theorem dX2_advances_204 : decode cX2_advances 204 = .ok (.isub, 1) := dk_100 (dk_at dksX2_advances_8 21 rfl rfl)
theorem dX2_advances_205 : decode cX2_advances 205 = .ok (.putfield 80, 3) := dk_181 0 80 (dk_at dksX2_advances_9 0 rfl rfl)
theorem dX2_advances_208 : decode cX2_advances 208 = .ok (.aload_n 0, 1) := dk_42 (dk_at dksX2_advances_9 3 rfl rfl)
theorem dX2_advances_209 : decode cX2_advances 209 = .ok (.dup, 1) := dk_89 (dk_at dksX2_advances_9 4 rfl rfl)
theorem dX2_advances_210 : decode cX2_advances 210 = .ok (.getfield 77, 3) := dk_180 0 77 (dk_at dksX2_advances_9 5 rfl rfl)
theorem dX2_advances_213 : decode cX2_advances 213 = .ok (.iconst 1, 1) := dk_4 (dk_at dksX2_advances_9 8 rfl rfl)
theorem dX2_advances_214 : decode cX2_advances 214 = .ok (.iadd, 1) := dk_96 (dk_at dksX2_advances_9 9 rfl rfl)
theorem dX2_advances_215 : decode cX2_advances 215 = .ok (.putfield 77, 3) := dk_181 0 77 (dk_at dksX2_advances_9 10 rfl rfl)
theorem dX2_advances_218 : decode cX2_advances 218 = .ok (.aload_n 0, 1) := dk_42 (dk_at dksX2_advances_9 13 rfl rfl)
theorem dX2_advances_219 : decode cX2_advances 219 = .ok (.dup, 1) := dk_89 (dk_at dksX2_advances_9 14 rfl rfl)
theorem dX2_advances_220 : decode cX2_advances 220 = .ok (.getfield 67, 3) := dk_180 0 67 (dk_at dksX2_advances_9 15 rfl rfl)
theorem dX2_advances_223 : decode cX2_advances 223 = .ok (.iconst 1, 1) := dk_4 (dk_at dksX2_advances_9 18 rfl rfl)
theorem dX2_advances_224 : decode cX2_advances 224 = .ok (.iadd, 1) := dk_96 (dk_at dksX2_advances_9 19 rfl rfl)
theorem dX2_advances_225 : decode cX2_advances 225 = .ok (.putfield 67, 3) := dk_181 0 67 (dk_at dksX2_advances_9 20 rfl rfl)
theorem dX2_advances_228 : decode cX2_advances 228 = .ok (.goto (-129), 3) := dk_167 255 127 (dk_at dksX2_advances_10 0 rfl rfl)
theorem dX2_advances_231 : decode cX2_advances 231 = .ok (.aload_n 0, 1) := dk_42 (dk_at dksX2_advances_10 3 rfl rfl)
theorem dX2_advances_232 : decode cX2_advances 232 = .ok (.dup, 1) := dk_89 (dk_at dksX2_advances_10 4 rfl rfl)
theorem dX2_advances_233 : decode cX2_advances 233 = .ok (.getfield 67, 3) := dk_180 0 67 (dk_at dksX2_advances_10 5 rfl rfl)
theorem dX2_advances_236 : decode cX2_advances 236 = .ok (.aload_n 0, 1) := dk_42 (dk_at dksX2_advances_10 8 rfl rfl)
theorem dX2_advances_237 : decode cX2_advances 237 = .ok (.getfield 90, 3) := dk_180 0 90 (dk_at dksX2_advances_10 9 rfl rfl)
theorem dX2_advances_240 : decode cX2_advances 240 = .ok (.iconst 3, 1) := dk_6 (dk_at dksX2_advances_10 12 rfl rfl)
theorem dX2_advances_241 : decode cX2_advances 241 = .ok (.if_icmp .eq 11, 3) := dk_159 0 11 (dk_at dksX2_advances_10 13 rfl rfl)
theorem dX2_advances_244 : decode cX2_advances 244 = .ok (.aload_n 0, 1) := dk_42 (dk_at dksX2_advances_10 16 rfl rfl)
theorem dX2_advances_245 : decode cX2_advances 245 = .ok (.getfield 90, 3) := dk_180 0 90 (dk_at dksX2_advances_10 17 rfl rfl)
theorem dX2_advances_248 : decode cX2_advances 248 = .ok (.iconst 4, 1) := dk_7 (dk_at dksX2_advances_10 20 rfl rfl)
theorem dX2_advances_249 : decode cX2_advances 249 = .ok (.if_icmp .ne 7, 3) := dk_160 0 7 (dk_at dksX2_advances_10 21 rfl rfl)
theorem dX2_advances_252 : decode cX2_advances 252 = .ok (.iconst 1, 1) := dk_4 (dk_at dksX2_advances_11 0 rfl rfl)
theorem dX2_advances_253 : decode cX2_advances 253 = .ok (.goto 4, 3) := dk_167 0 4 (dk_at dksX2_advances_11 1 rfl rfl)
theorem dX2_advances_256 : decode cX2_advances 256 = .ok (.iconst 0, 1) := dk_3 (dk_at dksX2_advances_11 4 rfl rfl)
theorem dX2_advances_257 : decode cX2_advances 257 = .ok (.iadd, 1) := dk_96 (dk_at dksX2_advances_11 5 rfl rfl)
theorem dX2_advances_258 : decode cX2_advances 258 = .ok (.putfield 67, 3) := dk_181 0 67 (dk_at dksX2_advances_11 6 rfl rfl)
theorem dX2_advances_261 : decode cX2_advances 261 = .ok (.return_, 1) := dk_177 (dk_at dksX2_advances_11 9 rfl rfl)
abbrev cX2_look : ByteArray := prog_14_method_14_code
def yX2_look : MethodName := ⟨RX2, "look", "(I)I"⟩
def dkwX2_look_0 : List UInt8 := [27, 42, 180, 0, 63, 162, 0, 12, 42, 180, 0, 7, 27, 46, 167, 0, 4, 2, 172]
abbrev dktX2_look_0 : List UInt8 := dkwX2_look_0 ++ []
theorem dksX2_look_0 : cX2_look.data.toList.drop 0 = dktX2_look_0 := by decide +kernel
theorem dX2_look_0 : decode cX2_look 0 = .ok (.iload_n 1, 1) := dk_27 (dk_at dksX2_look_0 0 rfl rfl)
theorem dX2_look_1 : decode cX2_look 1 = .ok (.aload_n 0, 1) := dk_42 (dk_at dksX2_look_0 1 rfl rfl)
theorem dX2_look_2 : decode cX2_look 2 = .ok (.getfield 63, 3) := dk_180 0 63 (dk_at dksX2_look_0 2 rfl rfl)
theorem dX2_look_5 : decode cX2_look 5 = .ok (.if_icmp .ge 12, 3) := dk_162 0 12 (dk_at dksX2_look_0 5 rfl rfl)
theorem dX2_look_8 : decode cX2_look 8 = .ok (.aload_n 0, 1) := dk_42 (dk_at dksX2_look_0 8 rfl rfl)
theorem dX2_look_9 : decode cX2_look 9 = .ok (.getfield 7, 3) := dk_180 0 7 (dk_at dksX2_look_0 9 rfl rfl)
theorem dX2_look_12 : decode cX2_look 12 = .ok (.iload_n 1, 1) := dk_27 (dk_at dksX2_look_0 12 rfl rfl)
theorem dX2_look_13 : decode cX2_look 13 = .ok (.iaload, 1) := dk_46 (dk_at dksX2_look_0 13 rfl rfl)
theorem dX2_look_14 : decode cX2_look 14 = .ok (.goto 4, 3) := dk_167 0 4 (dk_at dksX2_look_0 14 rfl rfl)
theorem dX2_look_17 : decode cX2_look 17 = .ok (.iconst (-1), 1) := dk_2 (dk_at dksX2_look_0 17 rfl rfl)
theorem dX2_look_18 : decode cX2_look 18 = .ok (.ireturn, 1) := dk_172 (dk_at dksX2_look_0 18 rfl rfl)
abbrev cX2_isSmall : ByteArray := prog_14_method_12_code
def yX2_isSmall : MethodName := ⟨RX2, "isSmall", "(I)Z"⟩
def dkwX2_isSmall_0 : List UInt8 := [26, 16, 97, 16, 122, 184, 0, 59, 172]
abbrev dktX2_isSmall_0 : List UInt8 := dkwX2_isSmall_0 ++ []
theorem dksX2_isSmall_0 : cX2_isSmall.data.toList.drop 0 = dktX2_isSmall_0 := by decide +kernel
theorem dX2_isSmall_0 : decode cX2_isSmall 0 = .ok (.iload_n 0, 1) := dk_26 (dk_at dksX2_isSmall_0 0 rfl rfl)
theorem dX2_isSmall_1 : decode cX2_isSmall 1 = .ok (.bipush 97, 2) := dk_16 97 (dk_at dksX2_isSmall_0 1 rfl rfl)
theorem dX2_isSmall_3 : decode cX2_isSmall 3 = .ok (.bipush 122, 2) := dk_16 122 (dk_at dksX2_isSmall_0 3 rfl rfl)
theorem dX2_isSmall_5 : decode cX2_isSmall 5 = .ok (.invokestatic 59, 3) := dk_184 0 59 (dk_at dksX2_isSmall_0 5 rfl rfl)
theorem dX2_isSmall_8 : decode cX2_isSmall 8 = .ok (.ireturn, 1) := dk_172 (dk_at dksX2_isSmall_0 8 rfl rfl)
abbrev cX2_isDigit : ByteArray := prog_14_method_13_code
def yX2_isDigit : MethodName := ⟨RX2, "isDigit", "(I)Z"⟩
def dkwX2_isDigit_0 : List UInt8 := [26, 16, 48, 16, 57, 184, 0, 59, 172]
abbrev dktX2_isDigit_0 : List UInt8 := dkwX2_isDigit_0 ++ []
theorem dksX2_isDigit_0 : cX2_isDigit.data.toList.drop 0 = dktX2_isDigit_0 := by decide +kernel
theorem dX2_isDigit_0 : decode cX2_isDigit 0 = .ok (.iload_n 0, 1) := dk_26 (dk_at dksX2_isDigit_0 0 rfl rfl)
theorem dX2_isDigit_1 : decode cX2_isDigit 1 = .ok (.bipush 48, 2) := dk_16 48 (dk_at dksX2_isDigit_0 1 rfl rfl)
theorem dX2_isDigit_3 : decode cX2_isDigit 3 = .ok (.bipush 57, 2) := dk_16 57 (dk_at dksX2_isDigit_0 3 rfl rfl)
theorem dX2_isDigit_5 : decode cX2_isDigit 5 = .ok (.invokestatic 59, 3) := dk_184 0 59 (dk_at dksX2_isDigit_0 5 rfl rfl)
theorem dX2_isDigit_8 : decode cX2_isDigit 8 = .ok (.ireturn, 1) := dk_172 (dk_at dksX2_isDigit_0 8 rfl rfl)
abbrev cX2_clause : ByteArray := prog_14_method_25_code
def yX2_clause : MethodName := ⟨RX2, "clause", "()V"⟩
def dkwX2_clause_5 : List UInt8 := [160, 0, 10, 42, 182, 0, 127, 167, 0, 8, 42, 4, 182, 0, 96, 177]
abbrev dktX2_clause_5 : List UInt8 := dkwX2_clause_5 ++ []
def dkwX2_clause_4 : List UInt8 := [182, 0, 124, 167, 0, 35, 27, 16, 104, 16, 101, 16, 100, 184, 0, 103, 16, 103, 16, 101, 184, 0, 107]
abbrev dktX2_clause_4 : List UInt8 := dkwX2_clause_4 ++ dktX2_clause_5
def dkwX2_clause_3 : List UInt8 := [167, 0, 62, 27, 16, 107, 16, 110, 16, 111, 184, 0, 103, 16, 119, 16, 115, 184, 0, 107, 160, 0, 10, 42]
abbrev dktX2_clause_3 : List UInt8 := dkwX2_clause_3 ++ dktX2_clause_4
def dkwX2_clause_2 : List UInt8 := [182, 0, 117, 167, 0, 82, 27, 16, 112, 16, 105, 16, 116, 184, 0, 103, 160, 0, 10, 42, 182, 0, 121]
abbrev dktX2_clause_2 : List UInt8 := dkwX2_clause_2 ++ dktX2_clause_3
def dkwX2_clause_1 : List UInt8 := [2, 60, 27, 156, 0, 7, 2, 167, 0, 7, 27, 184, 0, 114, 61, 28, 2, 159, 0, 11, 42, 28]
abbrev dktX2_clause_1 : List UInt8 := dkwX2_clause_1 ++ dktX2_clause_2
def dkwX2_clause_0 : List UInt8 := [42, 180, 0, 90, 4, 160, 0, 19, 42, 180, 0, 77, 16, 7, 162, 0, 10, 42, 180, 0, 80, 167, 0, 4]
abbrev dktX2_clause_0 : List UInt8 := dkwX2_clause_0 ++ dktX2_clause_1
theorem dksX2_clause_0 : cX2_clause.data.toList.drop 0 = dktX2_clause_0 := by decide +kernel
theorem dksX2_clause_1 : cX2_clause.data.toList.drop 24 = dktX2_clause_1 := dk_seg dksX2_clause_0 24 rfl rfl
theorem dksX2_clause_2 : cX2_clause.data.toList.drop 46 = dktX2_clause_2 := dk_seg dksX2_clause_1 22 rfl rfl
theorem dksX2_clause_3 : cX2_clause.data.toList.drop 69 = dktX2_clause_3 := dk_seg dksX2_clause_2 23 rfl rfl
theorem dksX2_clause_4 : cX2_clause.data.toList.drop 93 = dktX2_clause_4 := dk_seg dksX2_clause_3 24 rfl rfl
theorem dksX2_clause_5 : cX2_clause.data.toList.drop 116 = dktX2_clause_5 := dk_seg dksX2_clause_4 23 rfl rfl
theorem dX2_clause_0 : decode cX2_clause 0 = .ok (.aload_n 0, 1) := dk_42 (dk_at dksX2_clause_0 0 rfl rfl)
theorem dX2_clause_1 : decode cX2_clause 1 = .ok (.getfield 90, 3) := dk_180 0 90 (dk_at dksX2_clause_0 1 rfl rfl)
theorem dX2_clause_4 : decode cX2_clause 4 = .ok (.iconst 1, 1) := dk_4 (dk_at dksX2_clause_0 4 rfl rfl)
theorem dX2_clause_5 : decode cX2_clause 5 = .ok (.if_icmp .ne 19, 3) := dk_160 0 19 (dk_at dksX2_clause_0 5 rfl rfl)
theorem dX2_clause_8 : decode cX2_clause 8 = .ok (.aload_n 0, 1) := dk_42 (dk_at dksX2_clause_0 8 rfl rfl)
theorem dX2_clause_9 : decode cX2_clause 9 = .ok (.getfield 77, 3) := dk_180 0 77 (dk_at dksX2_clause_0 9 rfl rfl)
theorem dX2_clause_12 : decode cX2_clause 12 = .ok (.bipush 7, 2) := dk_16 7 (dk_at dksX2_clause_0 12 rfl rfl)
theorem dX2_clause_14 : decode cX2_clause 14 = .ok (.if_icmp .ge 10, 3) := dk_162 0 10 (dk_at dksX2_clause_0 14 rfl rfl)
theorem dX2_clause_17 : decode cX2_clause 17 = .ok (.aload_n 0, 1) := dk_42 (dk_at dksX2_clause_0 17 rfl rfl)
theorem dX2_clause_18 : decode cX2_clause 18 = .ok (.getfield 80, 3) := dk_180 0 80 (dk_at dksX2_clause_0 18 rfl rfl)
theorem dX2_clause_21 : decode cX2_clause 21 = .ok (.goto 4, 3) := dk_167 0 4 (dk_at dksX2_clause_0 21 rfl rfl)
theorem dX2_clause_24 : decode cX2_clause 24 = .ok (.iconst (-1), 1) := dk_2 (dk_at dksX2_clause_1 0 rfl rfl)
theorem dX2_clause_25 : decode cX2_clause 25 = .ok (.istore_n 1, 1) := dk_60 (dk_at dksX2_clause_1 1 rfl rfl)
theorem dX2_clause_26 : decode cX2_clause 26 = .ok (.iload_n 1, 1) := dk_27 (dk_at dksX2_clause_1 2 rfl rfl)
theorem dX2_clause_27 : decode cX2_clause 27 = .ok (.ifCond .ge 7, 3) := dk_156 0 7 (dk_at dksX2_clause_1 3 rfl rfl)
theorem dX2_clause_30 : decode cX2_clause 30 = .ok (.iconst (-1), 1) := dk_2 (dk_at dksX2_clause_1 6 rfl rfl)
theorem dX2_clause_31 : decode cX2_clause 31 = .ok (.goto 7, 3) := dk_167 0 7 (dk_at dksX2_clause_1 7 rfl rfl)
theorem dX2_clause_34 : decode cX2_clause 34 = .ok (.iload_n 1, 1) := dk_27 (dk_at dksX2_clause_1 10 rfl rfl)
theorem dX2_clause_35 : decode cX2_clause 35 = .ok (.invokestatic 114, 3) := dk_184 0 114 (dk_at dksX2_clause_1 11 rfl rfl)
theorem dX2_clause_38 : decode cX2_clause 38 = .ok (.istore_n 2, 1) := dk_61 (dk_at dksX2_clause_1 14 rfl rfl)
theorem dX2_clause_39 : decode cX2_clause 39 = .ok (.iload_n 2, 1) := dk_28 (dk_at dksX2_clause_1 15 rfl rfl)
theorem dX2_clause_40 : decode cX2_clause 40 = .ok (.iconst (-1), 1) := dk_2 (dk_at dksX2_clause_1 16 rfl rfl)
theorem dX2_clause_41 : decode cX2_clause 41 = .ok (.if_icmp .eq 11, 3) := dk_159 0 11 (dk_at dksX2_clause_1 17 rfl rfl)
theorem dX2_clause_44 : decode cX2_clause 44 = .ok (.aload_n 0, 1) := dk_42 (dk_at dksX2_clause_1 20 rfl rfl)
theorem dX2_clause_45 : decode cX2_clause 45 = .ok (.iload_n 2, 1) := dk_28 (dk_at dksX2_clause_1 21 rfl rfl)
theorem dX2_clause_46 : decode cX2_clause 46 = .ok (.invokevirtual 117, 3) := dk_182 0 117 (dk_at dksX2_clause_2 0 rfl rfl)
theorem dX2_clause_49 : decode cX2_clause 49 = .ok (.goto 82, 3) := dk_167 0 82 (dk_at dksX2_clause_2 3 rfl rfl)
theorem dX2_clause_52 : decode cX2_clause 52 = .ok (.iload_n 1, 1) := dk_27 (dk_at dksX2_clause_2 6 rfl rfl)
theorem dX2_clause_53 : decode cX2_clause 53 = .ok (.bipush 112, 2) := dk_16 112 (dk_at dksX2_clause_2 7 rfl rfl)
theorem dX2_clause_55 : decode cX2_clause 55 = .ok (.bipush 105, 2) := dk_16 105 (dk_at dksX2_clause_2 9 rfl rfl)
theorem dX2_clause_57 : decode cX2_clause 57 = .ok (.bipush 116, 2) := dk_16 116 (dk_at dksX2_clause_2 11 rfl rfl)
theorem dX2_clause_59 : decode cX2_clause 59 = .ok (.invokestatic 103, 3) := dk_184 0 103 (dk_at dksX2_clause_2 13 rfl rfl)
theorem dX2_clause_62 : decode cX2_clause 62 = .ok (.if_icmp .ne 10, 3) := dk_160 0 10 (dk_at dksX2_clause_2 16 rfl rfl)
theorem dX2_clause_65 : decode cX2_clause 65 = .ok (.aload_n 0, 1) := dk_42 (dk_at dksX2_clause_2 19 rfl rfl)
theorem dX2_clause_66 : decode cX2_clause 66 = .ok (.invokevirtual 121, 3) := dk_182 0 121 (dk_at dksX2_clause_2 20 rfl rfl)
theorem dX2_clause_69 : decode cX2_clause 69 = .ok (.goto 62, 3) := dk_167 0 62 (dk_at dksX2_clause_3 0 rfl rfl)
theorem dX2_clause_72 : decode cX2_clause 72 = .ok (.iload_n 1, 1) := dk_27 (dk_at dksX2_clause_3 3 rfl rfl)
theorem dX2_clause_73 : decode cX2_clause 73 = .ok (.bipush 107, 2) := dk_16 107 (dk_at dksX2_clause_3 4 rfl rfl)
theorem dX2_clause_75 : decode cX2_clause 75 = .ok (.bipush 110, 2) := dk_16 110 (dk_at dksX2_clause_3 6 rfl rfl)
theorem dX2_clause_77 : decode cX2_clause 77 = .ok (.bipush 111, 2) := dk_16 111 (dk_at dksX2_clause_3 8 rfl rfl)
theorem dX2_clause_79 : decode cX2_clause 79 = .ok (.invokestatic 103, 3) := dk_184 0 103 (dk_at dksX2_clause_3 10 rfl rfl)
theorem dX2_clause_82 : decode cX2_clause 82 = .ok (.bipush 119, 2) := dk_16 119 (dk_at dksX2_clause_3 13 rfl rfl)
theorem dX2_clause_84 : decode cX2_clause 84 = .ok (.bipush 115, 2) := dk_16 115 (dk_at dksX2_clause_3 15 rfl rfl)
theorem dX2_clause_86 : decode cX2_clause 86 = .ok (.invokestatic 107, 3) := dk_184 0 107 (dk_at dksX2_clause_3 17 rfl rfl)
theorem dX2_clause_89 : decode cX2_clause 89 = .ok (.if_icmp .ne 10, 3) := dk_160 0 10 (dk_at dksX2_clause_3 20 rfl rfl)
theorem dX2_clause_92 : decode cX2_clause 92 = .ok (.aload_n 0, 1) := dk_42 (dk_at dksX2_clause_3 23 rfl rfl)
theorem dX2_clause_93 : decode cX2_clause 93 = .ok (.invokevirtual 124, 3) := dk_182 0 124 (dk_at dksX2_clause_4 0 rfl rfl)
theorem dX2_clause_96 : decode cX2_clause 96 = .ok (.goto 35, 3) := dk_167 0 35 (dk_at dksX2_clause_4 3 rfl rfl)
theorem dX2_clause_99 : decode cX2_clause 99 = .ok (.iload_n 1, 1) := dk_27 (dk_at dksX2_clause_4 6 rfl rfl)
theorem dX2_clause_100 : decode cX2_clause 100 = .ok (.bipush 104, 2) := dk_16 104 (dk_at dksX2_clause_4 7 rfl rfl)
theorem dX2_clause_102 : decode cX2_clause 102 = .ok (.bipush 101, 2) := dk_16 101 (dk_at dksX2_clause_4 9 rfl rfl)
theorem dX2_clause_104 : decode cX2_clause 104 = .ok (.bipush 100, 2) := dk_16 100 (dk_at dksX2_clause_4 11 rfl rfl)
theorem dX2_clause_106 : decode cX2_clause 106 = .ok (.invokestatic 103, 3) := dk_184 0 103 (dk_at dksX2_clause_4 13 rfl rfl)
theorem dX2_clause_109 : decode cX2_clause 109 = .ok (.bipush 103, 2) := dk_16 103 (dk_at dksX2_clause_4 16 rfl rfl)
theorem dX2_clause_111 : decode cX2_clause 111 = .ok (.bipush 101, 2) := dk_16 101 (dk_at dksX2_clause_4 18 rfl rfl)
theorem dX2_clause_113 : decode cX2_clause 113 = .ok (.invokestatic 107, 3) := dk_184 0 107 (dk_at dksX2_clause_4 20 rfl rfl)
theorem dX2_clause_116 : decode cX2_clause 116 = .ok (.if_icmp .ne 10, 3) := dk_160 0 10 (dk_at dksX2_clause_5 0 rfl rfl)
theorem dX2_clause_119 : decode cX2_clause 119 = .ok (.aload_n 0, 1) := dk_42 (dk_at dksX2_clause_5 3 rfl rfl)
theorem dX2_clause_120 : decode cX2_clause 120 = .ok (.invokevirtual 127, 3) := dk_182 0 127 (dk_at dksX2_clause_5 4 rfl rfl)
theorem dX2_clause_123 : decode cX2_clause 123 = .ok (.goto 8, 3) := dk_167 0 8 (dk_at dksX2_clause_5 7 rfl rfl)
theorem dX2_clause_126 : decode cX2_clause 126 = .ok (.aload_n 0, 1) := dk_42 (dk_at dksX2_clause_5 10 rfl rfl)
theorem dX2_clause_127 : decode cX2_clause 127 = .ok (.iconst 1, 1) := dk_4 (dk_at dksX2_clause_5 11 rfl rfl)
theorem dX2_clause_128 : decode cX2_clause 128 = .ok (.invokevirtual 96, 3) := dk_182 0 96 (dk_at dksX2_clause_5 12 rfl rfl)
theorem dX2_clause_131 : decode cX2_clause 131 = .ok (.return_, 1) := dk_177 (dk_at dksX2_clause_5 15 rfl rfl)
abbrev cX2_kindOf : ByteArray := prog_14_method_20_code
def yX2_kindOf : MethodName := ⟨RX2, "kindOf", "(I)I"⟩
def dkwX2_kindOf_5 : List UInt8 := [167, 0, 21, 26, 16, 115, 16, 112, 16, 121, 184, 0, 103, 160, 0, 7, 7, 167, 0, 4, 2, 172]
abbrev dktX2_kindOf_5 : List UInt8 := dkwX2_kindOf_5 ++ []
def dkwX2_kindOf_4 : List UInt8 := [160, 0, 7, 4, 167, 0, 40, 26, 29, 160, 0, 7, 5, 167, 0, 31, 26, 21, 4, 160, 0, 7, 6]
abbrev dktX2_kindOf_4 : List UInt8 := dkwX2_kindOf_4 ++ dktX2_kindOf_5
def dkwX2_kindOf_3 : List UInt8 := [184, 0, 103, 104, 16, 121, 96, 16, 96, 100, 54, 4, 26, 27, 160, 0, 7, 3, 167, 0, 49, 26, 28]
abbrev dktX2_kindOf_3 : List UInt8 := dkwX2_kindOf_3 ++ dktX2_kindOf_4
def dkwX2_kindOf_2 : List UInt8 := [16, 101, 16, 97, 184, 0, 103, 104, 16, 116, 96, 16, 96, 100, 62, 16, 32, 16, 100, 16, 111, 16, 122]
abbrev dktX2_kindOf_2 : List UInt8 := dkwX2_kindOf_2 ++ dktX2_kindOf_3
def dkwX2_kindOf_1 : List UInt8 := [16, 101, 184, 0, 103, 16, 101, 16, 100, 184, 0, 107, 104, 16, 121, 96, 16, 96, 100, 61, 16, 32, 16, 110]
abbrev dktX2_kindOf_1 : List UInt8 := dkwX2_kindOf_1 ++ dktX2_kindOf_2
def dkwX2_kindOf_0 : List UInt8 := [16, 112, 16, 108, 16, 97, 184, 0, 103, 16, 105, 16, 110, 184, 0, 107, 60, 16, 32, 16, 103, 16, 114]
abbrev dktX2_kindOf_0 : List UInt8 := dkwX2_kindOf_0 ++ dktX2_kindOf_1
theorem dksX2_kindOf_0 : cX2_kindOf.data.toList.drop 0 = dktX2_kindOf_0 := by decide +kernel
theorem dksX2_kindOf_1 : cX2_kindOf.data.toList.drop 23 = dktX2_kindOf_1 := dk_seg dksX2_kindOf_0 23 rfl rfl
theorem dksX2_kindOf_2 : cX2_kindOf.data.toList.drop 47 = dktX2_kindOf_2 := dk_seg dksX2_kindOf_1 24 rfl rfl
theorem dksX2_kindOf_3 : cX2_kindOf.data.toList.drop 70 = dktX2_kindOf_3 := dk_seg dksX2_kindOf_2 23 rfl rfl
theorem dksX2_kindOf_4 : cX2_kindOf.data.toList.drop 93 = dktX2_kindOf_4 := dk_seg dksX2_kindOf_3 23 rfl rfl
theorem dksX2_kindOf_5 : cX2_kindOf.data.toList.drop 116 = dktX2_kindOf_5 := dk_seg dksX2_kindOf_4 23 rfl rfl
theorem dX2_kindOf_0 : decode cX2_kindOf 0 = .ok (.bipush 112, 2) := dk_16 112 (dk_at dksX2_kindOf_0 0 rfl rfl)
theorem dX2_kindOf_2 : decode cX2_kindOf 2 = .ok (.bipush 108, 2) := dk_16 108 (dk_at dksX2_kindOf_0 2 rfl rfl)
theorem dX2_kindOf_4 : decode cX2_kindOf 4 = .ok (.bipush 97, 2) := dk_16 97 (dk_at dksX2_kindOf_0 4 rfl rfl)
theorem dX2_kindOf_6 : decode cX2_kindOf 6 = .ok (.invokestatic 103, 3) := dk_184 0 103 (dk_at dksX2_kindOf_0 6 rfl rfl)
theorem dX2_kindOf_9 : decode cX2_kindOf 9 = .ok (.bipush 105, 2) := dk_16 105 (dk_at dksX2_kindOf_0 9 rfl rfl)
theorem dX2_kindOf_11 : decode cX2_kindOf 11 = .ok (.bipush 110, 2) := dk_16 110 (dk_at dksX2_kindOf_0 11 rfl rfl)
theorem dX2_kindOf_13 : decode cX2_kindOf 13 = .ok (.invokestatic 107, 3) := dk_184 0 107 (dk_at dksX2_kindOf_0 13 rfl rfl)
theorem dX2_kindOf_16 : decode cX2_kindOf 16 = .ok (.istore_n 1, 1) := dk_60 (dk_at dksX2_kindOf_0 16 rfl rfl)
theorem dX2_kindOf_17 : decode cX2_kindOf 17 = .ok (.bipush 32, 2) := dk_16 32 (dk_at dksX2_kindOf_0 17 rfl rfl)
theorem dX2_kindOf_19 : decode cX2_kindOf 19 = .ok (.bipush 103, 2) := dk_16 103 (dk_at dksX2_kindOf_0 19 rfl rfl)
theorem dX2_kindOf_21 : decode cX2_kindOf 21 = .ok (.bipush 114, 2) := dk_16 114 (dk_at dksX2_kindOf_0 21 rfl rfl)
theorem dX2_kindOf_23 : decode cX2_kindOf 23 = .ok (.bipush 101, 2) := dk_16 101 (dk_at dksX2_kindOf_1 0 rfl rfl)
theorem dX2_kindOf_25 : decode cX2_kindOf 25 = .ok (.invokestatic 103, 3) := dk_184 0 103 (dk_at dksX2_kindOf_1 2 rfl rfl)
theorem dX2_kindOf_28 : decode cX2_kindOf 28 = .ok (.bipush 101, 2) := dk_16 101 (dk_at dksX2_kindOf_1 5 rfl rfl)
theorem dX2_kindOf_30 : decode cX2_kindOf 30 = .ok (.bipush 100, 2) := dk_16 100 (dk_at dksX2_kindOf_1 7 rfl rfl)
theorem dX2_kindOf_32 : decode cX2_kindOf 32 = .ok (.invokestatic 107, 3) := dk_184 0 107 (dk_at dksX2_kindOf_1 9 rfl rfl)
theorem dX2_kindOf_35 : decode cX2_kindOf 35 = .ok (.imul, 1) := dk_104 (dk_at dksX2_kindOf_1 12 rfl rfl)
theorem dX2_kindOf_36 : decode cX2_kindOf 36 = .ok (.bipush 121, 2) := dk_16 121 (dk_at dksX2_kindOf_1 13 rfl rfl)
theorem dX2_kindOf_38 : decode cX2_kindOf 38 = .ok (.iadd, 1) := dk_96 (dk_at dksX2_kindOf_1 15 rfl rfl)
theorem dX2_kindOf_39 : decode cX2_kindOf 39 = .ok (.bipush 96, 2) := dk_16 96 (dk_at dksX2_kindOf_1 16 rfl rfl)
theorem dX2_kindOf_41 : decode cX2_kindOf 41 = .ok (.isub, 1) := dk_100 (dk_at dksX2_kindOf_1 18 rfl rfl)
theorem dX2_kindOf_42 : decode cX2_kindOf 42 = .ok (.istore_n 2, 1) := dk_61 (dk_at dksX2_kindOf_1 19 rfl rfl)
theorem dX2_kindOf_43 : decode cX2_kindOf 43 = .ok (.bipush 32, 2) := dk_16 32 (dk_at dksX2_kindOf_1 20 rfl rfl)
theorem dX2_kindOf_45 : decode cX2_kindOf 45 = .ok (.bipush 110, 2) := dk_16 110 (dk_at dksX2_kindOf_1 22 rfl rfl)
theorem dX2_kindOf_47 : decode cX2_kindOf 47 = .ok (.bipush 101, 2) := dk_16 101 (dk_at dksX2_kindOf_2 0 rfl rfl)
theorem dX2_kindOf_49 : decode cX2_kindOf 49 = .ok (.bipush 97, 2) := dk_16 97 (dk_at dksX2_kindOf_2 2 rfl rfl)
theorem dX2_kindOf_51 : decode cX2_kindOf 51 = .ok (.invokestatic 103, 3) := dk_184 0 103 (dk_at dksX2_kindOf_2 4 rfl rfl)
theorem dX2_kindOf_54 : decode cX2_kindOf 54 = .ok (.imul, 1) := dk_104 (dk_at dksX2_kindOf_2 7 rfl rfl)
theorem dX2_kindOf_55 : decode cX2_kindOf 55 = .ok (.bipush 116, 2) := dk_16 116 (dk_at dksX2_kindOf_2 8 rfl rfl)
theorem dX2_kindOf_57 : decode cX2_kindOf 57 = .ok (.iadd, 1) := dk_96 (dk_at dksX2_kindOf_2 10 rfl rfl)
theorem dX2_kindOf_58 : decode cX2_kindOf 58 = .ok (.bipush 96, 2) := dk_16 96 (dk_at dksX2_kindOf_2 11 rfl rfl)
theorem dX2_kindOf_60 : decode cX2_kindOf 60 = .ok (.isub, 1) := dk_100 (dk_at dksX2_kindOf_2 13 rfl rfl)
theorem dX2_kindOf_61 : decode cX2_kindOf 61 = .ok (.istore_n 3, 1) := dk_62 (dk_at dksX2_kindOf_2 14 rfl rfl)
theorem dX2_kindOf_62 : decode cX2_kindOf 62 = .ok (.bipush 32, 2) := dk_16 32 (dk_at dksX2_kindOf_2 15 rfl rfl)
theorem dX2_kindOf_64 : decode cX2_kindOf 64 = .ok (.bipush 100, 2) := dk_16 100 (dk_at dksX2_kindOf_2 17 rfl rfl)
theorem dX2_kindOf_66 : decode cX2_kindOf 66 = .ok (.bipush 111, 2) := dk_16 111 (dk_at dksX2_kindOf_2 19 rfl rfl)
theorem dX2_kindOf_68 : decode cX2_kindOf 68 = .ok (.bipush 122, 2) := dk_16 122 (dk_at dksX2_kindOf_2 21 rfl rfl)
theorem dX2_kindOf_70 : decode cX2_kindOf 70 = .ok (.invokestatic 103, 3) := dk_184 0 103 (dk_at dksX2_kindOf_3 0 rfl rfl)
theorem dX2_kindOf_73 : decode cX2_kindOf 73 = .ok (.imul, 1) := dk_104 (dk_at dksX2_kindOf_3 3 rfl rfl)
theorem dX2_kindOf_74 : decode cX2_kindOf 74 = .ok (.bipush 121, 2) := dk_16 121 (dk_at dksX2_kindOf_3 4 rfl rfl)
theorem dX2_kindOf_76 : decode cX2_kindOf 76 = .ok (.iadd, 1) := dk_96 (dk_at dksX2_kindOf_3 6 rfl rfl)
theorem dX2_kindOf_77 : decode cX2_kindOf 77 = .ok (.bipush 96, 2) := dk_16 96 (dk_at dksX2_kindOf_3 7 rfl rfl)
theorem dX2_kindOf_79 : decode cX2_kindOf 79 = .ok (.isub, 1) := dk_100 (dk_at dksX2_kindOf_3 9 rfl rfl)
theorem dX2_kindOf_80 : decode cX2_kindOf 80 = .ok (.istore 4, 2) := dk_54 4 (dk_at dksX2_kindOf_3 10 rfl rfl)
theorem dX2_kindOf_82 : decode cX2_kindOf 82 = .ok (.iload_n 0, 1) := dk_26 (dk_at dksX2_kindOf_3 12 rfl rfl)
theorem dX2_kindOf_83 : decode cX2_kindOf 83 = .ok (.iload_n 1, 1) := dk_27 (dk_at dksX2_kindOf_3 13 rfl rfl)
theorem dX2_kindOf_84 : decode cX2_kindOf 84 = .ok (.if_icmp .ne 7, 3) := dk_160 0 7 (dk_at dksX2_kindOf_3 14 rfl rfl)
theorem dX2_kindOf_87 : decode cX2_kindOf 87 = .ok (.iconst 0, 1) := dk_3 (dk_at dksX2_kindOf_3 17 rfl rfl)
theorem dX2_kindOf_88 : decode cX2_kindOf 88 = .ok (.goto 49, 3) := dk_167 0 49 (dk_at dksX2_kindOf_3 18 rfl rfl)
theorem dX2_kindOf_91 : decode cX2_kindOf 91 = .ok (.iload_n 0, 1) := dk_26 (dk_at dksX2_kindOf_3 21 rfl rfl)
theorem dX2_kindOf_92 : decode cX2_kindOf 92 = .ok (.iload_n 2, 1) := dk_28 (dk_at dksX2_kindOf_3 22 rfl rfl)
theorem dX2_kindOf_93 : decode cX2_kindOf 93 = .ok (.if_icmp .ne 7, 3) := dk_160 0 7 (dk_at dksX2_kindOf_4 0 rfl rfl)
theorem dX2_kindOf_96 : decode cX2_kindOf 96 = .ok (.iconst 1, 1) := dk_4 (dk_at dksX2_kindOf_4 3 rfl rfl)
theorem dX2_kindOf_97 : decode cX2_kindOf 97 = .ok (.goto 40, 3) := dk_167 0 40 (dk_at dksX2_kindOf_4 4 rfl rfl)
theorem dX2_kindOf_100 : decode cX2_kindOf 100 = .ok (.iload_n 0, 1) := dk_26 (dk_at dksX2_kindOf_4 7 rfl rfl)
theorem dX2_kindOf_101 : decode cX2_kindOf 101 = .ok (.iload_n 3, 1) := dk_29 (dk_at dksX2_kindOf_4 8 rfl rfl)
theorem dX2_kindOf_102 : decode cX2_kindOf 102 = .ok (.if_icmp .ne 7, 3) := dk_160 0 7 (dk_at dksX2_kindOf_4 9 rfl rfl)
theorem dX2_kindOf_105 : decode cX2_kindOf 105 = .ok (.iconst 2, 1) := dk_5 (dk_at dksX2_kindOf_4 12 rfl rfl)
theorem dX2_kindOf_106 : decode cX2_kindOf 106 = .ok (.goto 31, 3) := dk_167 0 31 (dk_at dksX2_kindOf_4 13 rfl rfl)
theorem dX2_kindOf_109 : decode cX2_kindOf 109 = .ok (.iload_n 0, 1) := dk_26 (dk_at dksX2_kindOf_4 16 rfl rfl)
theorem dX2_kindOf_110 : decode cX2_kindOf 110 = .ok (.iload 4, 2) := dk_21 4 (dk_at dksX2_kindOf_4 17 rfl rfl)
theorem dX2_kindOf_112 : decode cX2_kindOf 112 = .ok (.if_icmp .ne 7, 3) := dk_160 0 7 (dk_at dksX2_kindOf_4 19 rfl rfl)
theorem dX2_kindOf_115 : decode cX2_kindOf 115 = .ok (.iconst 3, 1) := dk_6 (dk_at dksX2_kindOf_4 22 rfl rfl)
theorem dX2_kindOf_116 : decode cX2_kindOf 116 = .ok (.goto 21, 3) := dk_167 0 21 (dk_at dksX2_kindOf_5 0 rfl rfl)
theorem dX2_kindOf_119 : decode cX2_kindOf 119 = .ok (.iload_n 0, 1) := dk_26 (dk_at dksX2_kindOf_5 3 rfl rfl)
theorem dX2_kindOf_120 : decode cX2_kindOf 120 = .ok (.bipush 115, 2) := dk_16 115 (dk_at dksX2_kindOf_5 4 rfl rfl)
theorem dX2_kindOf_122 : decode cX2_kindOf 122 = .ok (.bipush 112, 2) := dk_16 112 (dk_at dksX2_kindOf_5 6 rfl rfl)
theorem dX2_kindOf_124 : decode cX2_kindOf 124 = .ok (.bipush 121, 2) := dk_16 121 (dk_at dksX2_kindOf_5 8 rfl rfl)
theorem dX2_kindOf_126 : decode cX2_kindOf 126 = .ok (.invokestatic 103, 3) := dk_184 0 103 (dk_at dksX2_kindOf_5 10 rfl rfl)
theorem dX2_kindOf_129 : decode cX2_kindOf 129 = .ok (.if_icmp .ne 7, 3) := dk_160 0 7 (dk_at dksX2_kindOf_5 13 rfl rfl)
theorem dX2_kindOf_132 : decode cX2_kindOf 132 = .ok (.iconst 4, 1) := dk_7 (dk_at dksX2_kindOf_5 16 rfl rfl)
theorem dX2_kindOf_133 : decode cX2_kindOf 133 = .ok (.goto 4, 3) := dk_167 0 4 (dk_at dksX2_kindOf_5 17 rfl rfl)
theorem dX2_kindOf_136 : decode cX2_kindOf 136 = .ok (.iconst (-1), 1) := dk_2 (dk_at dksX2_kindOf_5 20 rfl rfl)
theorem dX2_kindOf_137 : decode cX2_kindOf 137 = .ok (.ireturn, 1) := dk_172 (dk_at dksX2_kindOf_5 21 rfl rfl)
abbrev cX2_word : ByteArray := prog_14_method_16_code
def yX2_word : MethodName := ⟨RX2, "word", "(III)I"⟩
def dkwX2_word_0 : List UInt8 := [16, 32, 16, 32, 26, 16, 96, 100, 104, 27, 96, 16, 96, 100, 104, 28, 96, 16, 96, 100, 172]
abbrev dktX2_word_0 : List UInt8 := dkwX2_word_0 ++ []
theorem dksX2_word_0 : cX2_word.data.toList.drop 0 = dktX2_word_0 := by decide +kernel
theorem dX2_word_0 : decode cX2_word 0 = .ok (.bipush 32, 2) := dk_16 32 (dk_at dksX2_word_0 0 rfl rfl)
theorem dX2_word_2 : decode cX2_word 2 = .ok (.bipush 32, 2) := dk_16 32 (dk_at dksX2_word_0 2 rfl rfl)
theorem dX2_word_4 : decode cX2_word 4 = .ok (.iload_n 0, 1) := dk_26 (dk_at dksX2_word_0 4 rfl rfl)
theorem dX2_word_5 : decode cX2_word 5 = .ok (.bipush 96, 2) := dk_16 96 (dk_at dksX2_word_0 5 rfl rfl)
theorem dX2_word_7 : decode cX2_word 7 = .ok (.isub, 1) := dk_100 (dk_at dksX2_word_0 7 rfl rfl)
theorem dX2_word_8 : decode cX2_word 8 = .ok (.imul, 1) := dk_104 (dk_at dksX2_word_0 8 rfl rfl)
theorem dX2_word_9 : decode cX2_word 9 = .ok (.iload_n 1, 1) := dk_27 (dk_at dksX2_word_0 9 rfl rfl)
theorem dX2_word_10 : decode cX2_word 10 = .ok (.iadd, 1) := dk_96 (dk_at dksX2_word_0 10 rfl rfl)
theorem dX2_word_11 : decode cX2_word 11 = .ok (.bipush 96, 2) := dk_16 96 (dk_at dksX2_word_0 11 rfl rfl)
theorem dX2_word_13 : decode cX2_word 13 = .ok (.isub, 1) := dk_100 (dk_at dksX2_word_0 13 rfl rfl)
theorem dX2_word_14 : decode cX2_word 14 = .ok (.imul, 1) := dk_104 (dk_at dksX2_word_0 14 rfl rfl)
theorem dX2_word_15 : decode cX2_word 15 = .ok (.iload_n 2, 1) := dk_28 (dk_at dksX2_word_0 15 rfl rfl)
theorem dX2_word_16 : decode cX2_word 16 = .ok (.iadd, 1) := dk_96 (dk_at dksX2_word_0 16 rfl rfl)
theorem dX2_word_17 : decode cX2_word 17 = .ok (.bipush 96, 2) := dk_16 96 (dk_at dksX2_word_0 17 rfl rfl)
theorem dX2_word_19 : decode cX2_word 19 = .ok (.isub, 1) := dk_100 (dk_at dksX2_word_0 19 rfl rfl)
theorem dX2_word_20 : decode cX2_word 20 = .ok (.ireturn, 1) := dk_172 (dk_at dksX2_word_0 20 rfl rfl)
abbrev cX2_longer : ByteArray := prog_14_method_17_code
def yX2_longer : MethodName := ⟨RX2, "longer", "(III)I"⟩
def dkwX2_longer_0 : List UInt8 := [16, 32, 16, 32, 26, 104, 27, 96, 16, 96, 100, 104, 28, 96, 16, 96, 100, 172]
abbrev dktX2_longer_0 : List UInt8 := dkwX2_longer_0 ++ []
theorem dksX2_longer_0 : cX2_longer.data.toList.drop 0 = dktX2_longer_0 := by decide +kernel
theorem dX2_longer_0 : decode cX2_longer 0 = .ok (.bipush 32, 2) := dk_16 32 (dk_at dksX2_longer_0 0 rfl rfl)
theorem dX2_longer_2 : decode cX2_longer 2 = .ok (.bipush 32, 2) := dk_16 32 (dk_at dksX2_longer_0 2 rfl rfl)
theorem dX2_longer_4 : decode cX2_longer 4 = .ok (.iload_n 0, 1) := dk_26 (dk_at dksX2_longer_0 4 rfl rfl)
theorem dX2_longer_5 : decode cX2_longer 5 = .ok (.imul, 1) := dk_104 (dk_at dksX2_longer_0 5 rfl rfl)
theorem dX2_longer_6 : decode cX2_longer 6 = .ok (.iload_n 1, 1) := dk_27 (dk_at dksX2_longer_0 6 rfl rfl)
theorem dX2_longer_7 : decode cX2_longer 7 = .ok (.iadd, 1) := dk_96 (dk_at dksX2_longer_0 7 rfl rfl)
theorem dX2_longer_8 : decode cX2_longer 8 = .ok (.bipush 96, 2) := dk_16 96 (dk_at dksX2_longer_0 8 rfl rfl)
theorem dX2_longer_10 : decode cX2_longer 10 = .ok (.isub, 1) := dk_100 (dk_at dksX2_longer_0 10 rfl rfl)
theorem dX2_longer_11 : decode cX2_longer 11 = .ok (.imul, 1) := dk_104 (dk_at dksX2_longer_0 11 rfl rfl)
theorem dX2_longer_12 : decode cX2_longer 12 = .ok (.iload_n 2, 1) := dk_28 (dk_at dksX2_longer_0 12 rfl rfl)
theorem dX2_longer_13 : decode cX2_longer 13 = .ok (.iadd, 1) := dk_96 (dk_at dksX2_longer_0 13 rfl rfl)
theorem dX2_longer_14 : decode cX2_longer 14 = .ok (.bipush 96, 2) := dk_16 96 (dk_at dksX2_longer_0 14 rfl rfl)
theorem dX2_longer_16 : decode cX2_longer 16 = .ok (.isub, 1) := dk_100 (dk_at dksX2_longer_0 16 rfl rfl)
theorem dX2_longer_17 : decode cX2_longer 17 = .ok (.ireturn, 1) := dk_172 (dk_at dksX2_longer_0 17 rfl rfl)
abbrev cX2_tellsSquirrel : ByteArray := prog_14_method_22_code
def yX2_tellsSquirrel : MethodName := ⟨RX2, "tellsSquirrel", "(I)V"⟩
def dkwX2_tellsSquirrel_4 : List UInt8 := [92, 46, 4, 96, 79, 177]
abbrev dktX2_tellsSquirrel_4 : List UInt8 := dkwX2_tellsSquirrel_4 ++ []
def dkwX2_tellsSquirrel_3 : List UInt8 := [180, 0, 16, 21, 4, 4, 96, 28, 79, 42, 180, 0, 16, 21, 4, 5, 96, 29, 79, 42, 180, 0, 16, 4]
abbrev dktX2_tellsSquirrel_3 : List UInt8 := dkwX2_tellsSquirrel_3 ++ dktX2_tellsSquirrel_4
def dkwX2_tellsSquirrel_2 : List UInt8 := [16, 21, 8, 42, 180, 0, 16, 4, 46, 104, 96, 54, 4, 42, 180, 0, 16, 21, 4, 27, 79, 42]
abbrev dktX2_tellsSquirrel_2 : List UInt8 := dkwX2_tellsSquirrel_2 ++ dktX2_tellsSquirrel_3
def dkwX2_tellsSquirrel_1 : List UInt8 := [3, 16, 19, 182, 0, 110, 61, 42, 4, 16, 9, 182, 0, 110, 62, 42, 180, 0, 93, 2, 160, 0, 54]
abbrev dktX2_tellsSquirrel_1 : List UInt8 := dkwX2_tellsSquirrel_1 ++ dktX2_tellsSquirrel_2
def dkwX2_tellsSquirrel_0 : List UInt8 := [42, 42, 180, 0, 16, 4, 46, 8, 160, 0, 7, 4, 167, 0, 4, 3, 182, 0, 96, 42, 182, 0, 100, 42]
abbrev dktX2_tellsSquirrel_0 : List UInt8 := dkwX2_tellsSquirrel_0 ++ dktX2_tellsSquirrel_1
theorem dksX2_tellsSquirrel_0 : cX2_tellsSquirrel.data.toList.drop 0 = dktX2_tellsSquirrel_0 := by decide +kernel
theorem dksX2_tellsSquirrel_1 : cX2_tellsSquirrel.data.toList.drop 24 = dktX2_tellsSquirrel_1 := dk_seg dksX2_tellsSquirrel_0 24 rfl rfl
theorem dksX2_tellsSquirrel_2 : cX2_tellsSquirrel.data.toList.drop 47 = dktX2_tellsSquirrel_2 := dk_seg dksX2_tellsSquirrel_1 23 rfl rfl
theorem dksX2_tellsSquirrel_3 : cX2_tellsSquirrel.data.toList.drop 69 = dktX2_tellsSquirrel_3 := dk_seg dksX2_tellsSquirrel_2 22 rfl rfl
theorem dksX2_tellsSquirrel_4 : cX2_tellsSquirrel.data.toList.drop 93 = dktX2_tellsSquirrel_4 := dk_seg dksX2_tellsSquirrel_3 24 rfl rfl
theorem dX2_tellsSquirrel_0 : decode cX2_tellsSquirrel 0 = .ok (.aload_n 0, 1) := dk_42 (dk_at dksX2_tellsSquirrel_0 0 rfl rfl)
theorem dX2_tellsSquirrel_1 : decode cX2_tellsSquirrel 1 = .ok (.aload_n 0, 1) := dk_42 (dk_at dksX2_tellsSquirrel_0 1 rfl rfl)
theorem dX2_tellsSquirrel_2 : decode cX2_tellsSquirrel 2 = .ok (.getfield 16, 3) := dk_180 0 16 (dk_at dksX2_tellsSquirrel_0 2 rfl rfl)
theorem dX2_tellsSquirrel_5 : decode cX2_tellsSquirrel 5 = .ok (.iconst 1, 1) := dk_4 (dk_at dksX2_tellsSquirrel_0 5 rfl rfl)
theorem dX2_tellsSquirrel_6 : decode cX2_tellsSquirrel 6 = .ok (.iaload, 1) := dk_46 (dk_at dksX2_tellsSquirrel_0 6 rfl rfl)
theorem dX2_tellsSquirrel_7 : decode cX2_tellsSquirrel 7 = .ok (.iconst 5, 1) := dk_8 (dk_at dksX2_tellsSquirrel_0 7 rfl rfl)
theorem dX2_tellsSquirrel_8 : decode cX2_tellsSquirrel 8 = .ok (.if_icmp .ne 7, 3) := dk_160 0 7 (dk_at dksX2_tellsSquirrel_0 8 rfl rfl)
theorem dX2_tellsSquirrel_11 : decode cX2_tellsSquirrel 11 = .ok (.iconst 1, 1) := dk_4 (dk_at dksX2_tellsSquirrel_0 11 rfl rfl)
theorem dX2_tellsSquirrel_12 : decode cX2_tellsSquirrel 12 = .ok (.goto 4, 3) := dk_167 0 4 (dk_at dksX2_tellsSquirrel_0 12 rfl rfl)
theorem dX2_tellsSquirrel_15 : decode cX2_tellsSquirrel 15 = .ok (.iconst 0, 1) := dk_3 (dk_at dksX2_tellsSquirrel_0 15 rfl rfl)
theorem dX2_tellsSquirrel_16 : decode cX2_tellsSquirrel 16 = .ok (.invokevirtual 96, 3) := dk_182 0 96 (dk_at dksX2_tellsSquirrel_0 16 rfl rfl)
theorem dX2_tellsSquirrel_19 : decode cX2_tellsSquirrel 19 = .ok (.aload_n 0, 1) := dk_42 (dk_at dksX2_tellsSquirrel_0 19 rfl rfl)
theorem dX2_tellsSquirrel_20 : decode cX2_tellsSquirrel 20 = .ok (.invokevirtual 100, 3) := dk_182 0 100 (dk_at dksX2_tellsSquirrel_0 20 rfl rfl)
theorem dX2_tellsSquirrel_23 : decode cX2_tellsSquirrel 23 = .ok (.aload_n 0, 1) := dk_42 (dk_at dksX2_tellsSquirrel_0 23 rfl rfl)
theorem dX2_tellsSquirrel_24 : decode cX2_tellsSquirrel 24 = .ok (.iconst 0, 1) := dk_3 (dk_at dksX2_tellsSquirrel_1 0 rfl rfl)
theorem dX2_tellsSquirrel_25 : decode cX2_tellsSquirrel 25 = .ok (.bipush 19, 2) := dk_16 19 (dk_at dksX2_tellsSquirrel_1 1 rfl rfl)
theorem dX2_tellsSquirrel_27 : decode cX2_tellsSquirrel 27 = .ok (.invokevirtual 110, 3) := dk_182 0 110 (dk_at dksX2_tellsSquirrel_1 3 rfl rfl)
theorem dX2_tellsSquirrel_30 : decode cX2_tellsSquirrel 30 = .ok (.istore_n 2, 1) := dk_61 (dk_at dksX2_tellsSquirrel_1 6 rfl rfl)
theorem dX2_tellsSquirrel_31 : decode cX2_tellsSquirrel 31 = .ok (.aload_n 0, 1) := dk_42 (dk_at dksX2_tellsSquirrel_1 7 rfl rfl)
theorem dX2_tellsSquirrel_32 : decode cX2_tellsSquirrel 32 = .ok (.iconst 1, 1) := dk_4 (dk_at dksX2_tellsSquirrel_1 8 rfl rfl)
theorem dX2_tellsSquirrel_33 : decode cX2_tellsSquirrel 33 = .ok (.bipush 9, 2) := dk_16 9 (dk_at dksX2_tellsSquirrel_1 9 rfl rfl)
theorem dX2_tellsSquirrel_35 : decode cX2_tellsSquirrel 35 = .ok (.invokevirtual 110, 3) := dk_182 0 110 (dk_at dksX2_tellsSquirrel_1 11 rfl rfl)
theorem dX2_tellsSquirrel_38 : decode cX2_tellsSquirrel 38 = .ok (.istore_n 3, 1) := dk_62 (dk_at dksX2_tellsSquirrel_1 14 rfl rfl)
theorem dX2_tellsSquirrel_39 : decode cX2_tellsSquirrel 39 = .ok (.aload_n 0, 1) := dk_42 (dk_at dksX2_tellsSquirrel_1 15 rfl rfl)
theorem dX2_tellsSquirrel_40 : decode cX2_tellsSquirrel 40 = .ok (.getfield 93, 3) := dk_180 0 93 (dk_at dksX2_tellsSquirrel_1 16 rfl rfl)
theorem dX2_tellsSquirrel_43 : decode cX2_tellsSquirrel 43 = .ok (.iconst (-1), 1) := dk_2 (dk_at dksX2_tellsSquirrel_1 19 rfl rfl)
theorem dX2_tellsSquirrel_44 : decode cX2_tellsSquirrel 44 = .ok (.if_icmp .ne 54, 3) := dk_160 0 54 (dk_at dksX2_tellsSquirrel_1 20 rfl rfl)
theorem dX2_tellsSquirrel_47 : decode cX2_tellsSquirrel 47 = .ok (.bipush 21, 2) := dk_16 21 (dk_at dksX2_tellsSquirrel_2 0 rfl rfl)
theorem dX2_tellsSquirrel_49 : decode cX2_tellsSquirrel 49 = .ok (.iconst 5, 1) := dk_8 (dk_at dksX2_tellsSquirrel_2 2 rfl rfl)
theorem dX2_tellsSquirrel_50 : decode cX2_tellsSquirrel 50 = .ok (.aload_n 0, 1) := dk_42 (dk_at dksX2_tellsSquirrel_2 3 rfl rfl)
theorem dX2_tellsSquirrel_51 : decode cX2_tellsSquirrel 51 = .ok (.getfield 16, 3) := dk_180 0 16 (dk_at dksX2_tellsSquirrel_2 4 rfl rfl)
theorem dX2_tellsSquirrel_54 : decode cX2_tellsSquirrel 54 = .ok (.iconst 1, 1) := dk_4 (dk_at dksX2_tellsSquirrel_2 7 rfl rfl)
theorem dX2_tellsSquirrel_55 : decode cX2_tellsSquirrel 55 = .ok (.iaload, 1) := dk_46 (dk_at dksX2_tellsSquirrel_2 8 rfl rfl)
theorem dX2_tellsSquirrel_56 : decode cX2_tellsSquirrel 56 = .ok (.imul, 1) := dk_104 (dk_at dksX2_tellsSquirrel_2 9 rfl rfl)
theorem dX2_tellsSquirrel_57 : decode cX2_tellsSquirrel 57 = .ok (.iadd, 1) := dk_96 (dk_at dksX2_tellsSquirrel_2 10 rfl rfl)
theorem dX2_tellsSquirrel_58 : decode cX2_tellsSquirrel 58 = .ok (.istore 4, 2) := dk_54 4 (dk_at dksX2_tellsSquirrel_2 11 rfl rfl)
theorem dX2_tellsSquirrel_60 : decode cX2_tellsSquirrel 60 = .ok (.aload_n 0, 1) := dk_42 (dk_at dksX2_tellsSquirrel_2 13 rfl rfl)
theorem dX2_tellsSquirrel_61 : decode cX2_tellsSquirrel 61 = .ok (.getfield 16, 3) := dk_180 0 16 (dk_at dksX2_tellsSquirrel_2 14 rfl rfl)
theorem dX2_tellsSquirrel_64 : decode cX2_tellsSquirrel 64 = .ok (.iload 4, 2) := dk_21 4 (dk_at dksX2_tellsSquirrel_2 17 rfl rfl)
theorem dX2_tellsSquirrel_66 : decode cX2_tellsSquirrel 66 = .ok (.iload_n 1, 1) := dk_27 (dk_at dksX2_tellsSquirrel_2 19 rfl rfl)
theorem dX2_tellsSquirrel_67 : decode cX2_tellsSquirrel 67 = .ok (.iastore, 1) := dk_79 (dk_at dksX2_tellsSquirrel_2 20 rfl rfl)
theorem dX2_tellsSquirrel_68 : decode cX2_tellsSquirrel 68 = .ok (.aload_n 0, 1) := dk_42 (dk_at dksX2_tellsSquirrel_2 21 rfl rfl)
theorem dX2_tellsSquirrel_69 : decode cX2_tellsSquirrel 69 = .ok (.getfield 16, 3) := dk_180 0 16 (dk_at dksX2_tellsSquirrel_3 0 rfl rfl)
theorem dX2_tellsSquirrel_72 : decode cX2_tellsSquirrel 72 = .ok (.iload 4, 2) := dk_21 4 (dk_at dksX2_tellsSquirrel_3 3 rfl rfl)
theorem dX2_tellsSquirrel_74 : decode cX2_tellsSquirrel 74 = .ok (.iconst 1, 1) := dk_4 (dk_at dksX2_tellsSquirrel_3 5 rfl rfl)
theorem dX2_tellsSquirrel_75 : decode cX2_tellsSquirrel 75 = .ok (.iadd, 1) := dk_96 (dk_at dksX2_tellsSquirrel_3 6 rfl rfl)
theorem dX2_tellsSquirrel_76 : decode cX2_tellsSquirrel 76 = .ok (.iload_n 2, 1) := dk_28 (dk_at dksX2_tellsSquirrel_3 7 rfl rfl)
theorem dX2_tellsSquirrel_77 : decode cX2_tellsSquirrel 77 = .ok (.iastore, 1) := dk_79 (dk_at dksX2_tellsSquirrel_3 8 rfl rfl)
theorem dX2_tellsSquirrel_78 : decode cX2_tellsSquirrel 78 = .ok (.aload_n 0, 1) := dk_42 (dk_at dksX2_tellsSquirrel_3 9 rfl rfl)
theorem dX2_tellsSquirrel_79 : decode cX2_tellsSquirrel 79 = .ok (.getfield 16, 3) := dk_180 0 16 (dk_at dksX2_tellsSquirrel_3 10 rfl rfl)
theorem dX2_tellsSquirrel_82 : decode cX2_tellsSquirrel 82 = .ok (.iload 4, 2) := dk_21 4 (dk_at dksX2_tellsSquirrel_3 13 rfl rfl)
theorem dX2_tellsSquirrel_84 : decode cX2_tellsSquirrel 84 = .ok (.iconst 2, 1) := dk_5 (dk_at dksX2_tellsSquirrel_3 15 rfl rfl)
theorem dX2_tellsSquirrel_85 : decode cX2_tellsSquirrel 85 = .ok (.iadd, 1) := dk_96 (dk_at dksX2_tellsSquirrel_3 16 rfl rfl)
theorem dX2_tellsSquirrel_86 : decode cX2_tellsSquirrel 86 = .ok (.iload_n 3, 1) := dk_29 (dk_at dksX2_tellsSquirrel_3 17 rfl rfl)
theorem dX2_tellsSquirrel_87 : decode cX2_tellsSquirrel 87 = .ok (.iastore, 1) := dk_79 (dk_at dksX2_tellsSquirrel_3 18 rfl rfl)
theorem dX2_tellsSquirrel_88 : decode cX2_tellsSquirrel 88 = .ok (.aload_n 0, 1) := dk_42 (dk_at dksX2_tellsSquirrel_3 19 rfl rfl)
theorem dX2_tellsSquirrel_89 : decode cX2_tellsSquirrel 89 = .ok (.getfield 16, 3) := dk_180 0 16 (dk_at dksX2_tellsSquirrel_3 20 rfl rfl)
theorem dX2_tellsSquirrel_92 : decode cX2_tellsSquirrel 92 = .ok (.iconst 1, 1) := dk_4 (dk_at dksX2_tellsSquirrel_3 23 rfl rfl)
theorem dX2_tellsSquirrel_93 : decode cX2_tellsSquirrel 93 = .ok (.dup2, 1) := dk_92 (dk_at dksX2_tellsSquirrel_4 0 rfl rfl)
theorem dX2_tellsSquirrel_94 : decode cX2_tellsSquirrel 94 = .ok (.iaload, 1) := dk_46 (dk_at dksX2_tellsSquirrel_4 1 rfl rfl)
theorem dX2_tellsSquirrel_95 : decode cX2_tellsSquirrel 95 = .ok (.iconst 1, 1) := dk_4 (dk_at dksX2_tellsSquirrel_4 2 rfl rfl)
theorem dX2_tellsSquirrel_96 : decode cX2_tellsSquirrel 96 = .ok (.iadd, 1) := dk_96 (dk_at dksX2_tellsSquirrel_4 3 rfl rfl)
theorem dX2_tellsSquirrel_97 : decode cX2_tellsSquirrel 97 = .ok (.iastore, 1) := dk_79 (dk_at dksX2_tellsSquirrel_4 4 rfl rfl)
theorem dX2_tellsSquirrel_98 : decode cX2_tellsSquirrel 98 = .ok (.return_, 1) := dk_177 (dk_at dksX2_tellsSquirrel_4 5 rfl rfl)
abbrev cX2_fails : ByteArray := prog_14_method_18_code
def yX2_fails : MethodName := ⟨RX2, "fails", "(Z)V"⟩
def dkwX2_fails_1 : List UInt8 := [181, 0, 93, 177]
abbrev dktX2_fails_1 : List UInt8 := dkwX2_fails_1 ++ []
def dkwX2_fails_0 : List UInt8 := [42, 42, 180, 0, 93, 2, 160, 0, 14, 27, 153, 0, 10, 42, 180, 0, 74, 167, 0, 7, 42, 180, 0, 93]
abbrev dktX2_fails_0 : List UInt8 := dkwX2_fails_0 ++ dktX2_fails_1
theorem dksX2_fails_0 : cX2_fails.data.toList.drop 0 = dktX2_fails_0 := by decide +kernel
theorem dksX2_fails_1 : cX2_fails.data.toList.drop 24 = dktX2_fails_1 := dk_seg dksX2_fails_0 24 rfl rfl
theorem dX2_fails_0 : decode cX2_fails 0 = .ok (.aload_n 0, 1) := dk_42 (dk_at dksX2_fails_0 0 rfl rfl)
theorem dX2_fails_1 : decode cX2_fails 1 = .ok (.aload_n 0, 1) := dk_42 (dk_at dksX2_fails_0 1 rfl rfl)
theorem dX2_fails_2 : decode cX2_fails 2 = .ok (.getfield 93, 3) := dk_180 0 93 (dk_at dksX2_fails_0 2 rfl rfl)
theorem dX2_fails_5 : decode cX2_fails 5 = .ok (.iconst (-1), 1) := dk_2 (dk_at dksX2_fails_0 5 rfl rfl)
theorem dX2_fails_6 : decode cX2_fails 6 = .ok (.if_icmp .ne 14, 3) := dk_160 0 14 (dk_at dksX2_fails_0 6 rfl rfl)
theorem dX2_fails_9 : decode cX2_fails 9 = .ok (.iload_n 1, 1) := dk_27 (dk_at dksX2_fails_0 9 rfl rfl)
theorem dX2_fails_10 : decode cX2_fails 10 = .ok (.ifCond .eq 10, 3) := dk_153 0 10 (dk_at dksX2_fails_0 10 rfl rfl)
theorem dX2_fails_13 : decode cX2_fails 13 = .ok (.aload_n 0, 1) := dk_42 (dk_at dksX2_fails_0 13 rfl rfl)
theorem dX2_fails_14 : decode cX2_fails 14 = .ok (.getfield 74, 3) := dk_180 0 74 (dk_at dksX2_fails_0 14 rfl rfl)
theorem dX2_fails_17 : decode cX2_fails 17 = .ok (.goto 7, 3) := dk_167 0 7 (dk_at dksX2_fails_0 17 rfl rfl)
theorem dX2_fails_20 : decode cX2_fails 20 = .ok (.aload_n 0, 1) := dk_42 (dk_at dksX2_fails_0 20 rfl rfl)
theorem dX2_fails_21 : decode cX2_fails 21 = .ok (.getfield 93, 3) := dk_180 0 93 (dk_at dksX2_fails_0 21 rfl rfl)
theorem dX2_fails_24 : decode cX2_fails 24 = .ok (.putfield 93, 3) := dk_181 0 93 (dk_at dksX2_fails_1 0 rfl rfl)
theorem dX2_fails_27 : decode cX2_fails 27 = .ok (.return_, 1) := dk_177 (dk_at dksX2_fails_1 3 rfl rfl)
abbrev cX2_figure : ByteArray := prog_14_method_19_code
def yX2_figure : MethodName := ⟨RX2, "figure", "(II)I"⟩
def dkwX2_figure_2 : List UInt8 := [180, 0, 80, 167, 0, 4, 3, 62, 42, 182, 0, 100, 29, 172]
abbrev dktX2_figure_2 : List UInt8 := dkwX2_figure_2 ++ []
def dkwX2_figure_1 : List UInt8 := [184, 0, 59, 154, 0, 7, 4, 167, 0, 4, 3, 182, 0, 96, 42, 180, 0, 93, 2, 160, 0, 10, 42]
abbrev dktX2_figure_1 : List UInt8 := dkwX2_figure_1 ++ dktX2_figure_2
def dkwX2_figure_0 : List UInt8 := [42, 42, 180, 0, 90, 5, 160, 0, 23, 42, 180, 0, 77, 5, 163, 0, 15, 42, 180, 0, 80, 27, 28]
abbrev dktX2_figure_0 : List UInt8 := dkwX2_figure_0 ++ dktX2_figure_1
theorem dksX2_figure_0 : cX2_figure.data.toList.drop 0 = dktX2_figure_0 := by decide +kernel
theorem dksX2_figure_1 : cX2_figure.data.toList.drop 23 = dktX2_figure_1 := dk_seg dksX2_figure_0 23 rfl rfl
theorem dksX2_figure_2 : cX2_figure.data.toList.drop 46 = dktX2_figure_2 := dk_seg dksX2_figure_1 23 rfl rfl
theorem dX2_figure_0 : decode cX2_figure 0 = .ok (.aload_n 0, 1) := dk_42 (dk_at dksX2_figure_0 0 rfl rfl)
theorem dX2_figure_1 : decode cX2_figure 1 = .ok (.aload_n 0, 1) := dk_42 (dk_at dksX2_figure_0 1 rfl rfl)
theorem dX2_figure_2 : decode cX2_figure 2 = .ok (.getfield 90, 3) := dk_180 0 90 (dk_at dksX2_figure_0 2 rfl rfl)
theorem dX2_figure_5 : decode cX2_figure 5 = .ok (.iconst 2, 1) := dk_5 (dk_at dksX2_figure_0 5 rfl rfl)
theorem dX2_figure_6 : decode cX2_figure 6 = .ok (.if_icmp .ne 23, 3) := dk_160 0 23 (dk_at dksX2_figure_0 6 rfl rfl)
theorem dX2_figure_9 : decode cX2_figure 9 = .ok (.aload_n 0, 1) := dk_42 (dk_at dksX2_figure_0 9 rfl rfl)
theorem dX2_figure_10 : decode cX2_figure 10 = .ok (.getfield 77, 3) := dk_180 0 77 (dk_at dksX2_figure_0 10 rfl rfl)
theorem dX2_figure_13 : decode cX2_figure 13 = .ok (.iconst 2, 1) := dk_5 (dk_at dksX2_figure_0 13 rfl rfl)
theorem dX2_figure_14 : decode cX2_figure 14 = .ok (.if_icmp .gt 15, 3) := dk_163 0 15 (dk_at dksX2_figure_0 14 rfl rfl)
theorem dX2_figure_17 : decode cX2_figure 17 = .ok (.aload_n 0, 1) := dk_42 (dk_at dksX2_figure_0 17 rfl rfl)
theorem dX2_figure_18 : decode cX2_figure 18 = .ok (.getfield 80, 3) := dk_180 0 80 (dk_at dksX2_figure_0 18 rfl rfl)
theorem dX2_figure_21 : decode cX2_figure 21 = .ok (.iload_n 1, 1) := dk_27 (dk_at dksX2_figure_0 21 rfl rfl)
theorem dX2_figure_22 : decode cX2_figure 22 = .ok (.iload_n 2, 1) := dk_28 (dk_at dksX2_figure_0 22 rfl rfl)
theorem dX2_figure_23 : decode cX2_figure 23 = .ok (.invokestatic 59, 3) := dk_184 0 59 (dk_at dksX2_figure_1 0 rfl rfl)
theorem dX2_figure_26 : decode cX2_figure 26 = .ok (.ifCond .ne 7, 3) := dk_154 0 7 (dk_at dksX2_figure_1 3 rfl rfl)
theorem dX2_figure_29 : decode cX2_figure 29 = .ok (.iconst 1, 1) := dk_4 (dk_at dksX2_figure_1 6 rfl rfl)
theorem dX2_figure_30 : decode cX2_figure 30 = .ok (.goto 4, 3) := dk_167 0 4 (dk_at dksX2_figure_1 7 rfl rfl)
theorem dX2_figure_33 : decode cX2_figure 33 = .ok (.iconst 0, 1) := dk_3 (dk_at dksX2_figure_1 10 rfl rfl)
theorem dX2_figure_34 : decode cX2_figure 34 = .ok (.invokevirtual 96, 3) := dk_182 0 96 (dk_at dksX2_figure_1 11 rfl rfl)
theorem dX2_figure_37 : decode cX2_figure 37 = .ok (.aload_n 0, 1) := dk_42 (dk_at dksX2_figure_1 14 rfl rfl)
theorem dX2_figure_38 : decode cX2_figure 38 = .ok (.getfield 93, 3) := dk_180 0 93 (dk_at dksX2_figure_1 15 rfl rfl)
theorem dX2_figure_41 : decode cX2_figure 41 = .ok (.iconst (-1), 1) := dk_2 (dk_at dksX2_figure_1 18 rfl rfl)
theorem dX2_figure_42 : decode cX2_figure 42 = .ok (.if_icmp .ne 10, 3) := dk_160 0 10 (dk_at dksX2_figure_1 19 rfl rfl)
theorem dX2_figure_45 : decode cX2_figure 45 = .ok (.aload_n 0, 1) := dk_42 (dk_at dksX2_figure_1 22 rfl rfl)
theorem dX2_figure_46 : decode cX2_figure 46 = .ok (.getfield 80, 3) := dk_180 0 80 (dk_at dksX2_figure_2 0 rfl rfl)
theorem dX2_figure_49 : decode cX2_figure 49 = .ok (.goto 4, 3) := dk_167 0 4 (dk_at dksX2_figure_2 3 rfl rfl)
theorem dX2_figure_52 : decode cX2_figure 52 = .ok (.iconst 0, 1) := dk_3 (dk_at dksX2_figure_2 6 rfl rfl)
theorem dX2_figure_53 : decode cX2_figure 53 = .ok (.istore_n 3, 1) := dk_62 (dk_at dksX2_figure_2 7 rfl rfl)
theorem dX2_figure_54 : decode cX2_figure 54 = .ok (.aload_n 0, 1) := dk_42 (dk_at dksX2_figure_2 8 rfl rfl)
theorem dX2_figure_55 : decode cX2_figure 55 = .ok (.invokevirtual 100, 3) := dk_182 0 100 (dk_at dksX2_figure_2 9 rfl rfl)
theorem dX2_figure_58 : decode cX2_figure 58 = .ok (.iload_n 3, 1) := dk_29 (dk_at dksX2_figure_2 12 rfl rfl)
theorem dX2_figure_59 : decode cX2_figure 59 = .ok (.ireturn, 1) := dk_172 (dk_at dksX2_figure_2 13 rfl rfl)
abbrev cX2_tellsPit : ByteArray := prog_14_method_21_code
def yX2_tellsPit : MethodName := ⟨RX2, "tellsPit", "()V"⟩
def dkwX2_tellsPit_3 : List UInt8 := [96, 28, 79, 42, 180, 0, 16, 3, 92, 46, 4, 96, 79, 177]
abbrev dktX2_tellsPit_3 : List UInt8 := dkwX2_tellsPit_3 ++ []
def dkwX2_tellsPit_2 : List UInt8 := [6, 5, 42, 180, 0, 16, 3, 46, 104, 96, 62, 42, 180, 0, 16, 29, 27, 79, 42, 180, 0, 16, 29, 4]
abbrev dktX2_tellsPit_2 : List UInt8 := dkwX2_tellsPit_2 ++ dktX2_tellsPit_3
def dkwX2_tellsPit_1 : List UInt8 := [42, 3, 16, 19, 182, 0, 110, 60, 42, 3, 16, 99, 182, 0, 110, 61, 42, 180, 0, 93, 2, 160, 0, 40]
abbrev dktX2_tellsPit_1 : List UInt8 := dkwX2_tellsPit_1 ++ dktX2_tellsPit_2
def dkwX2_tellsPit_0 : List UInt8 := [42, 42, 180, 0, 16, 3, 46, 16, 9, 160, 0, 7, 4, 167, 0, 4, 3, 182, 0, 96, 42, 182, 0, 100]
abbrev dktX2_tellsPit_0 : List UInt8 := dkwX2_tellsPit_0 ++ dktX2_tellsPit_1
theorem dksX2_tellsPit_0 : cX2_tellsPit.data.toList.drop 0 = dktX2_tellsPit_0 := by decide +kernel
theorem dksX2_tellsPit_1 : cX2_tellsPit.data.toList.drop 24 = dktX2_tellsPit_1 := dk_seg dksX2_tellsPit_0 24 rfl rfl
theorem dksX2_tellsPit_2 : cX2_tellsPit.data.toList.drop 48 = dktX2_tellsPit_2 := dk_seg dksX2_tellsPit_1 24 rfl rfl
theorem dksX2_tellsPit_3 : cX2_tellsPit.data.toList.drop 72 = dktX2_tellsPit_3 := dk_seg dksX2_tellsPit_2 24 rfl rfl
theorem dX2_tellsPit_0 : decode cX2_tellsPit 0 = .ok (.aload_n 0, 1) := dk_42 (dk_at dksX2_tellsPit_0 0 rfl rfl)
theorem dX2_tellsPit_1 : decode cX2_tellsPit 1 = .ok (.aload_n 0, 1) := dk_42 (dk_at dksX2_tellsPit_0 1 rfl rfl)
theorem dX2_tellsPit_2 : decode cX2_tellsPit 2 = .ok (.getfield 16, 3) := dk_180 0 16 (dk_at dksX2_tellsPit_0 2 rfl rfl)
theorem dX2_tellsPit_5 : decode cX2_tellsPit 5 = .ok (.iconst 0, 1) := dk_3 (dk_at dksX2_tellsPit_0 5 rfl rfl)
theorem dX2_tellsPit_6 : decode cX2_tellsPit 6 = .ok (.iaload, 1) := dk_46 (dk_at dksX2_tellsPit_0 6 rfl rfl)
theorem dX2_tellsPit_7 : decode cX2_tellsPit 7 = .ok (.bipush 9, 2) := dk_16 9 (dk_at dksX2_tellsPit_0 7 rfl rfl)
theorem dX2_tellsPit_9 : decode cX2_tellsPit 9 = .ok (.if_icmp .ne 7, 3) := dk_160 0 7 (dk_at dksX2_tellsPit_0 9 rfl rfl)
theorem dX2_tellsPit_12 : decode cX2_tellsPit 12 = .ok (.iconst 1, 1) := dk_4 (dk_at dksX2_tellsPit_0 12 rfl rfl)
theorem dX2_tellsPit_13 : decode cX2_tellsPit 13 = .ok (.goto 4, 3) := dk_167 0 4 (dk_at dksX2_tellsPit_0 13 rfl rfl)
theorem dX2_tellsPit_16 : decode cX2_tellsPit 16 = .ok (.iconst 0, 1) := dk_3 (dk_at dksX2_tellsPit_0 16 rfl rfl)
theorem dX2_tellsPit_17 : decode cX2_tellsPit 17 = .ok (.invokevirtual 96, 3) := dk_182 0 96 (dk_at dksX2_tellsPit_0 17 rfl rfl)
theorem dX2_tellsPit_20 : decode cX2_tellsPit 20 = .ok (.aload_n 0, 1) := dk_42 (dk_at dksX2_tellsPit_0 20 rfl rfl)
theorem dX2_tellsPit_21 : decode cX2_tellsPit 21 = .ok (.invokevirtual 100, 3) := dk_182 0 100 (dk_at dksX2_tellsPit_0 21 rfl rfl)
theorem dX2_tellsPit_24 : decode cX2_tellsPit 24 = .ok (.aload_n 0, 1) := dk_42 (dk_at dksX2_tellsPit_1 0 rfl rfl)
theorem dX2_tellsPit_25 : decode cX2_tellsPit 25 = .ok (.iconst 0, 1) := dk_3 (dk_at dksX2_tellsPit_1 1 rfl rfl)
theorem dX2_tellsPit_26 : decode cX2_tellsPit 26 = .ok (.bipush 19, 2) := dk_16 19 (dk_at dksX2_tellsPit_1 2 rfl rfl)
theorem dX2_tellsPit_28 : decode cX2_tellsPit 28 = .ok (.invokevirtual 110, 3) := dk_182 0 110 (dk_at dksX2_tellsPit_1 4 rfl rfl)
theorem dX2_tellsPit_31 : decode cX2_tellsPit 31 = .ok (.istore_n 1, 1) := dk_60 (dk_at dksX2_tellsPit_1 7 rfl rfl)
theorem dX2_tellsPit_32 : decode cX2_tellsPit 32 = .ok (.aload_n 0, 1) := dk_42 (dk_at dksX2_tellsPit_1 8 rfl rfl)
theorem dX2_tellsPit_33 : decode cX2_tellsPit 33 = .ok (.iconst 0, 1) := dk_3 (dk_at dksX2_tellsPit_1 9 rfl rfl)
theorem dX2_tellsPit_34 : decode cX2_tellsPit 34 = .ok (.bipush 99, 2) := dk_16 99 (dk_at dksX2_tellsPit_1 10 rfl rfl)
theorem dX2_tellsPit_36 : decode cX2_tellsPit 36 = .ok (.invokevirtual 110, 3) := dk_182 0 110 (dk_at dksX2_tellsPit_1 12 rfl rfl)
theorem dX2_tellsPit_39 : decode cX2_tellsPit 39 = .ok (.istore_n 2, 1) := dk_61 (dk_at dksX2_tellsPit_1 15 rfl rfl)
theorem dX2_tellsPit_40 : decode cX2_tellsPit 40 = .ok (.aload_n 0, 1) := dk_42 (dk_at dksX2_tellsPit_1 16 rfl rfl)
theorem dX2_tellsPit_41 : decode cX2_tellsPit 41 = .ok (.getfield 93, 3) := dk_180 0 93 (dk_at dksX2_tellsPit_1 17 rfl rfl)
theorem dX2_tellsPit_44 : decode cX2_tellsPit 44 = .ok (.iconst (-1), 1) := dk_2 (dk_at dksX2_tellsPit_1 20 rfl rfl)
theorem dX2_tellsPit_45 : decode cX2_tellsPit 45 = .ok (.if_icmp .ne 40, 3) := dk_160 0 40 (dk_at dksX2_tellsPit_1 21 rfl rfl)
theorem dX2_tellsPit_48 : decode cX2_tellsPit 48 = .ok (.iconst 3, 1) := dk_6 (dk_at dksX2_tellsPit_2 0 rfl rfl)
theorem dX2_tellsPit_49 : decode cX2_tellsPit 49 = .ok (.iconst 2, 1) := dk_5 (dk_at dksX2_tellsPit_2 1 rfl rfl)
theorem dX2_tellsPit_50 : decode cX2_tellsPit 50 = .ok (.aload_n 0, 1) := dk_42 (dk_at dksX2_tellsPit_2 2 rfl rfl)
theorem dX2_tellsPit_51 : decode cX2_tellsPit 51 = .ok (.getfield 16, 3) := dk_180 0 16 (dk_at dksX2_tellsPit_2 3 rfl rfl)
theorem dX2_tellsPit_54 : decode cX2_tellsPit 54 = .ok (.iconst 0, 1) := dk_3 (dk_at dksX2_tellsPit_2 6 rfl rfl)
theorem dX2_tellsPit_55 : decode cX2_tellsPit 55 = .ok (.iaload, 1) := dk_46 (dk_at dksX2_tellsPit_2 7 rfl rfl)
theorem dX2_tellsPit_56 : decode cX2_tellsPit 56 = .ok (.imul, 1) := dk_104 (dk_at dksX2_tellsPit_2 8 rfl rfl)
theorem dX2_tellsPit_57 : decode cX2_tellsPit 57 = .ok (.iadd, 1) := dk_96 (dk_at dksX2_tellsPit_2 9 rfl rfl)
theorem dX2_tellsPit_58 : decode cX2_tellsPit 58 = .ok (.istore_n 3, 1) := dk_62 (dk_at dksX2_tellsPit_2 10 rfl rfl)
theorem dX2_tellsPit_59 : decode cX2_tellsPit 59 = .ok (.aload_n 0, 1) := dk_42 (dk_at dksX2_tellsPit_2 11 rfl rfl)
theorem dX2_tellsPit_60 : decode cX2_tellsPit 60 = .ok (.getfield 16, 3) := dk_180 0 16 (dk_at dksX2_tellsPit_2 12 rfl rfl)
theorem dX2_tellsPit_63 : decode cX2_tellsPit 63 = .ok (.iload_n 3, 1) := dk_29 (dk_at dksX2_tellsPit_2 15 rfl rfl)
theorem dX2_tellsPit_64 : decode cX2_tellsPit 64 = .ok (.iload_n 1, 1) := dk_27 (dk_at dksX2_tellsPit_2 16 rfl rfl)
theorem dX2_tellsPit_65 : decode cX2_tellsPit 65 = .ok (.iastore, 1) := dk_79 (dk_at dksX2_tellsPit_2 17 rfl rfl)
theorem dX2_tellsPit_66 : decode cX2_tellsPit 66 = .ok (.aload_n 0, 1) := dk_42 (dk_at dksX2_tellsPit_2 18 rfl rfl)
theorem dX2_tellsPit_67 : decode cX2_tellsPit 67 = .ok (.getfield 16, 3) := dk_180 0 16 (dk_at dksX2_tellsPit_2 19 rfl rfl)
theorem dX2_tellsPit_70 : decode cX2_tellsPit 70 = .ok (.iload_n 3, 1) := dk_29 (dk_at dksX2_tellsPit_2 22 rfl rfl)
theorem dX2_tellsPit_71 : decode cX2_tellsPit 71 = .ok (.iconst 1, 1) := dk_4 (dk_at dksX2_tellsPit_2 23 rfl rfl)
theorem dX2_tellsPit_72 : decode cX2_tellsPit 72 = .ok (.iadd, 1) := dk_96 (dk_at dksX2_tellsPit_3 0 rfl rfl)
theorem dX2_tellsPit_73 : decode cX2_tellsPit 73 = .ok (.iload_n 2, 1) := dk_28 (dk_at dksX2_tellsPit_3 1 rfl rfl)
theorem dX2_tellsPit_74 : decode cX2_tellsPit 74 = .ok (.iastore, 1) := dk_79 (dk_at dksX2_tellsPit_3 2 rfl rfl)
theorem dX2_tellsPit_75 : decode cX2_tellsPit 75 = .ok (.aload_n 0, 1) := dk_42 (dk_at dksX2_tellsPit_3 3 rfl rfl)
theorem dX2_tellsPit_76 : decode cX2_tellsPit 76 = .ok (.getfield 16, 3) := dk_180 0 16 (dk_at dksX2_tellsPit_3 4 rfl rfl)
theorem dX2_tellsPit_79 : decode cX2_tellsPit 79 = .ok (.iconst 0, 1) := dk_3 (dk_at dksX2_tellsPit_3 7 rfl rfl)
theorem dX2_tellsPit_80 : decode cX2_tellsPit 80 = .ok (.dup2, 1) := dk_92 (dk_at dksX2_tellsPit_3 8 rfl rfl)
theorem dX2_tellsPit_81 : decode cX2_tellsPit 81 = .ok (.iaload, 1) := dk_46 (dk_at dksX2_tellsPit_3 9 rfl rfl)
theorem dX2_tellsPit_82 : decode cX2_tellsPit 82 = .ok (.iconst 1, 1) := dk_4 (dk_at dksX2_tellsPit_3 10 rfl rfl)
theorem dX2_tellsPit_83 : decode cX2_tellsPit 83 = .ok (.iadd, 1) := dk_96 (dk_at dksX2_tellsPit_3 11 rfl rfl)
theorem dX2_tellsPit_84 : decode cX2_tellsPit 84 = .ok (.iastore, 1) := dk_79 (dk_at dksX2_tellsPit_3 12 rfl rfl)
theorem dX2_tellsPit_85 : decode cX2_tellsPit 85 = .ok (.return_, 1) := dk_177 (dk_at dksX2_tellsPit_3 13 rfl rfl)
abbrev cX2_tellsKnown : ByteArray := prog_14_method_23_code
def yX2_tellsKnown : MethodName := ⟨RX2, "tellsKnown", "()V"⟩
def dkwX2_tellsKnown_2 : List UInt8 := [104, 96, 7, 96, 92, 46, 4, 28, 120, 128, 79, 177]
abbrev dktX2_tellsKnown_2 : List UInt8 := dkwX2_tellsKnown_2 ++ []
def dkwX2_tellsKnown_1 : List UInt8 := [3, 46, 4, 100, 182, 0, 110, 61, 42, 180, 0, 93, 2, 160, 0, 22, 42, 180, 0, 16, 16, 21, 8, 27]
abbrev dktX2_tellsKnown_1 : List UInt8 := dkwX2_tellsKnown_1 ++ dktX2_tellsKnown_2
def dkwX2_tellsKnown_0 : List UInt8 := [42, 182, 0, 100, 42, 3, 42, 180, 0, 16, 4, 46, 4, 100, 182, 0, 110, 60, 42, 3, 42, 180, 0, 16]
abbrev dktX2_tellsKnown_0 : List UInt8 := dkwX2_tellsKnown_0 ++ dktX2_tellsKnown_1
theorem dksX2_tellsKnown_0 : cX2_tellsKnown.data.toList.drop 0 = dktX2_tellsKnown_0 := by decide +kernel
theorem dksX2_tellsKnown_1 : cX2_tellsKnown.data.toList.drop 24 = dktX2_tellsKnown_1 := dk_seg dksX2_tellsKnown_0 24 rfl rfl
theorem dksX2_tellsKnown_2 : cX2_tellsKnown.data.toList.drop 48 = dktX2_tellsKnown_2 := dk_seg dksX2_tellsKnown_1 24 rfl rfl
theorem dX2_tellsKnown_0 : decode cX2_tellsKnown 0 = .ok (.aload_n 0, 1) := dk_42 (dk_at dksX2_tellsKnown_0 0 rfl rfl)
theorem dX2_tellsKnown_1 : decode cX2_tellsKnown 1 = .ok (.invokevirtual 100, 3) := dk_182 0 100 (dk_at dksX2_tellsKnown_0 1 rfl rfl)
theorem dX2_tellsKnown_4 : decode cX2_tellsKnown 4 = .ok (.aload_n 0, 1) := dk_42 (dk_at dksX2_tellsKnown_0 4 rfl rfl)
theorem dX2_tellsKnown_5 : decode cX2_tellsKnown 5 = .ok (.iconst 0, 1) := dk_3 (dk_at dksX2_tellsKnown_0 5 rfl rfl)
theorem dX2_tellsKnown_6 : decode cX2_tellsKnown 6 = .ok (.aload_n 0, 1) := dk_42 (dk_at dksX2_tellsKnown_0 6 rfl rfl)
theorem dX2_tellsKnown_7 : decode cX2_tellsKnown 7 = .ok (.getfield 16, 3) := dk_180 0 16 (dk_at dksX2_tellsKnown_0 7 rfl rfl)
theorem dX2_tellsKnown_10 : decode cX2_tellsKnown 10 = .ok (.iconst 1, 1) := dk_4 (dk_at dksX2_tellsKnown_0 10 rfl rfl)
theorem dX2_tellsKnown_11 : decode cX2_tellsKnown 11 = .ok (.iaload, 1) := dk_46 (dk_at dksX2_tellsKnown_0 11 rfl rfl)
theorem dX2_tellsKnown_12 : decode cX2_tellsKnown 12 = .ok (.iconst 1, 1) := dk_4 (dk_at dksX2_tellsKnown_0 12 rfl rfl)
theorem dX2_tellsKnown_13 : decode cX2_tellsKnown 13 = .ok (.isub, 1) := dk_100 (dk_at dksX2_tellsKnown_0 13 rfl rfl)
theorem dX2_tellsKnown_14 : decode cX2_tellsKnown 14 = .ok (.invokevirtual 110, 3) := dk_182 0 110 (dk_at dksX2_tellsKnown_0 14 rfl rfl)
theorem dX2_tellsKnown_17 : decode cX2_tellsKnown 17 = .ok (.istore_n 1, 1) := dk_60 (dk_at dksX2_tellsKnown_0 17 rfl rfl)
theorem dX2_tellsKnown_18 : decode cX2_tellsKnown 18 = .ok (.aload_n 0, 1) := dk_42 (dk_at dksX2_tellsKnown_0 18 rfl rfl)
theorem dX2_tellsKnown_19 : decode cX2_tellsKnown 19 = .ok (.iconst 0, 1) := dk_3 (dk_at dksX2_tellsKnown_0 19 rfl rfl)
theorem dX2_tellsKnown_20 : decode cX2_tellsKnown 20 = .ok (.aload_n 0, 1) := dk_42 (dk_at dksX2_tellsKnown_0 20 rfl rfl)
theorem dX2_tellsKnown_21 : decode cX2_tellsKnown 21 = .ok (.getfield 16, 3) := dk_180 0 16 (dk_at dksX2_tellsKnown_0 21 rfl rfl)
theorem dX2_tellsKnown_24 : decode cX2_tellsKnown 24 = .ok (.iconst 0, 1) := dk_3 (dk_at dksX2_tellsKnown_1 0 rfl rfl)
theorem dX2_tellsKnown_25 : decode cX2_tellsKnown 25 = .ok (.iaload, 1) := dk_46 (dk_at dksX2_tellsKnown_1 1 rfl rfl)
theorem dX2_tellsKnown_26 : decode cX2_tellsKnown 26 = .ok (.iconst 1, 1) := dk_4 (dk_at dksX2_tellsKnown_1 2 rfl rfl)
theorem dX2_tellsKnown_27 : decode cX2_tellsKnown 27 = .ok (.isub, 1) := dk_100 (dk_at dksX2_tellsKnown_1 3 rfl rfl)
theorem dX2_tellsKnown_28 : decode cX2_tellsKnown 28 = .ok (.invokevirtual 110, 3) := dk_182 0 110 (dk_at dksX2_tellsKnown_1 4 rfl rfl)
theorem dX2_tellsKnown_31 : decode cX2_tellsKnown 31 = .ok (.istore_n 2, 1) := dk_61 (dk_at dksX2_tellsKnown_1 7 rfl rfl)
theorem dX2_tellsKnown_32 : decode cX2_tellsKnown 32 = .ok (.aload_n 0, 1) := dk_42 (dk_at dksX2_tellsKnown_1 8 rfl rfl)
theorem dX2_tellsKnown_33 : decode cX2_tellsKnown 33 = .ok (.getfield 93, 3) := dk_180 0 93 (dk_at dksX2_tellsKnown_1 9 rfl rfl)
theorem dX2_tellsKnown_36 : decode cX2_tellsKnown 36 = .ok (.iconst (-1), 1) := dk_2 (dk_at dksX2_tellsKnown_1 12 rfl rfl)
theorem dX2_tellsKnown_37 : decode cX2_tellsKnown 37 = .ok (.if_icmp .ne 22, 3) := dk_160 0 22 (dk_at dksX2_tellsKnown_1 13 rfl rfl)
theorem dX2_tellsKnown_40 : decode cX2_tellsKnown 40 = .ok (.aload_n 0, 1) := dk_42 (dk_at dksX2_tellsKnown_1 16 rfl rfl)
theorem dX2_tellsKnown_41 : decode cX2_tellsKnown 41 = .ok (.getfield 16, 3) := dk_180 0 16 (dk_at dksX2_tellsKnown_1 17 rfl rfl)
theorem dX2_tellsKnown_44 : decode cX2_tellsKnown 44 = .ok (.bipush 21, 2) := dk_16 21 (dk_at dksX2_tellsKnown_1 20 rfl rfl)
theorem dX2_tellsKnown_46 : decode cX2_tellsKnown 46 = .ok (.iconst 5, 1) := dk_8 (dk_at dksX2_tellsKnown_1 22 rfl rfl)
theorem dX2_tellsKnown_47 : decode cX2_tellsKnown 47 = .ok (.iload_n 1, 1) := dk_27 (dk_at dksX2_tellsKnown_1 23 rfl rfl)
theorem dX2_tellsKnown_48 : decode cX2_tellsKnown 48 = .ok (.imul, 1) := dk_104 (dk_at dksX2_tellsKnown_2 0 rfl rfl)
theorem dX2_tellsKnown_49 : decode cX2_tellsKnown 49 = .ok (.iadd, 1) := dk_96 (dk_at dksX2_tellsKnown_2 1 rfl rfl)
theorem dX2_tellsKnown_50 : decode cX2_tellsKnown 50 = .ok (.iconst 4, 1) := dk_7 (dk_at dksX2_tellsKnown_2 2 rfl rfl)
theorem dX2_tellsKnown_51 : decode cX2_tellsKnown 51 = .ok (.iadd, 1) := dk_96 (dk_at dksX2_tellsKnown_2 3 rfl rfl)
theorem dX2_tellsKnown_52 : decode cX2_tellsKnown 52 = .ok (.dup2, 1) := dk_92 (dk_at dksX2_tellsKnown_2 4 rfl rfl)
theorem dX2_tellsKnown_53 : decode cX2_tellsKnown 53 = .ok (.iaload, 1) := dk_46 (dk_at dksX2_tellsKnown_2 5 rfl rfl)
theorem dX2_tellsKnown_54 : decode cX2_tellsKnown 54 = .ok (.iconst 1, 1) := dk_4 (dk_at dksX2_tellsKnown_2 6 rfl rfl)
theorem dX2_tellsKnown_55 : decode cX2_tellsKnown 55 = .ok (.iload_n 2, 1) := dk_28 (dk_at dksX2_tellsKnown_2 7 rfl rfl)
theorem dX2_tellsKnown_56 : decode cX2_tellsKnown 56 = .ok (.ishl, 1) := dk_120 (dk_at dksX2_tellsKnown_2 8 rfl rfl)
theorem dX2_tellsKnown_57 : decode cX2_tellsKnown 57 = .ok (.ior, 1) := dk_128 (dk_at dksX2_tellsKnown_2 9 rfl rfl)
theorem dX2_tellsKnown_58 : decode cX2_tellsKnown 58 = .ok (.iastore, 1) := dk_79 (dk_at dksX2_tellsKnown_2 10 rfl rfl)
theorem dX2_tellsKnown_59 : decode cX2_tellsKnown 59 = .ok (.return_, 1) := dk_177 (dk_at dksX2_tellsKnown_2 11 rfl rfl)
abbrev cX2_tellsNothing : ByteArray := prog_14_method_24_code
def yX2_tellsNothing : MethodName := ⟨RX2, "tellsNothing", "()V"⟩
def dkwX2_tellsNothing_1 : List UInt8 := [182, 0, 100, 177]
abbrev dktX2_tellsNothing_1 : List UInt8 := dkwX2_tellsNothing_1 ++ []
def dkwX2_tellsNothing_0 : List UInt8 := [3, 60, 27, 16, 46, 162, 0, 16, 42, 180, 0, 16, 27, 3, 79, 132, 1, 1, 167, 255, 240, 42]
abbrev dktX2_tellsNothing_0 : List UInt8 := dkwX2_tellsNothing_0 ++ dktX2_tellsNothing_1
theorem dksX2_tellsNothing_0 : cX2_tellsNothing.data.toList.drop 0 = dktX2_tellsNothing_0 := by decide +kernel
theorem dksX2_tellsNothing_1 : cX2_tellsNothing.data.toList.drop 22 = dktX2_tellsNothing_1 := dk_seg dksX2_tellsNothing_0 22 rfl rfl
theorem dX2_tellsNothing_0 : decode cX2_tellsNothing 0 = .ok (.iconst 0, 1) := dk_3 (dk_at dksX2_tellsNothing_0 0 rfl rfl)
theorem dX2_tellsNothing_1 : decode cX2_tellsNothing 1 = .ok (.istore_n 1, 1) := dk_60 (dk_at dksX2_tellsNothing_0 1 rfl rfl)
theorem dX2_tellsNothing_2 : decode cX2_tellsNothing 2 = .ok (.iload_n 1, 1) := dk_27 (dk_at dksX2_tellsNothing_0 2 rfl rfl)
theorem dX2_tellsNothing_3 : decode cX2_tellsNothing 3 = .ok (.bipush 46, 2) := dk_16 46 (dk_at dksX2_tellsNothing_0 3 rfl rfl)
theorem dX2_tellsNothing_5 : decode cX2_tellsNothing 5 = .ok (.if_icmp .ge 16, 3) := dk_162 0 16 (dk_at dksX2_tellsNothing_0 5 rfl rfl)
theorem dX2_tellsNothing_8 : decode cX2_tellsNothing 8 = .ok (.aload_n 0, 1) := dk_42 (dk_at dksX2_tellsNothing_0 8 rfl rfl)
theorem dX2_tellsNothing_9 : decode cX2_tellsNothing 9 = .ok (.getfield 16, 3) := dk_180 0 16 (dk_at dksX2_tellsNothing_0 9 rfl rfl)
theorem dX2_tellsNothing_12 : decode cX2_tellsNothing 12 = .ok (.iload_n 1, 1) := dk_27 (dk_at dksX2_tellsNothing_0 12 rfl rfl)
theorem dX2_tellsNothing_13 : decode cX2_tellsNothing 13 = .ok (.iconst 0, 1) := dk_3 (dk_at dksX2_tellsNothing_0 13 rfl rfl)
theorem dX2_tellsNothing_14 : decode cX2_tellsNothing 14 = .ok (.iastore, 1) := dk_79 (dk_at dksX2_tellsNothing_0 14 rfl rfl)
theorem dX2_tellsNothing_15 : decode cX2_tellsNothing 15 = .ok (.iinc 1 1, 3) := dk_132 1 1 (dk_at dksX2_tellsNothing_0 15 rfl rfl)
theorem dX2_tellsNothing_18 : decode cX2_tellsNothing 18 = .ok (.goto (-16), 3) := dk_167 255 240 (dk_at dksX2_tellsNothing_0 18 rfl rfl)
theorem dX2_tellsNothing_21 : decode cX2_tellsNothing 21 = .ok (.aload_n 0, 1) := dk_42 (dk_at dksX2_tellsNothing_0 21 rfl rfl)
theorem dX2_tellsNothing_22 : decode cX2_tellsNothing 22 = .ok (.invokevirtual 100, 3) := dk_182 0 100 (dk_at dksX2_tellsNothing_1 0 rfl rfl)
theorem dX2_tellsNothing_25 : decode cX2_tellsNothing 25 = .ok (.return_, 1) := dk_177 (dk_at dksX2_tellsNothing_1 3 rfl rfl)
abbrev cX2_hedge : ByteArray := prog_14_method_28_code
def yX2_hedge : MethodName := ⟨RX2, "hedge", "()I"⟩
def dkwX2_hedge_3 : List UInt8 := [182, 0, 56, 42, 180, 0, 134, 172]
abbrev dktX2_hedge_3 : List UInt8 := dkwX2_hedge_3 ++ []
def dkwX2_hedge_2 : List UInt8 := [181, 0, 143, 42, 3, 181, 0, 146, 42, 180, 0, 31, 3, 3, 84, 42, 180, 0, 31, 4, 3, 84, 42]
abbrev dktX2_hedge_2 : List UInt8 := dkwX2_hedge_2 ++ dktX2_hedge_3
def dkwX2_hedge_1 : List UInt8 := [3, 184, 0, 130, 42, 180, 0, 16, 3, 42, 180, 0, 19, 3, 184, 0, 130, 42, 3, 181, 0, 63, 42, 3]
abbrev dktX2_hedge_1 : List UInt8 := dkwX2_hedge_1 ++ dktX2_hedge_2
def dkwX2_hedge_0 : List UInt8 := [42, 182, 0, 140, 42, 180, 0, 93, 2, 159, 0, 6, 16, 252, 172, 42, 180, 0, 16, 3, 42, 180, 0, 13]
abbrev dktX2_hedge_0 : List UInt8 := dkwX2_hedge_0 ++ dktX2_hedge_1
theorem dksX2_hedge_0 : cX2_hedge.data.toList.drop 0 = dktX2_hedge_0 := by decide +kernel
theorem dksX2_hedge_1 : cX2_hedge.data.toList.drop 24 = dktX2_hedge_1 := dk_seg dksX2_hedge_0 24 rfl rfl
theorem dksX2_hedge_2 : cX2_hedge.data.toList.drop 48 = dktX2_hedge_2 := dk_seg dksX2_hedge_1 24 rfl rfl
theorem dksX2_hedge_3 : cX2_hedge.data.toList.drop 71 = dktX2_hedge_3 := dk_seg dksX2_hedge_2 23 rfl rfl
theorem dX2_hedge_0 : decode cX2_hedge 0 = .ok (.aload_n 0, 1) := dk_42 (dk_at dksX2_hedge_0 0 rfl rfl)
theorem dX2_hedge_1 : decode cX2_hedge 1 = .ok (.invokevirtual 140, 3) := dk_182 0 140 (dk_at dksX2_hedge_0 1 rfl rfl)
theorem dX2_hedge_4 : decode cX2_hedge 4 = .ok (.aload_n 0, 1) := dk_42 (dk_at dksX2_hedge_0 4 rfl rfl)
theorem dX2_hedge_5 : decode cX2_hedge 5 = .ok (.getfield 93, 3) := dk_180 0 93 (dk_at dksX2_hedge_0 5 rfl rfl)
theorem dX2_hedge_8 : decode cX2_hedge 8 = .ok (.iconst (-1), 1) := dk_2 (dk_at dksX2_hedge_0 8 rfl rfl)
theorem dX2_hedge_9 : decode cX2_hedge 9 = .ok (.if_icmp .eq 6, 3) := dk_159 0 6 (dk_at dksX2_hedge_0 9 rfl rfl)
theorem dX2_hedge_12 : decode cX2_hedge 12 = .ok (.bipush (-4), 2) := dk_16 252 (dk_at dksX2_hedge_0 12 rfl rfl)
theorem dX2_hedge_14 : decode cX2_hedge 14 = .ok (.ireturn, 1) := dk_172 (dk_at dksX2_hedge_0 14 rfl rfl)
theorem dX2_hedge_15 : decode cX2_hedge 15 = .ok (.aload_n 0, 1) := dk_42 (dk_at dksX2_hedge_0 15 rfl rfl)
theorem dX2_hedge_16 : decode cX2_hedge 16 = .ok (.getfield 16, 3) := dk_180 0 16 (dk_at dksX2_hedge_0 16 rfl rfl)
theorem dX2_hedge_19 : decode cX2_hedge 19 = .ok (.iconst 0, 1) := dk_3 (dk_at dksX2_hedge_0 19 rfl rfl)
theorem dX2_hedge_20 : decode cX2_hedge 20 = .ok (.aload_n 0, 1) := dk_42 (dk_at dksX2_hedge_0 20 rfl rfl)
theorem dX2_hedge_21 : decode cX2_hedge 21 = .ok (.getfield 13, 3) := dk_180 0 13 (dk_at dksX2_hedge_0 21 rfl rfl)
theorem dX2_hedge_24 : decode cX2_hedge 24 = .ok (.iconst 0, 1) := dk_3 (dk_at dksX2_hedge_1 0 rfl rfl)
theorem dX2_hedge_25 : decode cX2_hedge 25 = .ok (.invokestatic 130, 3) := dk_184 0 130 (dk_at dksX2_hedge_1 1 rfl rfl)
theorem dX2_hedge_28 : decode cX2_hedge 28 = .ok (.aload_n 0, 1) := dk_42 (dk_at dksX2_hedge_1 4 rfl rfl)
theorem dX2_hedge_29 : decode cX2_hedge 29 = .ok (.getfield 16, 3) := dk_180 0 16 (dk_at dksX2_hedge_1 5 rfl rfl)
theorem dX2_hedge_32 : decode cX2_hedge 32 = .ok (.iconst 0, 1) := dk_3 (dk_at dksX2_hedge_1 8 rfl rfl)
theorem dX2_hedge_33 : decode cX2_hedge 33 = .ok (.aload_n 0, 1) := dk_42 (dk_at dksX2_hedge_1 9 rfl rfl)
theorem dX2_hedge_34 : decode cX2_hedge 34 = .ok (.getfield 19, 3) := dk_180 0 19 (dk_at dksX2_hedge_1 10 rfl rfl)
theorem dX2_hedge_37 : decode cX2_hedge 37 = .ok (.iconst 0, 1) := dk_3 (dk_at dksX2_hedge_1 13 rfl rfl)
theorem dX2_hedge_38 : decode cX2_hedge 38 = .ok (.invokestatic 130, 3) := dk_184 0 130 (dk_at dksX2_hedge_1 14 rfl rfl)
theorem dX2_hedge_41 : decode cX2_hedge 41 = .ok (.aload_n 0, 1) := dk_42 (dk_at dksX2_hedge_1 17 rfl rfl)
theorem dX2_hedge_42 : decode cX2_hedge 42 = .ok (.iconst 0, 1) := dk_3 (dk_at dksX2_hedge_1 18 rfl rfl)
theorem dX2_hedge_43 : decode cX2_hedge 43 = .ok (.putfield 63, 3) := dk_181 0 63 (dk_at dksX2_hedge_1 19 rfl rfl)
theorem dX2_hedge_46 : decode cX2_hedge 46 = .ok (.aload_n 0, 1) := dk_42 (dk_at dksX2_hedge_1 22 rfl rfl)
theorem dX2_hedge_47 : decode cX2_hedge 47 = .ok (.iconst 0, 1) := dk_3 (dk_at dksX2_hedge_1 23 rfl rfl)
theorem dX2_hedge_48 : decode cX2_hedge 48 = .ok (.putfield 143, 3) := dk_181 0 143 (dk_at dksX2_hedge_2 0 rfl rfl)
theorem dX2_hedge_51 : decode cX2_hedge 51 = .ok (.aload_n 0, 1) := dk_42 (dk_at dksX2_hedge_2 3 rfl rfl)
theorem dX2_hedge_52 : decode cX2_hedge 52 = .ok (.iconst 0, 1) := dk_3 (dk_at dksX2_hedge_2 4 rfl rfl)
theorem dX2_hedge_53 : decode cX2_hedge 53 = .ok (.putfield 146, 3) := dk_181 0 146 (dk_at dksX2_hedge_2 5 rfl rfl)
theorem dX2_hedge_56 : decode cX2_hedge 56 = .ok (.aload_n 0, 1) := dk_42 (dk_at dksX2_hedge_2 8 rfl rfl)
theorem dX2_hedge_57 : decode cX2_hedge 57 = .ok (.getfield 31, 3) := dk_180 0 31 (dk_at dksX2_hedge_2 9 rfl rfl)
theorem dX2_hedge_60 : decode cX2_hedge 60 = .ok (.iconst 0, 1) := dk_3 (dk_at dksX2_hedge_2 12 rfl rfl)
theorem dX2_hedge_61 : decode cX2_hedge 61 = .ok (.iconst 0, 1) := dk_3 (dk_at dksX2_hedge_2 13 rfl rfl)
theorem dX2_hedge_62 : decode cX2_hedge 62 = .ok (.bastore, 1) := dk_84 (dk_at dksX2_hedge_2 14 rfl rfl)
theorem dX2_hedge_63 : decode cX2_hedge 63 = .ok (.aload_n 0, 1) := dk_42 (dk_at dksX2_hedge_2 15 rfl rfl)
theorem dX2_hedge_64 : decode cX2_hedge 64 = .ok (.getfield 31, 3) := dk_180 0 31 (dk_at dksX2_hedge_2 16 rfl rfl)
theorem dX2_hedge_67 : decode cX2_hedge 67 = .ok (.iconst 1, 1) := dk_4 (dk_at dksX2_hedge_2 19 rfl rfl)
theorem dX2_hedge_68 : decode cX2_hedge 68 = .ok (.iconst 0, 1) := dk_3 (dk_at dksX2_hedge_2 20 rfl rfl)
theorem dX2_hedge_69 : decode cX2_hedge 69 = .ok (.bastore, 1) := dk_84 (dk_at dksX2_hedge_2 21 rfl rfl)
theorem dX2_hedge_70 : decode cX2_hedge 70 = .ok (.aload_n 0, 1) := dk_42 (dk_at dksX2_hedge_2 22 rfl rfl)
theorem dX2_hedge_71 : decode cX2_hedge 71 = .ok (.invokevirtual 56, 3) := dk_182 0 56 (dk_at dksX2_hedge_3 0 rfl rfl)
theorem dX2_hedge_74 : decode cX2_hedge 74 = .ok (.aload_n 0, 1) := dk_42 (dk_at dksX2_hedge_3 3 rfl rfl)
theorem dX2_hedge_75 : decode cX2_hedge 75 = .ok (.getfield 134, 3) := dk_180 0 134 (dk_at dksX2_hedge_3 4 rfl rfl)
theorem dX2_hedge_78 : decode cX2_hedge 78 = .ok (.ireturn, 1) := dk_172 (dk_at dksX2_hedge_3 7 rfl rfl)
abbrev cX2_pit : ByteArray := prog_14_method_42_code
def yX2_pit : MethodName := ⟨RX2, "pit", "(II)I"⟩
def dkwX2_pit_2 : List UInt8 := [172]
abbrev dktX2_pit_2 : List UInt8 := dkwX2_pit_2 ++ []
def dkwX2_pit_1 : List UInt8 := [5, 160, 0, 11, 42, 27, 182, 0, 191, 167, 0, 15, 42, 180, 0, 19, 6, 5, 27, 104, 96, 28, 96, 46]
abbrev dktX2_pit_1 : List UInt8 := dkwX2_pit_1 ++ dktX2_pit_2
def dkwX2_pit_0 : List UInt8 := [42, 27, 182, 0, 188, 154, 0, 6, 16, 254, 172, 28, 3, 5, 184, 0, 59, 154, 0, 6, 16, 253, 172, 28]
abbrev dktX2_pit_0 : List UInt8 := dkwX2_pit_0 ++ dktX2_pit_1
theorem dksX2_pit_0 : cX2_pit.data.toList.drop 0 = dktX2_pit_0 := by decide +kernel
theorem dksX2_pit_1 : cX2_pit.data.toList.drop 24 = dktX2_pit_1 := dk_seg dksX2_pit_0 24 rfl rfl
theorem dksX2_pit_2 : cX2_pit.data.toList.drop 48 = dktX2_pit_2 := dk_seg dksX2_pit_1 24 rfl rfl
theorem dX2_pit_0 : decode cX2_pit 0 = .ok (.aload_n 0, 1) := dk_42 (dk_at dksX2_pit_0 0 rfl rfl)
theorem dX2_pit_1 : decode cX2_pit 1 = .ok (.iload_n 1, 1) := dk_27 (dk_at dksX2_pit_0 1 rfl rfl)
theorem dX2_pit_2 : decode cX2_pit 2 = .ok (.invokevirtual 188, 3) := dk_182 0 188 (dk_at dksX2_pit_0 2 rfl rfl)
theorem dX2_pit_5 : decode cX2_pit 5 = .ok (.ifCond .ne 6, 3) := dk_154 0 6 (dk_at dksX2_pit_0 5 rfl rfl)
theorem dX2_pit_8 : decode cX2_pit 8 = .ok (.bipush (-2), 2) := dk_16 254 (dk_at dksX2_pit_0 8 rfl rfl)
theorem dX2_pit_10 : decode cX2_pit 10 = .ok (.ireturn, 1) := dk_172 (dk_at dksX2_pit_0 10 rfl rfl)
theorem dX2_pit_11 : decode cX2_pit 11 = .ok (.iload_n 2, 1) := dk_28 (dk_at dksX2_pit_0 11 rfl rfl)
theorem dX2_pit_12 : decode cX2_pit 12 = .ok (.iconst 0, 1) := dk_3 (dk_at dksX2_pit_0 12 rfl rfl)
theorem dX2_pit_13 : decode cX2_pit 13 = .ok (.iconst 2, 1) := dk_5 (dk_at dksX2_pit_0 13 rfl rfl)
theorem dX2_pit_14 : decode cX2_pit 14 = .ok (.invokestatic 59, 3) := dk_184 0 59 (dk_at dksX2_pit_0 14 rfl rfl)
theorem dX2_pit_17 : decode cX2_pit 17 = .ok (.ifCond .ne 6, 3) := dk_154 0 6 (dk_at dksX2_pit_0 17 rfl rfl)
theorem dX2_pit_20 : decode cX2_pit 20 = .ok (.bipush (-3), 2) := dk_16 253 (dk_at dksX2_pit_0 20 rfl rfl)
theorem dX2_pit_22 : decode cX2_pit 22 = .ok (.ireturn, 1) := dk_172 (dk_at dksX2_pit_0 22 rfl rfl)
theorem dX2_pit_23 : decode cX2_pit 23 = .ok (.iload_n 2, 1) := dk_28 (dk_at dksX2_pit_0 23 rfl rfl)
theorem dX2_pit_24 : decode cX2_pit 24 = .ok (.iconst 2, 1) := dk_5 (dk_at dksX2_pit_1 0 rfl rfl)
theorem dX2_pit_25 : decode cX2_pit 25 = .ok (.if_icmp .ne 11, 3) := dk_160 0 11 (dk_at dksX2_pit_1 1 rfl rfl)
theorem dX2_pit_28 : decode cX2_pit 28 = .ok (.aload_n 0, 1) := dk_42 (dk_at dksX2_pit_1 4 rfl rfl)
theorem dX2_pit_29 : decode cX2_pit 29 = .ok (.iload_n 1, 1) := dk_27 (dk_at dksX2_pit_1 5 rfl rfl)
theorem dX2_pit_30 : decode cX2_pit 30 = .ok (.invokevirtual 191, 3) := dk_182 0 191 (dk_at dksX2_pit_1 6 rfl rfl)
theorem dX2_pit_33 : decode cX2_pit 33 = .ok (.goto 15, 3) := dk_167 0 15 (dk_at dksX2_pit_1 9 rfl rfl)
theorem dX2_pit_36 : decode cX2_pit 36 = .ok (.aload_n 0, 1) := dk_42 (dk_at dksX2_pit_1 12 rfl rfl)
theorem dX2_pit_37 : decode cX2_pit 37 = .ok (.getfield 19, 3) := dk_180 0 19 (dk_at dksX2_pit_1 13 rfl rfl)
theorem dX2_pit_40 : decode cX2_pit 40 = .ok (.iconst 3, 1) := dk_6 (dk_at dksX2_pit_1 16 rfl rfl)
theorem dX2_pit_41 : decode cX2_pit 41 = .ok (.iconst 2, 1) := dk_5 (dk_at dksX2_pit_1 17 rfl rfl)
theorem dX2_pit_42 : decode cX2_pit 42 = .ok (.iload_n 1, 1) := dk_27 (dk_at dksX2_pit_1 18 rfl rfl)
theorem dX2_pit_43 : decode cX2_pit 43 = .ok (.imul, 1) := dk_104 (dk_at dksX2_pit_1 19 rfl rfl)
theorem dX2_pit_44 : decode cX2_pit 44 = .ok (.iadd, 1) := dk_96 (dk_at dksX2_pit_1 20 rfl rfl)
theorem dX2_pit_45 : decode cX2_pit 45 = .ok (.iload_n 2, 1) := dk_28 (dk_at dksX2_pit_1 21 rfl rfl)
theorem dX2_pit_46 : decode cX2_pit 46 = .ok (.iadd, 1) := dk_96 (dk_at dksX2_pit_1 22 rfl rfl)
theorem dX2_pit_47 : decode cX2_pit 47 = .ok (.iaload, 1) := dk_46 (dk_at dksX2_pit_1 23 rfl rfl)
theorem dX2_pit_48 : decode cX2_pit 48 = .ok (.ireturn, 1) := dk_172 (dk_at dksX2_pit_2 0 rfl rfl)
abbrev cX2_isPit : ByteArray := prog_14_method_39_code
def yX2_isPit : MethodName := ⟨RX2, "isPit", "(I)Z"⟩
def dkwX2_isPit_0 : List UInt8 := [27, 3, 42, 180, 0, 19, 3, 46, 4, 100, 184, 0, 59, 172]
abbrev dktX2_isPit_0 : List UInt8 := dkwX2_isPit_0 ++ []
theorem dksX2_isPit_0 : cX2_isPit.data.toList.drop 0 = dktX2_isPit_0 := by decide +kernel
theorem dX2_isPit_0 : decode cX2_isPit 0 = .ok (.iload_n 1, 1) := dk_27 (dk_at dksX2_isPit_0 0 rfl rfl)
theorem dX2_isPit_1 : decode cX2_isPit 1 = .ok (.iconst 0, 1) := dk_3 (dk_at dksX2_isPit_0 1 rfl rfl)
theorem dX2_isPit_2 : decode cX2_isPit 2 = .ok (.aload_n 0, 1) := dk_42 (dk_at dksX2_isPit_0 2 rfl rfl)
theorem dX2_isPit_3 : decode cX2_isPit 3 = .ok (.getfield 19, 3) := dk_180 0 19 (dk_at dksX2_isPit_0 3 rfl rfl)
theorem dX2_isPit_6 : decode cX2_isPit 6 = .ok (.iconst 0, 1) := dk_3 (dk_at dksX2_isPit_0 6 rfl rfl)
theorem dX2_isPit_7 : decode cX2_isPit 7 = .ok (.iaload, 1) := dk_46 (dk_at dksX2_isPit_0 7 rfl rfl)
theorem dX2_isPit_8 : decode cX2_isPit 8 = .ok (.iconst 1, 1) := dk_4 (dk_at dksX2_isPit_0 8 rfl rfl)
theorem dX2_isPit_9 : decode cX2_isPit 9 = .ok (.isub, 1) := dk_100 (dk_at dksX2_isPit_0 9 rfl rfl)
theorem dX2_isPit_10 : decode cX2_isPit 10 = .ok (.invokestatic 59, 3) := dk_184 0 59 (dk_at dksX2_isPit_0 10 rfl rfl)
theorem dX2_isPit_13 : decode cX2_isPit 13 = .ok (.ireturn, 1) := dk_172 (dk_at dksX2_isPit_0 13 rfl rfl)
abbrev cX2_knowing : ByteArray := prog_14_method_41_code
def yX2_knowing : MethodName := ⟨RX2, "knowing", "(I)I"⟩
def dkwX2_knowing_2 : List UInt8 := [167, 255, 213, 28, 172]
abbrev dktX2_knowing_2 : List UInt8 := dkwX2_knowing_2 ++ []
def dkwX2_knowing_1 : List UInt8 := [96, 7, 96, 46, 27, 184, 0, 152, 153, 0, 9, 4, 29, 120, 167, 0, 4, 3, 128, 61, 132, 3, 1]
abbrev dktX2_knowing_1 : List UInt8 := dkwX2_knowing_1 ++ dktX2_knowing_2
def dkwX2_knowing_0 : List UInt8 := [3, 61, 3, 62, 29, 42, 180, 0, 19, 4, 46, 162, 0, 39, 28, 42, 180, 0, 19, 16, 21, 8, 29, 104]
abbrev dktX2_knowing_0 : List UInt8 := dkwX2_knowing_0 ++ dktX2_knowing_1
theorem dksX2_knowing_0 : cX2_knowing.data.toList.drop 0 = dktX2_knowing_0 := by decide +kernel
theorem dksX2_knowing_1 : cX2_knowing.data.toList.drop 24 = dktX2_knowing_1 := dk_seg dksX2_knowing_0 24 rfl rfl
theorem dksX2_knowing_2 : cX2_knowing.data.toList.drop 47 = dktX2_knowing_2 := dk_seg dksX2_knowing_1 23 rfl rfl
theorem dX2_knowing_0 : decode cX2_knowing 0 = .ok (.iconst 0, 1) := dk_3 (dk_at dksX2_knowing_0 0 rfl rfl)
theorem dX2_knowing_1 : decode cX2_knowing 1 = .ok (.istore_n 2, 1) := dk_61 (dk_at dksX2_knowing_0 1 rfl rfl)
theorem dX2_knowing_2 : decode cX2_knowing 2 = .ok (.iconst 0, 1) := dk_3 (dk_at dksX2_knowing_0 2 rfl rfl)
theorem dX2_knowing_3 : decode cX2_knowing 3 = .ok (.istore_n 3, 1) := dk_62 (dk_at dksX2_knowing_0 3 rfl rfl)
theorem dX2_knowing_4 : decode cX2_knowing 4 = .ok (.iload_n 3, 1) := dk_29 (dk_at dksX2_knowing_0 4 rfl rfl)
theorem dX2_knowing_5 : decode cX2_knowing 5 = .ok (.aload_n 0, 1) := dk_42 (dk_at dksX2_knowing_0 5 rfl rfl)
theorem dX2_knowing_6 : decode cX2_knowing 6 = .ok (.getfield 19, 3) := dk_180 0 19 (dk_at dksX2_knowing_0 6 rfl rfl)
theorem dX2_knowing_9 : decode cX2_knowing 9 = .ok (.iconst 1, 1) := dk_4 (dk_at dksX2_knowing_0 9 rfl rfl)
theorem dX2_knowing_10 : decode cX2_knowing 10 = .ok (.iaload, 1) := dk_46 (dk_at dksX2_knowing_0 10 rfl rfl)
theorem dX2_knowing_11 : decode cX2_knowing 11 = .ok (.if_icmp .ge 39, 3) := dk_162 0 39 (dk_at dksX2_knowing_0 11 rfl rfl)
theorem dX2_knowing_14 : decode cX2_knowing 14 = .ok (.iload_n 2, 1) := dk_28 (dk_at dksX2_knowing_0 14 rfl rfl)
theorem dX2_knowing_15 : decode cX2_knowing 15 = .ok (.aload_n 0, 1) := dk_42 (dk_at dksX2_knowing_0 15 rfl rfl)
theorem dX2_knowing_16 : decode cX2_knowing 16 = .ok (.getfield 19, 3) := dk_180 0 19 (dk_at dksX2_knowing_0 16 rfl rfl)
theorem dX2_knowing_19 : decode cX2_knowing 19 = .ok (.bipush 21, 2) := dk_16 21 (dk_at dksX2_knowing_0 19 rfl rfl)
theorem dX2_knowing_21 : decode cX2_knowing 21 = .ok (.iconst 5, 1) := dk_8 (dk_at dksX2_knowing_0 21 rfl rfl)
theorem dX2_knowing_22 : decode cX2_knowing 22 = .ok (.iload_n 3, 1) := dk_29 (dk_at dksX2_knowing_0 22 rfl rfl)
theorem dX2_knowing_23 : decode cX2_knowing 23 = .ok (.imul, 1) := dk_104 (dk_at dksX2_knowing_0 23 rfl rfl)
theorem dX2_knowing_24 : decode cX2_knowing 24 = .ok (.iadd, 1) := dk_96 (dk_at dksX2_knowing_1 0 rfl rfl)
theorem dX2_knowing_25 : decode cX2_knowing 25 = .ok (.iconst 4, 1) := dk_7 (dk_at dksX2_knowing_1 1 rfl rfl)
theorem dX2_knowing_26 : decode cX2_knowing 26 = .ok (.iadd, 1) := dk_96 (dk_at dksX2_knowing_1 2 rfl rfl)
theorem dX2_knowing_27 : decode cX2_knowing 27 = .ok (.iaload, 1) := dk_46 (dk_at dksX2_knowing_1 3 rfl rfl)
theorem dX2_knowing_28 : decode cX2_knowing 28 = .ok (.iload_n 1, 1) := dk_27 (dk_at dksX2_knowing_1 4 rfl rfl)
theorem dX2_knowing_29 : decode cX2_knowing 29 = .ok (.invokestatic 152, 3) := dk_184 0 152 (dk_at dksX2_knowing_1 5 rfl rfl)
theorem dX2_knowing_32 : decode cX2_knowing 32 = .ok (.ifCond .eq 9, 3) := dk_153 0 9 (dk_at dksX2_knowing_1 8 rfl rfl)
theorem dX2_knowing_35 : decode cX2_knowing 35 = .ok (.iconst 1, 1) := dk_4 (dk_at dksX2_knowing_1 11 rfl rfl)
theorem dX2_knowing_36 : decode cX2_knowing 36 = .ok (.iload_n 3, 1) := dk_29 (dk_at dksX2_knowing_1 12 rfl rfl)
theorem dX2_knowing_37 : decode cX2_knowing 37 = .ok (.ishl, 1) := dk_120 (dk_at dksX2_knowing_1 13 rfl rfl)
theorem dX2_knowing_38 : decode cX2_knowing 38 = .ok (.goto 4, 3) := dk_167 0 4 (dk_at dksX2_knowing_1 14 rfl rfl)
theorem dX2_knowing_41 : decode cX2_knowing 41 = .ok (.iconst 0, 1) := dk_3 (dk_at dksX2_knowing_1 17 rfl rfl)
theorem dX2_knowing_42 : decode cX2_knowing 42 = .ok (.ior, 1) := dk_128 (dk_at dksX2_knowing_1 18 rfl rfl)
theorem dX2_knowing_43 : decode cX2_knowing 43 = .ok (.istore_n 2, 1) := dk_61 (dk_at dksX2_knowing_1 19 rfl rfl)
theorem dX2_knowing_44 : decode cX2_knowing 44 = .ok (.iinc 3 1, 3) := dk_132 3 1 (dk_at dksX2_knowing_1 20 rfl rfl)
theorem dX2_knowing_47 : decode cX2_knowing 47 = .ok (.goto (-43), 3) := dk_167 255 213 (dk_at dksX2_knowing_2 0 rfl rfl)
theorem dX2_knowing_50 : decode cX2_knowing 50 = .ok (.iload_n 2, 1) := dk_28 (dk_at dksX2_knowing_2 3 rfl rfl)
theorem dX2_knowing_51 : decode cX2_knowing 51 = .ok (.ireturn, 1) := dk_172 (dk_at dksX2_knowing_2 4 rfl rfl)
abbrev cX2_has : ByteArray := prog_14_method_5_code
def yX2_has : MethodName := ⟨RX2, "has", "(II)Z"⟩
def dkwX2_has_0 : List UInt8 := [26, 27, 122, 4, 126, 4, 160, 0, 7, 4, 167, 0, 4, 3, 172]
abbrev dktX2_has_0 : List UInt8 := dkwX2_has_0 ++ []
theorem dksX2_has_0 : cX2_has.data.toList.drop 0 = dktX2_has_0 := by decide +kernel
theorem dX2_has_0 : decode cX2_has 0 = .ok (.iload_n 0, 1) := dk_26 (dk_at dksX2_has_0 0 rfl rfl)
theorem dX2_has_1 : decode cX2_has 1 = .ok (.iload_n 1, 1) := dk_27 (dk_at dksX2_has_0 1 rfl rfl)
theorem dX2_has_2 : decode cX2_has 2 = .ok (.ishr, 1) := dk_122 (dk_at dksX2_has_0 2 rfl rfl)
theorem dX2_has_3 : decode cX2_has 3 = .ok (.iconst 1, 1) := dk_4 (dk_at dksX2_has_0 3 rfl rfl)
theorem dX2_has_4 : decode cX2_has 4 = .ok (.iand, 1) := dk_126 (dk_at dksX2_has_0 4 rfl rfl)
theorem dX2_has_5 : decode cX2_has 5 = .ok (.iconst 1, 1) := dk_4 (dk_at dksX2_has_0 5 rfl rfl)
theorem dX2_has_6 : decode cX2_has 6 = .ok (.if_icmp .ne 7, 3) := dk_160 0 7 (dk_at dksX2_has_0 6 rfl rfl)
theorem dX2_has_9 : decode cX2_has 9 = .ok (.iconst 1, 1) := dk_4 (dk_at dksX2_has_0 9 rfl rfl)
theorem dX2_has_10 : decode cX2_has 10 = .ok (.goto 4, 3) := dk_167 0 4 (dk_at dksX2_has_0 10 rfl rfl)
theorem dX2_has_13 : decode cX2_has 13 = .ok (.iconst 0, 1) := dk_3 (dk_at dksX2_has_0 13 rfl rfl)
theorem dX2_has_14 : decode cX2_has 14 = .ok (.ireturn, 1) := dk_172 (dk_at dksX2_has_0 14 rfl rfl)
abbrev cX2_squirrel : ByteArray := prog_14_method_44_code
def yX2_squirrel : MethodName := ⟨RX2, "squirrel", "(II)I"⟩
def dkwX2_squirrel_2 : List UInt8 := [46, 172]
abbrev dktX2_squirrel_2 : List UInt8 := dkwX2_squirrel_2 ++ []
def dkwX2_squirrel_1 : List UInt8 := [8, 160, 0, 11, 42, 27, 182, 0, 197, 167, 0, 16, 42, 180, 0, 19, 16, 21, 8, 27, 104, 96, 28, 96]
abbrev dktX2_squirrel_1 : List UInt8 := dkwX2_squirrel_1 ++ dktX2_squirrel_2
def dkwX2_squirrel_0 : List UInt8 := [42, 27, 182, 0, 194, 154, 0, 6, 16, 254, 172, 28, 3, 8, 184, 0, 59, 154, 0, 6, 16, 253, 172, 28]
abbrev dktX2_squirrel_0 : List UInt8 := dkwX2_squirrel_0 ++ dktX2_squirrel_1
theorem dksX2_squirrel_0 : cX2_squirrel.data.toList.drop 0 = dktX2_squirrel_0 := by decide +kernel
theorem dksX2_squirrel_1 : cX2_squirrel.data.toList.drop 24 = dktX2_squirrel_1 := dk_seg dksX2_squirrel_0 24 rfl rfl
theorem dksX2_squirrel_2 : cX2_squirrel.data.toList.drop 48 = dktX2_squirrel_2 := dk_seg dksX2_squirrel_1 24 rfl rfl
theorem dX2_squirrel_0 : decode cX2_squirrel 0 = .ok (.aload_n 0, 1) := dk_42 (dk_at dksX2_squirrel_0 0 rfl rfl)
theorem dX2_squirrel_1 : decode cX2_squirrel 1 = .ok (.iload_n 1, 1) := dk_27 (dk_at dksX2_squirrel_0 1 rfl rfl)
theorem dX2_squirrel_2 : decode cX2_squirrel 2 = .ok (.invokevirtual 194, 3) := dk_182 0 194 (dk_at dksX2_squirrel_0 2 rfl rfl)
theorem dX2_squirrel_5 : decode cX2_squirrel 5 = .ok (.ifCond .ne 6, 3) := dk_154 0 6 (dk_at dksX2_squirrel_0 5 rfl rfl)
theorem dX2_squirrel_8 : decode cX2_squirrel 8 = .ok (.bipush (-2), 2) := dk_16 254 (dk_at dksX2_squirrel_0 8 rfl rfl)
theorem dX2_squirrel_10 : decode cX2_squirrel 10 = .ok (.ireturn, 1) := dk_172 (dk_at dksX2_squirrel_0 10 rfl rfl)
theorem dX2_squirrel_11 : decode cX2_squirrel 11 = .ok (.iload_n 2, 1) := dk_28 (dk_at dksX2_squirrel_0 11 rfl rfl)
theorem dX2_squirrel_12 : decode cX2_squirrel 12 = .ok (.iconst 0, 1) := dk_3 (dk_at dksX2_squirrel_0 12 rfl rfl)
theorem dX2_squirrel_13 : decode cX2_squirrel 13 = .ok (.iconst 5, 1) := dk_8 (dk_at dksX2_squirrel_0 13 rfl rfl)
theorem dX2_squirrel_14 : decode cX2_squirrel 14 = .ok (.invokestatic 59, 3) := dk_184 0 59 (dk_at dksX2_squirrel_0 14 rfl rfl)
theorem dX2_squirrel_17 : decode cX2_squirrel 17 = .ok (.ifCond .ne 6, 3) := dk_154 0 6 (dk_at dksX2_squirrel_0 17 rfl rfl)
theorem dX2_squirrel_20 : decode cX2_squirrel 20 = .ok (.bipush (-3), 2) := dk_16 253 (dk_at dksX2_squirrel_0 20 rfl rfl)
theorem dX2_squirrel_22 : decode cX2_squirrel 22 = .ok (.ireturn, 1) := dk_172 (dk_at dksX2_squirrel_0 22 rfl rfl)
theorem dX2_squirrel_23 : decode cX2_squirrel 23 = .ok (.iload_n 2, 1) := dk_28 (dk_at dksX2_squirrel_0 23 rfl rfl)
theorem dX2_squirrel_24 : decode cX2_squirrel 24 = .ok (.iconst 5, 1) := dk_8 (dk_at dksX2_squirrel_1 0 rfl rfl)
theorem dX2_squirrel_25 : decode cX2_squirrel 25 = .ok (.if_icmp .ne 11, 3) := dk_160 0 11 (dk_at dksX2_squirrel_1 1 rfl rfl)
theorem dX2_squirrel_28 : decode cX2_squirrel 28 = .ok (.aload_n 0, 1) := dk_42 (dk_at dksX2_squirrel_1 4 rfl rfl)
theorem dX2_squirrel_29 : decode cX2_squirrel 29 = .ok (.iload_n 1, 1) := dk_27 (dk_at dksX2_squirrel_1 5 rfl rfl)
theorem dX2_squirrel_30 : decode cX2_squirrel 30 = .ok (.invokevirtual 197, 3) := dk_182 0 197 (dk_at dksX2_squirrel_1 6 rfl rfl)
theorem dX2_squirrel_33 : decode cX2_squirrel 33 = .ok (.goto 16, 3) := dk_167 0 16 (dk_at dksX2_squirrel_1 9 rfl rfl)
theorem dX2_squirrel_36 : decode cX2_squirrel 36 = .ok (.aload_n 0, 1) := dk_42 (dk_at dksX2_squirrel_1 12 rfl rfl)
theorem dX2_squirrel_37 : decode cX2_squirrel 37 = .ok (.getfield 19, 3) := dk_180 0 19 (dk_at dksX2_squirrel_1 13 rfl rfl)
theorem dX2_squirrel_40 : decode cX2_squirrel 40 = .ok (.bipush 21, 2) := dk_16 21 (dk_at dksX2_squirrel_1 16 rfl rfl)
theorem dX2_squirrel_42 : decode cX2_squirrel 42 = .ok (.iconst 5, 1) := dk_8 (dk_at dksX2_squirrel_1 18 rfl rfl)
theorem dX2_squirrel_43 : decode cX2_squirrel 43 = .ok (.iload_n 1, 1) := dk_27 (dk_at dksX2_squirrel_1 19 rfl rfl)
theorem dX2_squirrel_44 : decode cX2_squirrel 44 = .ok (.imul, 1) := dk_104 (dk_at dksX2_squirrel_1 20 rfl rfl)
theorem dX2_squirrel_45 : decode cX2_squirrel 45 = .ok (.iadd, 1) := dk_96 (dk_at dksX2_squirrel_1 21 rfl rfl)
theorem dX2_squirrel_46 : decode cX2_squirrel 46 = .ok (.iload_n 2, 1) := dk_28 (dk_at dksX2_squirrel_1 22 rfl rfl)
theorem dX2_squirrel_47 : decode cX2_squirrel 47 = .ok (.iadd, 1) := dk_96 (dk_at dksX2_squirrel_1 23 rfl rfl)
theorem dX2_squirrel_48 : decode cX2_squirrel 48 = .ok (.iaload, 1) := dk_46 (dk_at dksX2_squirrel_2 0 rfl rfl)
theorem dX2_squirrel_49 : decode cX2_squirrel 49 = .ok (.ireturn, 1) := dk_172 (dk_at dksX2_squirrel_2 1 rfl rfl)
abbrev cX2_isSquirrel : ByteArray := prog_14_method_40_code
def yX2_isSquirrel : MethodName := ⟨RX2, "isSquirrel", "(I)Z"⟩
def dkwX2_isSquirrel_0 : List UInt8 := [27, 3, 42, 180, 0, 19, 4, 46, 4, 100, 184, 0, 59, 172]
abbrev dktX2_isSquirrel_0 : List UInt8 := dkwX2_isSquirrel_0 ++ []
theorem dksX2_isSquirrel_0 : cX2_isSquirrel.data.toList.drop 0 = dktX2_isSquirrel_0 := by decide +kernel
theorem dX2_isSquirrel_0 : decode cX2_isSquirrel 0 = .ok (.iload_n 1, 1) := dk_27 (dk_at dksX2_isSquirrel_0 0 rfl rfl)
theorem dX2_isSquirrel_1 : decode cX2_isSquirrel 1 = .ok (.iconst 0, 1) := dk_3 (dk_at dksX2_isSquirrel_0 1 rfl rfl)
theorem dX2_isSquirrel_2 : decode cX2_isSquirrel 2 = .ok (.aload_n 0, 1) := dk_42 (dk_at dksX2_isSquirrel_0 2 rfl rfl)
theorem dX2_isSquirrel_3 : decode cX2_isSquirrel 3 = .ok (.getfield 19, 3) := dk_180 0 19 (dk_at dksX2_isSquirrel_0 3 rfl rfl)
theorem dX2_isSquirrel_6 : decode cX2_isSquirrel 6 = .ok (.iconst 1, 1) := dk_4 (dk_at dksX2_isSquirrel_0 6 rfl rfl)
theorem dX2_isSquirrel_7 : decode cX2_isSquirrel 7 = .ok (.iaload, 1) := dk_46 (dk_at dksX2_isSquirrel_0 7 rfl rfl)
theorem dX2_isSquirrel_8 : decode cX2_isSquirrel 8 = .ok (.iconst 1, 1) := dk_4 (dk_at dksX2_isSquirrel_0 8 rfl rfl)
theorem dX2_isSquirrel_9 : decode cX2_isSquirrel 9 = .ok (.isub, 1) := dk_100 (dk_at dksX2_isSquirrel_0 9 rfl rfl)
theorem dX2_isSquirrel_10 : decode cX2_isSquirrel 10 = .ok (.invokestatic 59, 3) := dk_184 0 59 (dk_at dksX2_isSquirrel_0 10 rfl rfl)
theorem dX2_isSquirrel_13 : decode cX2_isSquirrel 13 = .ok (.ireturn, 1) := dk_172 (dk_at dksX2_isSquirrel_0 13 rfl rfl)
abbrev cX2_wanted : ByteArray := prog_14_method_43_code
def yX2_wanted : MethodName := ⟨RX2, "wanted", "(I)I"⟩
def dkwX2_wanted_1 : List UInt8 := [184, 0, 160, 172]
abbrev dktX2_wanted_1 : List UInt8 := dkwX2_wanted_1 ++ []
def dkwX2_wanted_0 : List UInt8 := [42, 180, 0, 19, 16, 21, 8, 27, 104, 96, 46, 42, 180, 0, 19, 16, 21, 8, 27, 104, 96, 5, 96, 46]
abbrev dktX2_wanted_0 : List UInt8 := dkwX2_wanted_0 ++ dktX2_wanted_1
theorem dksX2_wanted_0 : cX2_wanted.data.toList.drop 0 = dktX2_wanted_0 := by decide +kernel
theorem dksX2_wanted_1 : cX2_wanted.data.toList.drop 24 = dktX2_wanted_1 := dk_seg dksX2_wanted_0 24 rfl rfl
theorem dX2_wanted_0 : decode cX2_wanted 0 = .ok (.aload_n 0, 1) := dk_42 (dk_at dksX2_wanted_0 0 rfl rfl)
theorem dX2_wanted_1 : decode cX2_wanted 1 = .ok (.getfield 19, 3) := dk_180 0 19 (dk_at dksX2_wanted_0 1 rfl rfl)
theorem dX2_wanted_4 : decode cX2_wanted 4 = .ok (.bipush 21, 2) := dk_16 21 (dk_at dksX2_wanted_0 4 rfl rfl)
theorem dX2_wanted_6 : decode cX2_wanted 6 = .ok (.iconst 5, 1) := dk_8 (dk_at dksX2_wanted_0 6 rfl rfl)
theorem dX2_wanted_7 : decode cX2_wanted 7 = .ok (.iload_n 1, 1) := dk_27 (dk_at dksX2_wanted_0 7 rfl rfl)
theorem dX2_wanted_8 : decode cX2_wanted 8 = .ok (.imul, 1) := dk_104 (dk_at dksX2_wanted_0 8 rfl rfl)
theorem dX2_wanted_9 : decode cX2_wanted 9 = .ok (.iadd, 1) := dk_96 (dk_at dksX2_wanted_0 9 rfl rfl)
theorem dX2_wanted_10 : decode cX2_wanted 10 = .ok (.iaload, 1) := dk_46 (dk_at dksX2_wanted_0 10 rfl rfl)
theorem dX2_wanted_11 : decode cX2_wanted 11 = .ok (.aload_n 0, 1) := dk_42 (dk_at dksX2_wanted_0 11 rfl rfl)
theorem dX2_wanted_12 : decode cX2_wanted 12 = .ok (.getfield 19, 3) := dk_180 0 19 (dk_at dksX2_wanted_0 12 rfl rfl)
theorem dX2_wanted_15 : decode cX2_wanted 15 = .ok (.bipush 21, 2) := dk_16 21 (dk_at dksX2_wanted_0 15 rfl rfl)
theorem dX2_wanted_17 : decode cX2_wanted 17 = .ok (.iconst 5, 1) := dk_8 (dk_at dksX2_wanted_0 17 rfl rfl)
theorem dX2_wanted_18 : decode cX2_wanted 18 = .ok (.iload_n 1, 1) := dk_27 (dk_at dksX2_wanted_0 18 rfl rfl)
theorem dX2_wanted_19 : decode cX2_wanted 19 = .ok (.imul, 1) := dk_104 (dk_at dksX2_wanted_0 19 rfl rfl)
theorem dX2_wanted_20 : decode cX2_wanted 20 = .ok (.iadd, 1) := dk_96 (dk_at dksX2_wanted_0 20 rfl rfl)
theorem dX2_wanted_21 : decode cX2_wanted 21 = .ok (.iconst 2, 1) := dk_5 (dk_at dksX2_wanted_0 21 rfl rfl)
theorem dX2_wanted_22 : decode cX2_wanted 22 = .ok (.iadd, 1) := dk_96 (dk_at dksX2_wanted_0 22 rfl rfl)
theorem dX2_wanted_23 : decode cX2_wanted 23 = .ok (.iaload, 1) := dk_46 (dk_at dksX2_wanted_0 23 rfl rfl)
theorem dX2_wanted_24 : decode cX2_wanted 24 = .ok (.invokestatic 160, 3) := dk_184 0 160 (dk_at dksX2_wanted_1 0 rfl rfl)
theorem dX2_wanted_27 : decode cX2_wanted 27 = .ok (.ireturn, 1) := dk_172 (dk_at dksX2_wanted_1 3 rfl rfl)
abbrev cX2_wants : ByteArray := prog_14_method_29_code
def yX2_wants : MethodName := ⟨RX2, "wants", "(II)I"⟩
def dkwX2_wants_0 : List UInt8 := [26, 4, 160, 0, 9, 5, 27, 104, 167, 0, 15, 26, 6, 162, 0, 7, 27, 167, 0, 6, 27, 4, 96, 172]
abbrev dktX2_wants_0 : List UInt8 := dkwX2_wants_0 ++ []
theorem dksX2_wants_0 : cX2_wants.data.toList.drop 0 = dktX2_wants_0 := by decide +kernel
theorem dX2_wants_0 : decode cX2_wants 0 = .ok (.iload_n 0, 1) := dk_26 (dk_at dksX2_wants_0 0 rfl rfl)
theorem dX2_wants_1 : decode cX2_wants 1 = .ok (.iconst 1, 1) := dk_4 (dk_at dksX2_wants_0 1 rfl rfl)
theorem dX2_wants_2 : decode cX2_wants 2 = .ok (.if_icmp .ne 9, 3) := dk_160 0 9 (dk_at dksX2_wants_0 2 rfl rfl)
theorem dX2_wants_5 : decode cX2_wants 5 = .ok (.iconst 2, 1) := dk_5 (dk_at dksX2_wants_0 5 rfl rfl)
theorem dX2_wants_6 : decode cX2_wants 6 = .ok (.iload_n 1, 1) := dk_27 (dk_at dksX2_wants_0 6 rfl rfl)
theorem dX2_wants_7 : decode cX2_wants 7 = .ok (.imul, 1) := dk_104 (dk_at dksX2_wants_0 7 rfl rfl)
theorem dX2_wants_8 : decode cX2_wants 8 = .ok (.goto 15, 3) := dk_167 0 15 (dk_at dksX2_wants_0 8 rfl rfl)
theorem dX2_wants_11 : decode cX2_wants 11 = .ok (.iload_n 0, 1) := dk_26 (dk_at dksX2_wants_0 11 rfl rfl)
theorem dX2_wants_12 : decode cX2_wants 12 = .ok (.iconst 3, 1) := dk_6 (dk_at dksX2_wants_0 12 rfl rfl)
theorem dX2_wants_13 : decode cX2_wants 13 = .ok (.if_icmp .ge 7, 3) := dk_162 0 7 (dk_at dksX2_wants_0 13 rfl rfl)
theorem dX2_wants_16 : decode cX2_wants 16 = .ok (.iload_n 1, 1) := dk_27 (dk_at dksX2_wants_0 16 rfl rfl)
theorem dX2_wants_17 : decode cX2_wants 17 = .ok (.goto 6, 3) := dk_167 0 6 (dk_at dksX2_wants_0 17 rfl rfl)
theorem dX2_wants_20 : decode cX2_wants 20 = .ok (.iload_n 1, 1) := dk_27 (dk_at dksX2_wants_0 20 rfl rfl)
theorem dX2_wants_21 : decode cX2_wants 21 = .ok (.iconst 1, 1) := dk_4 (dk_at dksX2_wants_0 21 rfl rfl)
theorem dX2_wants_22 : decode cX2_wants 22 = .ok (.iadd, 1) := dk_96 (dk_at dksX2_wants_0 22 rfl rfl)
theorem dX2_wants_23 : decode cX2_wants 23 = .ok (.ireturn, 1) := dk_172 (dk_at dksX2_wants_0 23 rfl rfl)
abbrev cX2_as : ByteArray := prog_14_method_45_code
def yX2_as : MethodName := ⟨RX2, "as", "(II)I"⟩
def dkwX2_as_3 : List UInt8 := [54, 4, 21, 4, 153, 0, 11, 42, 27, 182, 0, 197, 167, 0, 5, 16, 252, 172]
abbrev dktX2_as_3 : List UInt8 := dkwX2_as_3 ++ []
def dkwX2_as_2 : List UInt8 := [160, 0, 8, 29, 7, 161, 0, 13, 28, 7, 160, 0, 12, 29, 8, 160, 0, 7, 4, 167, 0, 4, 3]
abbrev dktX2_as_2 : List UInt8 := dkwX2_as_2 ++ dktX2_as_3
def dkwX2_as_1 : List UInt8 := [180, 0, 19, 16, 21, 8, 27, 104, 96, 46, 4, 96, 62, 28, 153, 0, 28, 28, 29, 159, 0, 23, 28, 4]
abbrev dktX2_as_1 : List UInt8 := dkwX2_as_1 ++ dktX2_as_2
def dkwX2_as_0 : List UInt8 := [42, 27, 182, 0, 194, 154, 0, 6, 16, 254, 172, 28, 3, 8, 184, 0, 59, 154, 0, 6, 16, 253, 172, 42]
abbrev dktX2_as_0 : List UInt8 := dkwX2_as_0 ++ dktX2_as_1
theorem dksX2_as_0 : cX2_as.data.toList.drop 0 = dktX2_as_0 := by decide +kernel
theorem dksX2_as_1 : cX2_as.data.toList.drop 24 = dktX2_as_1 := dk_seg dksX2_as_0 24 rfl rfl
theorem dksX2_as_2 : cX2_as.data.toList.drop 48 = dktX2_as_2 := dk_seg dksX2_as_1 24 rfl rfl
theorem dksX2_as_3 : cX2_as.data.toList.drop 71 = dktX2_as_3 := dk_seg dksX2_as_2 23 rfl rfl
theorem dX2_as_0 : decode cX2_as 0 = .ok (.aload_n 0, 1) := dk_42 (dk_at dksX2_as_0 0 rfl rfl)
theorem dX2_as_1 : decode cX2_as 1 = .ok (.iload_n 1, 1) := dk_27 (dk_at dksX2_as_0 1 rfl rfl)
theorem dX2_as_2 : decode cX2_as 2 = .ok (.invokevirtual 194, 3) := dk_182 0 194 (dk_at dksX2_as_0 2 rfl rfl)
theorem dX2_as_5 : decode cX2_as 5 = .ok (.ifCond .ne 6, 3) := dk_154 0 6 (dk_at dksX2_as_0 5 rfl rfl)
theorem dX2_as_8 : decode cX2_as 8 = .ok (.bipush (-2), 2) := dk_16 254 (dk_at dksX2_as_0 8 rfl rfl)
theorem dX2_as_10 : decode cX2_as 10 = .ok (.ireturn, 1) := dk_172 (dk_at dksX2_as_0 10 rfl rfl)
theorem dX2_as_11 : decode cX2_as 11 = .ok (.iload_n 2, 1) := dk_28 (dk_at dksX2_as_0 11 rfl rfl)
theorem dX2_as_12 : decode cX2_as 12 = .ok (.iconst 0, 1) := dk_3 (dk_at dksX2_as_0 12 rfl rfl)
theorem dX2_as_13 : decode cX2_as 13 = .ok (.iconst 5, 1) := dk_8 (dk_at dksX2_as_0 13 rfl rfl)
theorem dX2_as_14 : decode cX2_as 14 = .ok (.invokestatic 59, 3) := dk_184 0 59 (dk_at dksX2_as_0 14 rfl rfl)
theorem dX2_as_17 : decode cX2_as 17 = .ok (.ifCond .ne 6, 3) := dk_154 0 6 (dk_at dksX2_as_0 17 rfl rfl)
theorem dX2_as_20 : decode cX2_as 20 = .ok (.bipush (-3), 2) := dk_16 253 (dk_at dksX2_as_0 20 rfl rfl)
theorem dX2_as_22 : decode cX2_as 22 = .ok (.ireturn, 1) := dk_172 (dk_at dksX2_as_0 22 rfl rfl)
theorem dX2_as_23 : decode cX2_as 23 = .ok (.aload_n 0, 1) := dk_42 (dk_at dksX2_as_0 23 rfl rfl)
theorem dX2_as_24 : decode cX2_as 24 = .ok (.getfield 19, 3) := dk_180 0 19 (dk_at dksX2_as_1 0 rfl rfl)
theorem dX2_as_27 : decode cX2_as 27 = .ok (.bipush 21, 2) := dk_16 21 (dk_at dksX2_as_1 3 rfl rfl)
theorem dX2_as_29 : decode cX2_as 29 = .ok (.iconst 5, 1) := dk_8 (dk_at dksX2_as_1 5 rfl rfl)
theorem dX2_as_30 : decode cX2_as 30 = .ok (.iload_n 1, 1) := dk_27 (dk_at dksX2_as_1 6 rfl rfl)
theorem dX2_as_31 : decode cX2_as 31 = .ok (.imul, 1) := dk_104 (dk_at dksX2_as_1 7 rfl rfl)
theorem dX2_as_32 : decode cX2_as 32 = .ok (.iadd, 1) := dk_96 (dk_at dksX2_as_1 8 rfl rfl)
theorem dX2_as_33 : decode cX2_as 33 = .ok (.iaload, 1) := dk_46 (dk_at dksX2_as_1 9 rfl rfl)
theorem dX2_as_34 : decode cX2_as 34 = .ok (.iconst 1, 1) := dk_4 (dk_at dksX2_as_1 10 rfl rfl)
theorem dX2_as_35 : decode cX2_as 35 = .ok (.iadd, 1) := dk_96 (dk_at dksX2_as_1 11 rfl rfl)
theorem dX2_as_36 : decode cX2_as 36 = .ok (.istore_n 3, 1) := dk_62 (dk_at dksX2_as_1 12 rfl rfl)
theorem dX2_as_37 : decode cX2_as 37 = .ok (.iload_n 2, 1) := dk_28 (dk_at dksX2_as_1 13 rfl rfl)
theorem dX2_as_38 : decode cX2_as 38 = .ok (.ifCond .eq 28, 3) := dk_153 0 28 (dk_at dksX2_as_1 14 rfl rfl)
theorem dX2_as_41 : decode cX2_as 41 = .ok (.iload_n 2, 1) := dk_28 (dk_at dksX2_as_1 17 rfl rfl)
theorem dX2_as_42 : decode cX2_as 42 = .ok (.iload_n 3, 1) := dk_29 (dk_at dksX2_as_1 18 rfl rfl)
theorem dX2_as_43 : decode cX2_as 43 = .ok (.if_icmp .eq 23, 3) := dk_159 0 23 (dk_at dksX2_as_1 19 rfl rfl)
theorem dX2_as_46 : decode cX2_as 46 = .ok (.iload_n 2, 1) := dk_28 (dk_at dksX2_as_1 22 rfl rfl)
theorem dX2_as_47 : decode cX2_as 47 = .ok (.iconst 1, 1) := dk_4 (dk_at dksX2_as_1 23 rfl rfl)
theorem dX2_as_48 : decode cX2_as 48 = .ok (.if_icmp .ne 8, 3) := dk_160 0 8 (dk_at dksX2_as_2 0 rfl rfl)
theorem dX2_as_51 : decode cX2_as 51 = .ok (.iload_n 3, 1) := dk_29 (dk_at dksX2_as_2 3 rfl rfl)
theorem dX2_as_52 : decode cX2_as 52 = .ok (.iconst 4, 1) := dk_7 (dk_at dksX2_as_2 4 rfl rfl)
theorem dX2_as_53 : decode cX2_as 53 = .ok (.if_icmp .lt 13, 3) := dk_161 0 13 (dk_at dksX2_as_2 5 rfl rfl)
theorem dX2_as_56 : decode cX2_as 56 = .ok (.iload_n 2, 1) := dk_28 (dk_at dksX2_as_2 8 rfl rfl)
theorem dX2_as_57 : decode cX2_as 57 = .ok (.iconst 4, 1) := dk_7 (dk_at dksX2_as_2 9 rfl rfl)
theorem dX2_as_58 : decode cX2_as 58 = .ok (.if_icmp .ne 12, 3) := dk_160 0 12 (dk_at dksX2_as_2 10 rfl rfl)
theorem dX2_as_61 : decode cX2_as 61 = .ok (.iload_n 3, 1) := dk_29 (dk_at dksX2_as_2 13 rfl rfl)
theorem dX2_as_62 : decode cX2_as 62 = .ok (.iconst 5, 1) := dk_8 (dk_at dksX2_as_2 14 rfl rfl)
theorem dX2_as_63 : decode cX2_as 63 = .ok (.if_icmp .ne 7, 3) := dk_160 0 7 (dk_at dksX2_as_2 15 rfl rfl)
theorem dX2_as_66 : decode cX2_as 66 = .ok (.iconst 1, 1) := dk_4 (dk_at dksX2_as_2 18 rfl rfl)
theorem dX2_as_67 : decode cX2_as 67 = .ok (.goto 4, 3) := dk_167 0 4 (dk_at dksX2_as_2 19 rfl rfl)
theorem dX2_as_70 : decode cX2_as 70 = .ok (.iconst 0, 1) := dk_3 (dk_at dksX2_as_2 22 rfl rfl)
theorem dX2_as_71 : decode cX2_as 71 = .ok (.istore 4, 2) := dk_54 4 (dk_at dksX2_as_3 0 rfl rfl)
theorem dX2_as_73 : decode cX2_as 73 = .ok (.iload 4, 2) := dk_21 4 (dk_at dksX2_as_3 2 rfl rfl)
theorem dX2_as_75 : decode cX2_as 75 = .ok (.ifCond .eq 11, 3) := dk_153 0 11 (dk_at dksX2_as_3 4 rfl rfl)
theorem dX2_as_78 : decode cX2_as 78 = .ok (.aload_n 0, 1) := dk_42 (dk_at dksX2_as_3 7 rfl rfl)
theorem dX2_as_79 : decode cX2_as 79 = .ok (.iload_n 1, 1) := dk_27 (dk_at dksX2_as_3 8 rfl rfl)
theorem dX2_as_80 : decode cX2_as 80 = .ok (.invokevirtual 197, 3) := dk_182 0 197 (dk_at dksX2_as_3 9 rfl rfl)
theorem dX2_as_83 : decode cX2_as 83 = .ok (.goto 5, 3) := dk_167 0 5 (dk_at dksX2_as_3 12 rfl rfl)
theorem dX2_as_86 : decode cX2_as 86 = .ok (.bipush (-4), 2) := dk_16 252 (dk_at dksX2_as_3 15 rfl rfl)
theorem dX2_as_88 : decode cX2_as 88 = .ok (.ireturn, 1) := dk_172 (dk_at dksX2_as_3 17 rfl rfl)
abbrev cX2_day : ByteArray := prog_14_method_47_code
def yX2_day : MethodName := ⟨RX2, "day", "(I)I"⟩
def dkwX2_day_2 : List UInt8 := [182, 0, 203, 132, 2, 1, 167, 255, 240, 42, 180, 0, 19, 5, 46, 172]
abbrev dktX2_day_2 : List UInt8 := dkwX2_day_2 ++ []
def dkwX2_day_1 : List UInt8 := [164, 0, 6, 16, 251, 172, 42, 182, 0, 200, 3, 61, 28, 27, 162, 0, 17, 42, 42, 180, 0, 19]
abbrev dktX2_day_1 : List UInt8 := dkwX2_day_1 ++ dktX2_day_2
def dkwX2_day_0 : List UInt8 := [27, 4, 16, 12, 184, 0, 59, 154, 0, 6, 16, 253, 172, 42, 180, 0, 19, 5, 46, 27, 96, 17, 3, 231]
abbrev dktX2_day_0 : List UInt8 := dkwX2_day_0 ++ dktX2_day_1
theorem dksX2_day_0 : cX2_day.data.toList.drop 0 = dktX2_day_0 := by decide +kernel
theorem dksX2_day_1 : cX2_day.data.toList.drop 24 = dktX2_day_1 := dk_seg dksX2_day_0 24 rfl rfl
theorem dksX2_day_2 : cX2_day.data.toList.drop 46 = dktX2_day_2 := dk_seg dksX2_day_1 22 rfl rfl
theorem dX2_day_0 : decode cX2_day 0 = .ok (.iload_n 1, 1) := dk_27 (dk_at dksX2_day_0 0 rfl rfl)
theorem dX2_day_1 : decode cX2_day 1 = .ok (.iconst 1, 1) := dk_4 (dk_at dksX2_day_0 1 rfl rfl)
theorem dX2_day_2 : decode cX2_day 2 = .ok (.bipush 12, 2) := dk_16 12 (dk_at dksX2_day_0 2 rfl rfl)
theorem dX2_day_4 : decode cX2_day 4 = .ok (.invokestatic 59, 3) := dk_184 0 59 (dk_at dksX2_day_0 4 rfl rfl)
theorem dX2_day_7 : decode cX2_day 7 = .ok (.ifCond .ne 6, 3) := dk_154 0 6 (dk_at dksX2_day_0 7 rfl rfl)
theorem dX2_day_10 : decode cX2_day 10 = .ok (.bipush (-3), 2) := dk_16 253 (dk_at dksX2_day_0 10 rfl rfl)
theorem dX2_day_12 : decode cX2_day 12 = .ok (.ireturn, 1) := dk_172 (dk_at dksX2_day_0 12 rfl rfl)
theorem dX2_day_13 : decode cX2_day 13 = .ok (.aload_n 0, 1) := dk_42 (dk_at dksX2_day_0 13 rfl rfl)
theorem dX2_day_14 : decode cX2_day 14 = .ok (.getfield 19, 3) := dk_180 0 19 (dk_at dksX2_day_0 14 rfl rfl)
theorem dX2_day_17 : decode cX2_day 17 = .ok (.iconst 2, 1) := dk_5 (dk_at dksX2_day_0 17 rfl rfl)
theorem dX2_day_18 : decode cX2_day 18 = .ok (.iaload, 1) := dk_46 (dk_at dksX2_day_0 18 rfl rfl)
theorem dX2_day_19 : decode cX2_day 19 = .ok (.iload_n 1, 1) := dk_27 (dk_at dksX2_day_0 19 rfl rfl)
theorem dX2_day_20 : decode cX2_day 20 = .ok (.iadd, 1) := dk_96 (dk_at dksX2_day_0 20 rfl rfl)
theorem dX2_day_21 : decode cX2_day 21 = .ok (.sipush 999, 3) := dk_17 3 231 (dk_at dksX2_day_0 21 rfl rfl)
theorem dX2_day_24 : decode cX2_day 24 = .ok (.if_icmp .le 6, 3) := dk_164 0 6 (dk_at dksX2_day_1 0 rfl rfl)
theorem dX2_day_27 : decode cX2_day 27 = .ok (.bipush (-5), 2) := dk_16 251 (dk_at dksX2_day_1 3 rfl rfl)
theorem dX2_day_29 : decode cX2_day 29 = .ok (.ireturn, 1) := dk_172 (dk_at dksX2_day_1 5 rfl rfl)
theorem dX2_day_30 : decode cX2_day 30 = .ok (.aload_n 0, 1) := dk_42 (dk_at dksX2_day_1 6 rfl rfl)
theorem dX2_day_31 : decode cX2_day 31 = .ok (.invokevirtual 200, 3) := dk_182 0 200 (dk_at dksX2_day_1 7 rfl rfl)
theorem dX2_day_34 : decode cX2_day 34 = .ok (.iconst 0, 1) := dk_3 (dk_at dksX2_day_1 10 rfl rfl)
theorem dX2_day_35 : decode cX2_day 35 = .ok (.istore_n 2, 1) := dk_61 (dk_at dksX2_day_1 11 rfl rfl)
theorem dX2_day_36 : decode cX2_day 36 = .ok (.iload_n 2, 1) := dk_28 (dk_at dksX2_day_1 12 rfl rfl)
theorem dX2_day_37 : decode cX2_day 37 = .ok (.iload_n 1, 1) := dk_27 (dk_at dksX2_day_1 13 rfl rfl)
theorem dX2_day_38 : decode cX2_day 38 = .ok (.if_icmp .ge 17, 3) := dk_162 0 17 (dk_at dksX2_day_1 14 rfl rfl)
theorem dX2_day_41 : decode cX2_day 41 = .ok (.aload_n 0, 1) := dk_42 (dk_at dksX2_day_1 17 rfl rfl)
theorem dX2_day_42 : decode cX2_day 42 = .ok (.aload_n 0, 1) := dk_42 (dk_at dksX2_day_1 18 rfl rfl)
theorem dX2_day_43 : decode cX2_day 43 = .ok (.getfield 19, 3) := dk_180 0 19 (dk_at dksX2_day_1 19 rfl rfl)
theorem dX2_day_46 : decode cX2_day 46 = .ok (.invokevirtual 203, 3) := dk_182 0 203 (dk_at dksX2_day_2 0 rfl rfl)
theorem dX2_day_49 : decode cX2_day 49 = .ok (.iinc 2 1, 3) := dk_132 2 1 (dk_at dksX2_day_2 3 rfl rfl)
theorem dX2_day_52 : decode cX2_day 52 = .ok (.goto (-16), 3) := dk_167 255 240 (dk_at dksX2_day_2 6 rfl rfl)
theorem dX2_day_55 : decode cX2_day 55 = .ok (.aload_n 0, 1) := dk_42 (dk_at dksX2_day_2 9 rfl rfl)
theorem dX2_day_56 : decode cX2_day 56 = .ok (.getfield 19, 3) := dk_180 0 19 (dk_at dksX2_day_2 10 rfl rfl)
theorem dX2_day_59 : decode cX2_day 59 = .ok (.iconst 2, 1) := dk_5 (dk_at dksX2_day_2 13 rfl rfl)
theorem dX2_day_60 : decode cX2_day 60 = .ok (.iaload, 1) := dk_46 (dk_at dksX2_day_2 14 rfl rfl)
theorem dX2_day_61 : decode cX2_day 61 = .ok (.ireturn, 1) := dk_172 (dk_at dksX2_day_2 15 rfl rfl)
abbrev cX2_notes : ByteArray := prog_14_method_46_code
def yX2_notes : MethodName := ⟨RX2, "notes", "()V"⟩
def dkwX2_notes_3 : List UInt8 := [180, 0, 146, 4, 96, 181, 0, 146, 177]
abbrev dktX2_notes_3 : List UInt8 := dkwX2_notes_3 ++ []
def dkwX2_notes_2 : List UInt8 := [181, 0, 146, 42, 180, 0, 19, 3, 42, 180, 0, 25, 16, 46, 42, 180, 0, 146, 104, 184, 0, 130, 42, 89]
abbrev dktX2_notes_2 : List UInt8 := dkwX2_notes_2 ++ dktX2_notes_3
def dkwX2_notes_1 : List UInt8 := [180, 0, 25, 27, 16, 46, 96, 46, 79, 132, 1, 1, 167, 255, 231, 42, 89, 180, 0, 146, 4, 100]
abbrev dktX2_notes_1 : List UInt8 := dkwX2_notes_1 ++ dktX2_notes_2
def dkwX2_notes_0 : List UInt8 := [42, 180, 0, 146, 16, 8, 160, 0, 43, 3, 60, 27, 17, 1, 66, 162, 0, 24, 42, 180, 0, 25, 27, 42]
abbrev dktX2_notes_0 : List UInt8 := dkwX2_notes_0 ++ dktX2_notes_1
theorem dksX2_notes_0 : cX2_notes.data.toList.drop 0 = dktX2_notes_0 := by decide +kernel
theorem dksX2_notes_1 : cX2_notes.data.toList.drop 24 = dktX2_notes_1 := dk_seg dksX2_notes_0 24 rfl rfl
theorem dksX2_notes_2 : cX2_notes.data.toList.drop 46 = dktX2_notes_2 := dk_seg dksX2_notes_1 22 rfl rfl
theorem dksX2_notes_3 : cX2_notes.data.toList.drop 70 = dktX2_notes_3 := dk_seg dksX2_notes_2 24 rfl rfl
theorem dX2_notes_0 : decode cX2_notes 0 = .ok (.aload_n 0, 1) := dk_42 (dk_at dksX2_notes_0 0 rfl rfl)
theorem dX2_notes_1 : decode cX2_notes 1 = .ok (.getfield 146, 3) := dk_180 0 146 (dk_at dksX2_notes_0 1 rfl rfl)
theorem dX2_notes_4 : decode cX2_notes 4 = .ok (.bipush 8, 2) := dk_16 8 (dk_at dksX2_notes_0 4 rfl rfl)
theorem dX2_notes_6 : decode cX2_notes 6 = .ok (.if_icmp .ne 43, 3) := dk_160 0 43 (dk_at dksX2_notes_0 6 rfl rfl)
theorem dX2_notes_9 : decode cX2_notes 9 = .ok (.iconst 0, 1) := dk_3 (dk_at dksX2_notes_0 9 rfl rfl)
theorem dX2_notes_10 : decode cX2_notes 10 = .ok (.istore_n 1, 1) := dk_60 (dk_at dksX2_notes_0 10 rfl rfl)
theorem dX2_notes_11 : decode cX2_notes 11 = .ok (.iload_n 1, 1) := dk_27 (dk_at dksX2_notes_0 11 rfl rfl)
theorem dX2_notes_12 : decode cX2_notes 12 = .ok (.sipush 322, 3) := dk_17 1 66 (dk_at dksX2_notes_0 12 rfl rfl)
theorem dX2_notes_15 : decode cX2_notes 15 = .ok (.if_icmp .ge 24, 3) := dk_162 0 24 (dk_at dksX2_notes_0 15 rfl rfl)
theorem dX2_notes_18 : decode cX2_notes 18 = .ok (.aload_n 0, 1) := dk_42 (dk_at dksX2_notes_0 18 rfl rfl)
theorem dX2_notes_19 : decode cX2_notes 19 = .ok (.getfield 25, 3) := dk_180 0 25 (dk_at dksX2_notes_0 19 rfl rfl)
theorem dX2_notes_22 : decode cX2_notes 22 = .ok (.iload_n 1, 1) := dk_27 (dk_at dksX2_notes_0 22 rfl rfl)
theorem dX2_notes_23 : decode cX2_notes 23 = .ok (.aload_n 0, 1) := dk_42 (dk_at dksX2_notes_0 23 rfl rfl)
theorem dX2_notes_24 : decode cX2_notes 24 = .ok (.getfield 25, 3) := dk_180 0 25 (dk_at dksX2_notes_1 0 rfl rfl)
theorem dX2_notes_27 : decode cX2_notes 27 = .ok (.iload_n 1, 1) := dk_27 (dk_at dksX2_notes_1 3 rfl rfl)
theorem dX2_notes_28 : decode cX2_notes 28 = .ok (.bipush 46, 2) := dk_16 46 (dk_at dksX2_notes_1 4 rfl rfl)
theorem dX2_notes_30 : decode cX2_notes 30 = .ok (.iadd, 1) := dk_96 (dk_at dksX2_notes_1 6 rfl rfl)
theorem dX2_notes_31 : decode cX2_notes 31 = .ok (.iaload, 1) := dk_46 (dk_at dksX2_notes_1 7 rfl rfl)
theorem dX2_notes_32 : decode cX2_notes 32 = .ok (.iastore, 1) := dk_79 (dk_at dksX2_notes_1 8 rfl rfl)
theorem dX2_notes_33 : decode cX2_notes 33 = .ok (.iinc 1 1, 3) := dk_132 1 1 (dk_at dksX2_notes_1 9 rfl rfl)
theorem dX2_notes_36 : decode cX2_notes 36 = .ok (.goto (-25), 3) := dk_167 255 231 (dk_at dksX2_notes_1 12 rfl rfl)
theorem dX2_notes_39 : decode cX2_notes 39 = .ok (.aload_n 0, 1) := dk_42 (dk_at dksX2_notes_1 15 rfl rfl)
theorem dX2_notes_40 : decode cX2_notes 40 = .ok (.dup, 1) := dk_89 (dk_at dksX2_notes_1 16 rfl rfl)
theorem dX2_notes_41 : decode cX2_notes 41 = .ok (.getfield 146, 3) := dk_180 0 146 (dk_at dksX2_notes_1 17 rfl rfl)
theorem dX2_notes_44 : decode cX2_notes 44 = .ok (.iconst 1, 1) := dk_4 (dk_at dksX2_notes_1 20 rfl rfl)
theorem dX2_notes_45 : decode cX2_notes 45 = .ok (.isub, 1) := dk_100 (dk_at dksX2_notes_1 21 rfl rfl)
theorem dX2_notes_46 : decode cX2_notes 46 = .ok (.putfield 146, 3) := dk_181 0 146 (dk_at dksX2_notes_2 0 rfl rfl)
theorem dX2_notes_49 : decode cX2_notes 49 = .ok (.aload_n 0, 1) := dk_42 (dk_at dksX2_notes_2 3 rfl rfl)
theorem dX2_notes_50 : decode cX2_notes 50 = .ok (.getfield 19, 3) := dk_180 0 19 (dk_at dksX2_notes_2 4 rfl rfl)
theorem dX2_notes_53 : decode cX2_notes 53 = .ok (.iconst 0, 1) := dk_3 (dk_at dksX2_notes_2 7 rfl rfl)
theorem dX2_notes_54 : decode cX2_notes 54 = .ok (.aload_n 0, 1) := dk_42 (dk_at dksX2_notes_2 8 rfl rfl)
theorem dX2_notes_55 : decode cX2_notes 55 = .ok (.getfield 25, 3) := dk_180 0 25 (dk_at dksX2_notes_2 9 rfl rfl)
theorem dX2_notes_58 : decode cX2_notes 58 = .ok (.bipush 46, 2) := dk_16 46 (dk_at dksX2_notes_2 12 rfl rfl)
theorem dX2_notes_60 : decode cX2_notes 60 = .ok (.aload_n 0, 1) := dk_42 (dk_at dksX2_notes_2 14 rfl rfl)
theorem dX2_notes_61 : decode cX2_notes 61 = .ok (.getfield 146, 3) := dk_180 0 146 (dk_at dksX2_notes_2 15 rfl rfl)
theorem dX2_notes_64 : decode cX2_notes 64 = .ok (.imul, 1) := dk_104 (dk_at dksX2_notes_2 18 rfl rfl)
theorem dX2_notes_65 : decode cX2_notes 65 = .ok (.invokestatic 130, 3) := dk_184 0 130 (dk_at dksX2_notes_2 19 rfl rfl)
theorem dX2_notes_68 : decode cX2_notes 68 = .ok (.aload_n 0, 1) := dk_42 (dk_at dksX2_notes_2 22 rfl rfl)
theorem dX2_notes_69 : decode cX2_notes 69 = .ok (.dup, 1) := dk_89 (dk_at dksX2_notes_2 23 rfl rfl)
theorem dX2_notes_70 : decode cX2_notes 70 = .ok (.getfield 146, 3) := dk_180 0 146 (dk_at dksX2_notes_3 0 rfl rfl)
theorem dX2_notes_73 : decode cX2_notes 73 = .ok (.iconst 1, 1) := dk_4 (dk_at dksX2_notes_3 3 rfl rfl)
theorem dX2_notes_74 : decode cX2_notes 74 = .ok (.iadd, 1) := dk_96 (dk_at dksX2_notes_3 4 rfl rfl)
theorem dX2_notes_75 : decode cX2_notes 75 = .ok (.putfield 146, 3) := dk_181 0 146 (dk_at dksX2_notes_3 5 rfl rfl)
theorem dX2_notes_78 : decode cX2_notes 78 = .ok (.return_, 1) := dk_177 (dk_at dksX2_notes_3 8 rfl rfl)
abbrev cX2_passes : ByteArray := prog_14_method_37_code
def yX2_passes : MethodName := ⟨RX2, "passes", "([I)V"⟩
def dkwX2_passes_5 : List UInt8 := [158, 0, 10, 21, 4, 4, 100, 167, 0, 4, 3, 79, 132, 2, 1, 167, 255, 131, 177]
abbrev dktX2_passes_5 : List UInt8 := dkwX2_passes_5 ++ []
def dkwX2_passes_4 : List UInt8 := [96, 42, 180, 0, 35, 28, 46, 43, 29, 5, 96, 46, 162, 0, 10, 21, 4, 4, 96, 167, 0, 16, 21, 4]
abbrev dktX2_passes_4 : List UInt8 := dkwX2_passes_4 ++ dktX2_passes_5
def dkwX2_passes_3 : List UInt8 := [153, 0, 60, 42, 180, 0, 35, 28, 43, 28, 184, 0, 185, 79, 43, 29, 6, 96, 46, 54, 4, 43, 29, 6]
abbrev dktX2_passes_3 : List UInt8 := dkwX2_passes_3 ++ dktX2_passes_4
def dkwX2_passes_2 : List UInt8 := [160, 0, 11, 43, 28, 184, 0, 178, 167, 0, 4, 3, 128, 79, 43, 29, 46, 43, 5, 46, 184, 0, 182]
abbrev dktX2_passes_2 : List UInt8 := dkwX2_passes_2 ++ dktX2_passes_3
def dkwX2_passes_1 : List UInt8 := [180, 0, 35, 28, 2, 79, 43, 28, 184, 0, 174, 154, 0, 96, 43, 29, 7, 96, 92, 46, 43, 29, 46, 7]
abbrev dktX2_passes_1 : List UInt8 := dkwX2_passes_1 ++ dktX2_passes_2
def dkwX2_passes_0 : List UInt8 := [43, 5, 92, 46, 4, 96, 79, 3, 61, 28, 43, 4, 46, 162, 0, 124, 16, 21, 8, 28, 104, 96, 62, 42]
abbrev dktX2_passes_0 : List UInt8 := dkwX2_passes_0 ++ dktX2_passes_1
theorem dksX2_passes_0 : cX2_passes.data.toList.drop 0 = dktX2_passes_0 := by decide +kernel
theorem dksX2_passes_1 : cX2_passes.data.toList.drop 24 = dktX2_passes_1 := dk_seg dksX2_passes_0 24 rfl rfl
theorem dksX2_passes_2 : cX2_passes.data.toList.drop 48 = dktX2_passes_2 := dk_seg dksX2_passes_1 24 rfl rfl
theorem dksX2_passes_3 : cX2_passes.data.toList.drop 71 = dktX2_passes_3 := dk_seg dksX2_passes_2 23 rfl rfl
theorem dksX2_passes_4 : cX2_passes.data.toList.drop 95 = dktX2_passes_4 := dk_seg dksX2_passes_3 24 rfl rfl
theorem dksX2_passes_5 : cX2_passes.data.toList.drop 119 = dktX2_passes_5 := dk_seg dksX2_passes_4 24 rfl rfl
theorem dX2_passes_0 : decode cX2_passes 0 = .ok (.aload_n 1, 1) := dk_43 (dk_at dksX2_passes_0 0 rfl rfl)
theorem dX2_passes_1 : decode cX2_passes 1 = .ok (.iconst 2, 1) := dk_5 (dk_at dksX2_passes_0 1 rfl rfl)
theorem dX2_passes_2 : decode cX2_passes 2 = .ok (.dup2, 1) := dk_92 (dk_at dksX2_passes_0 2 rfl rfl)
theorem dX2_passes_3 : decode cX2_passes 3 = .ok (.iaload, 1) := dk_46 (dk_at dksX2_passes_0 3 rfl rfl)
theorem dX2_passes_4 : decode cX2_passes 4 = .ok (.iconst 1, 1) := dk_4 (dk_at dksX2_passes_0 4 rfl rfl)
theorem dX2_passes_5 : decode cX2_passes 5 = .ok (.iadd, 1) := dk_96 (dk_at dksX2_passes_0 5 rfl rfl)
theorem dX2_passes_6 : decode cX2_passes 6 = .ok (.iastore, 1) := dk_79 (dk_at dksX2_passes_0 6 rfl rfl)
theorem dX2_passes_7 : decode cX2_passes 7 = .ok (.iconst 0, 1) := dk_3 (dk_at dksX2_passes_0 7 rfl rfl)
theorem dX2_passes_8 : decode cX2_passes 8 = .ok (.istore_n 2, 1) := dk_61 (dk_at dksX2_passes_0 8 rfl rfl)
theorem dX2_passes_9 : decode cX2_passes 9 = .ok (.iload_n 2, 1) := dk_28 (dk_at dksX2_passes_0 9 rfl rfl)
theorem dX2_passes_10 : decode cX2_passes 10 = .ok (.aload_n 1, 1) := dk_43 (dk_at dksX2_passes_0 10 rfl rfl)
theorem dX2_passes_11 : decode cX2_passes 11 = .ok (.iconst 1, 1) := dk_4 (dk_at dksX2_passes_0 11 rfl rfl)
theorem dX2_passes_12 : decode cX2_passes 12 = .ok (.iaload, 1) := dk_46 (dk_at dksX2_passes_0 12 rfl rfl)
theorem dX2_passes_13 : decode cX2_passes 13 = .ok (.if_icmp .ge 124, 3) := dk_162 0 124 (dk_at dksX2_passes_0 13 rfl rfl)
theorem dX2_passes_16 : decode cX2_passes 16 = .ok (.bipush 21, 2) := dk_16 21 (dk_at dksX2_passes_0 16 rfl rfl)
theorem dX2_passes_18 : decode cX2_passes 18 = .ok (.iconst 5, 1) := dk_8 (dk_at dksX2_passes_0 18 rfl rfl)
theorem dX2_passes_19 : decode cX2_passes 19 = .ok (.iload_n 2, 1) := dk_28 (dk_at dksX2_passes_0 19 rfl rfl)
theorem dX2_passes_20 : decode cX2_passes 20 = .ok (.imul, 1) := dk_104 (dk_at dksX2_passes_0 20 rfl rfl)
theorem dX2_passes_21 : decode cX2_passes 21 = .ok (.iadd, 1) := dk_96 (dk_at dksX2_passes_0 21 rfl rfl)
theorem dX2_passes_22 : decode cX2_passes 22 = .ok (.istore_n 3, 1) := dk_62 (dk_at dksX2_passes_0 22 rfl rfl)
theorem dX2_passes_23 : decode cX2_passes 23 = .ok (.aload_n 0, 1) := dk_42 (dk_at dksX2_passes_0 23 rfl rfl)
theorem dX2_passes_24 : decode cX2_passes 24 = .ok (.getfield 35, 3) := dk_180 0 35 (dk_at dksX2_passes_1 0 rfl rfl)
theorem dX2_passes_27 : decode cX2_passes 27 = .ok (.iload_n 2, 1) := dk_28 (dk_at dksX2_passes_1 3 rfl rfl)
theorem dX2_passes_28 : decode cX2_passes 28 = .ok (.iconst (-1), 1) := dk_2 (dk_at dksX2_passes_1 4 rfl rfl)
theorem dX2_passes_29 : decode cX2_passes 29 = .ok (.iastore, 1) := dk_79 (dk_at dksX2_passes_1 5 rfl rfl)
theorem dX2_passes_30 : decode cX2_passes 30 = .ok (.aload_n 1, 1) := dk_43 (dk_at dksX2_passes_1 6 rfl rfl)
theorem dX2_passes_31 : decode cX2_passes 31 = .ok (.iload_n 2, 1) := dk_28 (dk_at dksX2_passes_1 7 rfl rfl)
theorem dX2_passes_32 : decode cX2_passes 32 = .ok (.invokestatic 174, 3) := dk_184 0 174 (dk_at dksX2_passes_1 8 rfl rfl)
theorem dX2_passes_35 : decode cX2_passes 35 = .ok (.ifCond .ne 96, 3) := dk_154 0 96 (dk_at dksX2_passes_1 11 rfl rfl)
theorem dX2_passes_38 : decode cX2_passes 38 = .ok (.aload_n 1, 1) := dk_43 (dk_at dksX2_passes_1 14 rfl rfl)
theorem dX2_passes_39 : decode cX2_passes 39 = .ok (.iload_n 3, 1) := dk_29 (dk_at dksX2_passes_1 15 rfl rfl)
theorem dX2_passes_40 : decode cX2_passes 40 = .ok (.iconst 4, 1) := dk_7 (dk_at dksX2_passes_1 16 rfl rfl)
theorem dX2_passes_41 : decode cX2_passes 41 = .ok (.iadd, 1) := dk_96 (dk_at dksX2_passes_1 17 rfl rfl)
theorem dX2_passes_42 : decode cX2_passes 42 = .ok (.dup2, 1) := dk_92 (dk_at dksX2_passes_1 18 rfl rfl)
theorem dX2_passes_43 : decode cX2_passes 43 = .ok (.iaload, 1) := dk_46 (dk_at dksX2_passes_1 19 rfl rfl)
theorem dX2_passes_44 : decode cX2_passes 44 = .ok (.aload_n 1, 1) := dk_43 (dk_at dksX2_passes_1 20 rfl rfl)
theorem dX2_passes_45 : decode cX2_passes 45 = .ok (.iload_n 3, 1) := dk_29 (dk_at dksX2_passes_1 21 rfl rfl)
theorem dX2_passes_46 : decode cX2_passes 46 = .ok (.iaload, 1) := dk_46 (dk_at dksX2_passes_1 22 rfl rfl)
theorem dX2_passes_47 : decode cX2_passes 47 = .ok (.iconst 4, 1) := dk_7 (dk_at dksX2_passes_1 23 rfl rfl)
theorem dX2_passes_48 : decode cX2_passes 48 = .ok (.if_icmp .ne 11, 3) := dk_160 0 11 (dk_at dksX2_passes_2 0 rfl rfl)
theorem dX2_passes_51 : decode cX2_passes 51 = .ok (.aload_n 1, 1) := dk_43 (dk_at dksX2_passes_2 3 rfl rfl)
theorem dX2_passes_52 : decode cX2_passes 52 = .ok (.iload_n 2, 1) := dk_28 (dk_at dksX2_passes_2 4 rfl rfl)
theorem dX2_passes_53 : decode cX2_passes 53 = .ok (.invokestatic 178, 3) := dk_184 0 178 (dk_at dksX2_passes_2 5 rfl rfl)
theorem dX2_passes_56 : decode cX2_passes 56 = .ok (.goto 4, 3) := dk_167 0 4 (dk_at dksX2_passes_2 8 rfl rfl)
theorem dX2_passes_59 : decode cX2_passes 59 = .ok (.iconst 0, 1) := dk_3 (dk_at dksX2_passes_2 11 rfl rfl)
theorem dX2_passes_60 : decode cX2_passes 60 = .ok (.ior, 1) := dk_128 (dk_at dksX2_passes_2 12 rfl rfl)
theorem dX2_passes_61 : decode cX2_passes 61 = .ok (.iastore, 1) := dk_79 (dk_at dksX2_passes_2 13 rfl rfl)
theorem dX2_passes_62 : decode cX2_passes 62 = .ok (.aload_n 1, 1) := dk_43 (dk_at dksX2_passes_2 14 rfl rfl)
theorem dX2_passes_63 : decode cX2_passes 63 = .ok (.iload_n 3, 1) := dk_29 (dk_at dksX2_passes_2 15 rfl rfl)
theorem dX2_passes_64 : decode cX2_passes 64 = .ok (.iaload, 1) := dk_46 (dk_at dksX2_passes_2 16 rfl rfl)
theorem dX2_passes_65 : decode cX2_passes 65 = .ok (.aload_n 1, 1) := dk_43 (dk_at dksX2_passes_2 17 rfl rfl)
theorem dX2_passes_66 : decode cX2_passes 66 = .ok (.iconst 2, 1) := dk_5 (dk_at dksX2_passes_2 18 rfl rfl)
theorem dX2_passes_67 : decode cX2_passes 67 = .ok (.iaload, 1) := dk_46 (dk_at dksX2_passes_2 19 rfl rfl)
theorem dX2_passes_68 : decode cX2_passes 68 = .ok (.invokestatic 182, 3) := dk_184 0 182 (dk_at dksX2_passes_2 20 rfl rfl)
theorem dX2_passes_71 : decode cX2_passes 71 = .ok (.ifCond .eq 60, 3) := dk_153 0 60 (dk_at dksX2_passes_3 0 rfl rfl)
theorem dX2_passes_74 : decode cX2_passes 74 = .ok (.aload_n 0, 1) := dk_42 (dk_at dksX2_passes_3 3 rfl rfl)
theorem dX2_passes_75 : decode cX2_passes 75 = .ok (.getfield 35, 3) := dk_180 0 35 (dk_at dksX2_passes_3 4 rfl rfl)
theorem dX2_passes_78 : decode cX2_passes 78 = .ok (.iload_n 2, 1) := dk_28 (dk_at dksX2_passes_3 7 rfl rfl)
theorem dX2_passes_79 : decode cX2_passes 79 = .ok (.aload_n 1, 1) := dk_43 (dk_at dksX2_passes_3 8 rfl rfl)
theorem dX2_passes_80 : decode cX2_passes 80 = .ok (.iload_n 2, 1) := dk_28 (dk_at dksX2_passes_3 9 rfl rfl)
theorem dX2_passes_81 : decode cX2_passes 81 = .ok (.invokestatic 185, 3) := dk_184 0 185 (dk_at dksX2_passes_3 10 rfl rfl)
theorem dX2_passes_84 : decode cX2_passes 84 = .ok (.iastore, 1) := dk_79 (dk_at dksX2_passes_3 13 rfl rfl)
theorem dX2_passes_85 : decode cX2_passes 85 = .ok (.aload_n 1, 1) := dk_43 (dk_at dksX2_passes_3 14 rfl rfl)
theorem dX2_passes_86 : decode cX2_passes 86 = .ok (.iload_n 3, 1) := dk_29 (dk_at dksX2_passes_3 15 rfl rfl)
theorem dX2_passes_87 : decode cX2_passes 87 = .ok (.iconst 3, 1) := dk_6 (dk_at dksX2_passes_3 16 rfl rfl)
theorem dX2_passes_88 : decode cX2_passes 88 = .ok (.iadd, 1) := dk_96 (dk_at dksX2_passes_3 17 rfl rfl)
theorem dX2_passes_89 : decode cX2_passes 89 = .ok (.iaload, 1) := dk_46 (dk_at dksX2_passes_3 18 rfl rfl)
theorem dX2_passes_90 : decode cX2_passes 90 = .ok (.istore 4, 2) := dk_54 4 (dk_at dksX2_passes_3 19 rfl rfl)
theorem dX2_passes_92 : decode cX2_passes 92 = .ok (.aload_n 1, 1) := dk_43 (dk_at dksX2_passes_3 21 rfl rfl)
theorem dX2_passes_93 : decode cX2_passes 93 = .ok (.iload_n 3, 1) := dk_29 (dk_at dksX2_passes_3 22 rfl rfl)
theorem dX2_passes_94 : decode cX2_passes 94 = .ok (.iconst 3, 1) := dk_6 (dk_at dksX2_passes_3 23 rfl rfl)
theorem dX2_passes_95 : decode cX2_passes 95 = .ok (.iadd, 1) := dk_96 (dk_at dksX2_passes_4 0 rfl rfl)
theorem dX2_passes_96 : decode cX2_passes 96 = .ok (.aload_n 0, 1) := dk_42 (dk_at dksX2_passes_4 1 rfl rfl)
theorem dX2_passes_97 : decode cX2_passes 97 = .ok (.getfield 35, 3) := dk_180 0 35 (dk_at dksX2_passes_4 2 rfl rfl)
theorem dX2_passes_100 : decode cX2_passes 100 = .ok (.iload_n 2, 1) := dk_28 (dk_at dksX2_passes_4 5 rfl rfl)
theorem dX2_passes_101 : decode cX2_passes 101 = .ok (.iaload, 1) := dk_46 (dk_at dksX2_passes_4 6 rfl rfl)
theorem dX2_passes_102 : decode cX2_passes 102 = .ok (.aload_n 1, 1) := dk_43 (dk_at dksX2_passes_4 7 rfl rfl)
theorem dX2_passes_103 : decode cX2_passes 103 = .ok (.iload_n 3, 1) := dk_29 (dk_at dksX2_passes_4 8 rfl rfl)
theorem dX2_passes_104 : decode cX2_passes 104 = .ok (.iconst 2, 1) := dk_5 (dk_at dksX2_passes_4 9 rfl rfl)
theorem dX2_passes_105 : decode cX2_passes 105 = .ok (.iadd, 1) := dk_96 (dk_at dksX2_passes_4 10 rfl rfl)
theorem dX2_passes_106 : decode cX2_passes 106 = .ok (.iaload, 1) := dk_46 (dk_at dksX2_passes_4 11 rfl rfl)
theorem dX2_passes_107 : decode cX2_passes 107 = .ok (.if_icmp .ge 10, 3) := dk_162 0 10 (dk_at dksX2_passes_4 12 rfl rfl)
theorem dX2_passes_110 : decode cX2_passes 110 = .ok (.iload 4, 2) := dk_21 4 (dk_at dksX2_passes_4 15 rfl rfl)
theorem dX2_passes_112 : decode cX2_passes 112 = .ok (.iconst 1, 1) := dk_4 (dk_at dksX2_passes_4 17 rfl rfl)
theorem dX2_passes_113 : decode cX2_passes 113 = .ok (.iadd, 1) := dk_96 (dk_at dksX2_passes_4 18 rfl rfl)
theorem dX2_passes_114 : decode cX2_passes 114 = .ok (.goto 16, 3) := dk_167 0 16 (dk_at dksX2_passes_4 19 rfl rfl)
theorem dX2_passes_117 : decode cX2_passes 117 = .ok (.iload 4, 2) := dk_21 4 (dk_at dksX2_passes_4 22 rfl rfl)
theorem dX2_passes_119 : decode cX2_passes 119 = .ok (.ifCond .le 10, 3) := dk_158 0 10 (dk_at dksX2_passes_5 0 rfl rfl)
theorem dX2_passes_122 : decode cX2_passes 122 = .ok (.iload 4, 2) := dk_21 4 (dk_at dksX2_passes_5 3 rfl rfl)
theorem dX2_passes_124 : decode cX2_passes 124 = .ok (.iconst 1, 1) := dk_4 (dk_at dksX2_passes_5 5 rfl rfl)
theorem dX2_passes_125 : decode cX2_passes 125 = .ok (.isub, 1) := dk_100 (dk_at dksX2_passes_5 6 rfl rfl)
theorem dX2_passes_126 : decode cX2_passes 126 = .ok (.goto 4, 3) := dk_167 0 4 (dk_at dksX2_passes_5 7 rfl rfl)
theorem dX2_passes_129 : decode cX2_passes 129 = .ok (.iconst 0, 1) := dk_3 (dk_at dksX2_passes_5 10 rfl rfl)
theorem dX2_passes_130 : decode cX2_passes 130 = .ok (.iastore, 1) := dk_79 (dk_at dksX2_passes_5 11 rfl rfl)
theorem dX2_passes_131 : decode cX2_passes 131 = .ok (.iinc 2 1, 3) := dk_132 2 1 (dk_at dksX2_passes_5 12 rfl rfl)
theorem dX2_passes_134 : decode cX2_passes 134 = .ok (.goto (-125), 3) := dk_167 255 131 (dk_at dksX2_passes_5 15 rfl rfl)
theorem dX2_passes_137 : decode cX2_passes 137 = .ok (.return_, 1) := dk_177 (dk_at dksX2_passes_5 18 rfl rfl)
abbrev cX2_isGone : ByteArray := prog_14_method_31_code
def yX2_isGone : MethodName := ⟨RX2, "isGone", "([II)Z"⟩
def dkwX2_isGone_0 : List UInt8 := [42, 16, 21, 8, 27, 104, 96, 6, 96, 46, 6, 160, 0, 7, 4, 167, 0, 4, 3, 172]
abbrev dktX2_isGone_0 : List UInt8 := dkwX2_isGone_0 ++ []
theorem dksX2_isGone_0 : cX2_isGone.data.toList.drop 0 = dktX2_isGone_0 := by decide +kernel
theorem dX2_isGone_0 : decode cX2_isGone 0 = .ok (.aload_n 0, 1) := dk_42 (dk_at dksX2_isGone_0 0 rfl rfl)
theorem dX2_isGone_1 : decode cX2_isGone 1 = .ok (.bipush 21, 2) := dk_16 21 (dk_at dksX2_isGone_0 1 rfl rfl)
theorem dX2_isGone_3 : decode cX2_isGone 3 = .ok (.iconst 5, 1) := dk_8 (dk_at dksX2_isGone_0 3 rfl rfl)
theorem dX2_isGone_4 : decode cX2_isGone 4 = .ok (.iload_n 1, 1) := dk_27 (dk_at dksX2_isGone_0 4 rfl rfl)
theorem dX2_isGone_5 : decode cX2_isGone 5 = .ok (.imul, 1) := dk_104 (dk_at dksX2_isGone_0 5 rfl rfl)
theorem dX2_isGone_6 : decode cX2_isGone 6 = .ok (.iadd, 1) := dk_96 (dk_at dksX2_isGone_0 6 rfl rfl)
theorem dX2_isGone_7 : decode cX2_isGone 7 = .ok (.iconst 3, 1) := dk_6 (dk_at dksX2_isGone_0 7 rfl rfl)
theorem dX2_isGone_8 : decode cX2_isGone 8 = .ok (.iadd, 1) := dk_96 (dk_at dksX2_isGone_0 8 rfl rfl)
theorem dX2_isGone_9 : decode cX2_isGone 9 = .ok (.iaload, 1) := dk_46 (dk_at dksX2_isGone_0 9 rfl rfl)
theorem dX2_isGone_10 : decode cX2_isGone 10 = .ok (.iconst 3, 1) := dk_6 (dk_at dksX2_isGone_0 10 rfl rfl)
theorem dX2_isGone_11 : decode cX2_isGone 11 = .ok (.if_icmp .ne 7, 3) := dk_160 0 7 (dk_at dksX2_isGone_0 11 rfl rfl)
theorem dX2_isGone_14 : decode cX2_isGone 14 = .ok (.iconst 1, 1) := dk_4 (dk_at dksX2_isGone_0 14 rfl rfl)
theorem dX2_isGone_15 : decode cX2_isGone 15 = .ok (.goto 4, 3) := dk_167 0 4 (dk_at dksX2_isGone_0 15 rfl rfl)
theorem dX2_isGone_18 : decode cX2_isGone 18 = .ok (.iconst 0, 1) := dk_3 (dk_at dksX2_isGone_0 18 rfl rfl)
theorem dX2_isGone_19 : decode cX2_isGone 19 = .ok (.ireturn, 1) := dk_172 (dk_at dksX2_isGone_0 19 rfl rfl)
abbrev cX2_near : ByteArray := prog_14_method_36_code
def yX2_near : MethodName := ⟨RX2, "near", "([II)I"⟩
def dkwX2_near_2 : List UInt8 := [167, 255, 212, 28, 42, 184, 0, 163, 126, 172]
abbrev dktX2_near_2 : List UInt8 := dkwX2_near_2 ++ []
def dkwX2_near_1 : List UInt8 := [104, 96, 4, 96, 46, 184, 0, 149, 6, 162, 0, 9, 4, 29, 120, 167, 0, 4, 3, 128, 61, 132, 3, 1]
abbrev dktX2_near_1 : List UInt8 := dkwX2_near_1 ++ dktX2_near_2
def dkwX2_near_0 : List UInt8 := [3, 61, 3, 62, 29, 42, 3, 46, 162, 0, 43, 28, 42, 6, 5, 29, 104, 96, 46, 42, 16, 21, 8, 27]
abbrev dktX2_near_0 : List UInt8 := dkwX2_near_0 ++ dktX2_near_1
theorem dksX2_near_0 : cX2_near.data.toList.drop 0 = dktX2_near_0 := by decide +kernel
theorem dksX2_near_1 : cX2_near.data.toList.drop 24 = dktX2_near_1 := dk_seg dksX2_near_0 24 rfl rfl
theorem dksX2_near_2 : cX2_near.data.toList.drop 48 = dktX2_near_2 := dk_seg dksX2_near_1 24 rfl rfl
theorem dX2_near_0 : decode cX2_near 0 = .ok (.iconst 0, 1) := dk_3 (dk_at dksX2_near_0 0 rfl rfl)
theorem dX2_near_1 : decode cX2_near 1 = .ok (.istore_n 2, 1) := dk_61 (dk_at dksX2_near_0 1 rfl rfl)
theorem dX2_near_2 : decode cX2_near 2 = .ok (.iconst 0, 1) := dk_3 (dk_at dksX2_near_0 2 rfl rfl)
theorem dX2_near_3 : decode cX2_near 3 = .ok (.istore_n 3, 1) := dk_62 (dk_at dksX2_near_0 3 rfl rfl)
theorem dX2_near_4 : decode cX2_near 4 = .ok (.iload_n 3, 1) := dk_29 (dk_at dksX2_near_0 4 rfl rfl)
theorem dX2_near_5 : decode cX2_near 5 = .ok (.aload_n 0, 1) := dk_42 (dk_at dksX2_near_0 5 rfl rfl)
theorem dX2_near_6 : decode cX2_near 6 = .ok (.iconst 0, 1) := dk_3 (dk_at dksX2_near_0 6 rfl rfl)
theorem dX2_near_7 : decode cX2_near 7 = .ok (.iaload, 1) := dk_46 (dk_at dksX2_near_0 7 rfl rfl)
theorem dX2_near_8 : decode cX2_near 8 = .ok (.if_icmp .ge 43, 3) := dk_162 0 43 (dk_at dksX2_near_0 8 rfl rfl)
theorem dX2_near_11 : decode cX2_near 11 = .ok (.iload_n 2, 1) := dk_28 (dk_at dksX2_near_0 11 rfl rfl)
theorem dX2_near_12 : decode cX2_near 12 = .ok (.aload_n 0, 1) := dk_42 (dk_at dksX2_near_0 12 rfl rfl)
theorem dX2_near_13 : decode cX2_near 13 = .ok (.iconst 3, 1) := dk_6 (dk_at dksX2_near_0 13 rfl rfl)
theorem dX2_near_14 : decode cX2_near 14 = .ok (.iconst 2, 1) := dk_5 (dk_at dksX2_near_0 14 rfl rfl)
theorem dX2_near_15 : decode cX2_near 15 = .ok (.iload_n 3, 1) := dk_29 (dk_at dksX2_near_0 15 rfl rfl)
theorem dX2_near_16 : decode cX2_near 16 = .ok (.imul, 1) := dk_104 (dk_at dksX2_near_0 16 rfl rfl)
theorem dX2_near_17 : decode cX2_near 17 = .ok (.iadd, 1) := dk_96 (dk_at dksX2_near_0 17 rfl rfl)
theorem dX2_near_18 : decode cX2_near 18 = .ok (.iaload, 1) := dk_46 (dk_at dksX2_near_0 18 rfl rfl)
theorem dX2_near_19 : decode cX2_near 19 = .ok (.aload_n 0, 1) := dk_42 (dk_at dksX2_near_0 19 rfl rfl)
theorem dX2_near_20 : decode cX2_near 20 = .ok (.bipush 21, 2) := dk_16 21 (dk_at dksX2_near_0 20 rfl rfl)
theorem dX2_near_22 : decode cX2_near 22 = .ok (.iconst 5, 1) := dk_8 (dk_at dksX2_near_0 22 rfl rfl)
theorem dX2_near_23 : decode cX2_near 23 = .ok (.iload_n 1, 1) := dk_27 (dk_at dksX2_near_0 23 rfl rfl)
theorem dX2_near_24 : decode cX2_near 24 = .ok (.imul, 1) := dk_104 (dk_at dksX2_near_1 0 rfl rfl)
theorem dX2_near_25 : decode cX2_near 25 = .ok (.iadd, 1) := dk_96 (dk_at dksX2_near_1 1 rfl rfl)
theorem dX2_near_26 : decode cX2_near 26 = .ok (.iconst 1, 1) := dk_4 (dk_at dksX2_near_1 2 rfl rfl)
theorem dX2_near_27 : decode cX2_near 27 = .ok (.iadd, 1) := dk_96 (dk_at dksX2_near_1 3 rfl rfl)
theorem dX2_near_28 : decode cX2_near 28 = .ok (.iaload, 1) := dk_46 (dk_at dksX2_near_1 4 rfl rfl)
theorem dX2_near_29 : decode cX2_near 29 = .ok (.invokestatic 149, 3) := dk_184 0 149 (dk_at dksX2_near_1 5 rfl rfl)
theorem dX2_near_32 : decode cX2_near 32 = .ok (.iconst 3, 1) := dk_6 (dk_at dksX2_near_1 8 rfl rfl)
theorem dX2_near_33 : decode cX2_near 33 = .ok (.if_icmp .ge 9, 3) := dk_162 0 9 (dk_at dksX2_near_1 9 rfl rfl)
theorem dX2_near_36 : decode cX2_near 36 = .ok (.iconst 1, 1) := dk_4 (dk_at dksX2_near_1 12 rfl rfl)
theorem dX2_near_37 : decode cX2_near 37 = .ok (.iload_n 3, 1) := dk_29 (dk_at dksX2_near_1 13 rfl rfl)
theorem dX2_near_38 : decode cX2_near 38 = .ok (.ishl, 1) := dk_120 (dk_at dksX2_near_1 14 rfl rfl)
theorem dX2_near_39 : decode cX2_near 39 = .ok (.goto 4, 3) := dk_167 0 4 (dk_at dksX2_near_1 15 rfl rfl)
theorem dX2_near_42 : decode cX2_near 42 = .ok (.iconst 0, 1) := dk_3 (dk_at dksX2_near_1 18 rfl rfl)
theorem dX2_near_43 : decode cX2_near 43 = .ok (.ior, 1) := dk_128 (dk_at dksX2_near_1 19 rfl rfl)
theorem dX2_near_44 : decode cX2_near 44 = .ok (.istore_n 2, 1) := dk_61 (dk_at dksX2_near_1 20 rfl rfl)
theorem dX2_near_45 : decode cX2_near 45 = .ok (.iinc 3 1, 3) := dk_132 3 1 (dk_at dksX2_near_1 21 rfl rfl)
theorem dX2_near_48 : decode cX2_near 48 = .ok (.goto (-44), 3) := dk_167 255 212 (dk_at dksX2_near_2 0 rfl rfl)
theorem dX2_near_51 : decode cX2_near 51 = .ok (.iload_n 2, 1) := dk_28 (dk_at dksX2_near_2 3 rfl rfl)
theorem dX2_near_52 : decode cX2_near 52 = .ok (.aload_n 0, 1) := dk_42 (dk_at dksX2_near_2 4 rfl rfl)
theorem dX2_near_53 : decode cX2_near 53 = .ok (.invokestatic 163, 3) := dk_184 0 163 (dk_at dksX2_near_2 5 rfl rfl)
theorem dX2_near_56 : decode cX2_near 56 = .ok (.iand, 1) := dk_126 (dk_at dksX2_near_2 8 rfl rfl)
theorem dX2_near_57 : decode cX2_near 57 = .ok (.ireturn, 1) := dk_172 (dk_at dksX2_near_2 9 rfl rfl)
abbrev cX2_apart : ByteArray := prog_14_method_8_code
def yX2_apart : MethodName := ⟨RX2, "apart", "(II)I"⟩
def dkwX2_apart_0 : List UInt8 := [26, 27, 162, 0, 9, 27, 26, 100, 167, 0, 6, 26, 27, 100, 172]
abbrev dktX2_apart_0 : List UInt8 := dkwX2_apart_0 ++ []
theorem dksX2_apart_0 : cX2_apart.data.toList.drop 0 = dktX2_apart_0 := by decide +kernel
theorem dX2_apart_0 : decode cX2_apart 0 = .ok (.iload_n 0, 1) := dk_26 (dk_at dksX2_apart_0 0 rfl rfl)
theorem dX2_apart_1 : decode cX2_apart 1 = .ok (.iload_n 1, 1) := dk_27 (dk_at dksX2_apart_0 1 rfl rfl)
theorem dX2_apart_2 : decode cX2_apart 2 = .ok (.if_icmp .ge 9, 3) := dk_162 0 9 (dk_at dksX2_apart_0 2 rfl rfl)
theorem dX2_apart_5 : decode cX2_apart 5 = .ok (.iload_n 1, 1) := dk_27 (dk_at dksX2_apart_0 5 rfl rfl)
theorem dX2_apart_6 : decode cX2_apart 6 = .ok (.iload_n 0, 1) := dk_26 (dk_at dksX2_apart_0 6 rfl rfl)
theorem dX2_apart_7 : decode cX2_apart 7 = .ok (.isub, 1) := dk_100 (dk_at dksX2_apart_0 7 rfl rfl)
theorem dX2_apart_8 : decode cX2_apart 8 = .ok (.goto 6, 3) := dk_167 0 6 (dk_at dksX2_apart_0 8 rfl rfl)
theorem dX2_apart_11 : decode cX2_apart 11 = .ok (.iload_n 0, 1) := dk_26 (dk_at dksX2_apart_0 11 rfl rfl)
theorem dX2_apart_12 : decode cX2_apart 12 = .ok (.iload_n 1, 1) := dk_27 (dk_at dksX2_apart_0 12 rfl rfl)
theorem dX2_apart_13 : decode cX2_apart 13 = .ok (.isub, 1) := dk_100 (dk_at dksX2_apart_0 13 rfl rfl)
theorem dX2_apart_14 : decode cX2_apart 14 = .ok (.ireturn, 1) := dk_172 (dk_at dksX2_apart_0 14 rfl rfl)
abbrev cX2_full : ByteArray := prog_14_method_32_code
def yX2_full : MethodName := ⟨RX2, "full", "([I)I"⟩
def dkwX2_full_1 : List UInt8 := [4, 28, 120, 167, 0, 4, 3, 128, 60, 132, 2, 1, 167, 255, 224, 27, 172]
abbrev dktX2_full_1 : List UInt8 := dkwX2_full_1 ++ []
def dkwX2_full_0 : List UInt8 := [3, 60, 3, 61, 28, 42, 3, 46, 162, 0, 31, 27, 42, 6, 5, 28, 104, 96, 4, 96, 46, 158, 0, 9]
abbrev dktX2_full_0 : List UInt8 := dkwX2_full_0 ++ dktX2_full_1
theorem dksX2_full_0 : cX2_full.data.toList.drop 0 = dktX2_full_0 := by decide +kernel
theorem dksX2_full_1 : cX2_full.data.toList.drop 24 = dktX2_full_1 := dk_seg dksX2_full_0 24 rfl rfl
theorem dX2_full_0 : decode cX2_full 0 = .ok (.iconst 0, 1) := dk_3 (dk_at dksX2_full_0 0 rfl rfl)
theorem dX2_full_1 : decode cX2_full 1 = .ok (.istore_n 1, 1) := dk_60 (dk_at dksX2_full_0 1 rfl rfl)
theorem dX2_full_2 : decode cX2_full 2 = .ok (.iconst 0, 1) := dk_3 (dk_at dksX2_full_0 2 rfl rfl)
theorem dX2_full_3 : decode cX2_full 3 = .ok (.istore_n 2, 1) := dk_61 (dk_at dksX2_full_0 3 rfl rfl)
theorem dX2_full_4 : decode cX2_full 4 = .ok (.iload_n 2, 1) := dk_28 (dk_at dksX2_full_0 4 rfl rfl)
theorem dX2_full_5 : decode cX2_full 5 = .ok (.aload_n 0, 1) := dk_42 (dk_at dksX2_full_0 5 rfl rfl)
theorem dX2_full_6 : decode cX2_full 6 = .ok (.iconst 0, 1) := dk_3 (dk_at dksX2_full_0 6 rfl rfl)
theorem dX2_full_7 : decode cX2_full 7 = .ok (.iaload, 1) := dk_46 (dk_at dksX2_full_0 7 rfl rfl)
theorem dX2_full_8 : decode cX2_full 8 = .ok (.if_icmp .ge 31, 3) := dk_162 0 31 (dk_at dksX2_full_0 8 rfl rfl)
theorem dX2_full_11 : decode cX2_full 11 = .ok (.iload_n 1, 1) := dk_27 (dk_at dksX2_full_0 11 rfl rfl)
theorem dX2_full_12 : decode cX2_full 12 = .ok (.aload_n 0, 1) := dk_42 (dk_at dksX2_full_0 12 rfl rfl)
theorem dX2_full_13 : decode cX2_full 13 = .ok (.iconst 3, 1) := dk_6 (dk_at dksX2_full_0 13 rfl rfl)
theorem dX2_full_14 : decode cX2_full 14 = .ok (.iconst 2, 1) := dk_5 (dk_at dksX2_full_0 14 rfl rfl)
theorem dX2_full_15 : decode cX2_full 15 = .ok (.iload_n 2, 1) := dk_28 (dk_at dksX2_full_0 15 rfl rfl)
theorem dX2_full_16 : decode cX2_full 16 = .ok (.imul, 1) := dk_104 (dk_at dksX2_full_0 16 rfl rfl)
theorem dX2_full_17 : decode cX2_full 17 = .ok (.iadd, 1) := dk_96 (dk_at dksX2_full_0 17 rfl rfl)
theorem dX2_full_18 : decode cX2_full 18 = .ok (.iconst 1, 1) := dk_4 (dk_at dksX2_full_0 18 rfl rfl)
theorem dX2_full_19 : decode cX2_full 19 = .ok (.iadd, 1) := dk_96 (dk_at dksX2_full_0 19 rfl rfl)
theorem dX2_full_20 : decode cX2_full 20 = .ok (.iaload, 1) := dk_46 (dk_at dksX2_full_0 20 rfl rfl)
theorem dX2_full_21 : decode cX2_full 21 = .ok (.ifCond .le 9, 3) := dk_158 0 9 (dk_at dksX2_full_0 21 rfl rfl)
theorem dX2_full_24 : decode cX2_full 24 = .ok (.iconst 1, 1) := dk_4 (dk_at dksX2_full_1 0 rfl rfl)
theorem dX2_full_25 : decode cX2_full 25 = .ok (.iload_n 2, 1) := dk_28 (dk_at dksX2_full_1 1 rfl rfl)
theorem dX2_full_26 : decode cX2_full 26 = .ok (.ishl, 1) := dk_120 (dk_at dksX2_full_1 2 rfl rfl)
theorem dX2_full_27 : decode cX2_full 27 = .ok (.goto 4, 3) := dk_167 0 4 (dk_at dksX2_full_1 3 rfl rfl)
theorem dX2_full_30 : decode cX2_full 30 = .ok (.iconst 0, 1) := dk_3 (dk_at dksX2_full_1 6 rfl rfl)
theorem dX2_full_31 : decode cX2_full 31 = .ok (.ior, 1) := dk_128 (dk_at dksX2_full_1 7 rfl rfl)
theorem dX2_full_32 : decode cX2_full 32 = .ok (.istore_n 1, 1) := dk_60 (dk_at dksX2_full_1 8 rfl rfl)
theorem dX2_full_33 : decode cX2_full 33 = .ok (.iinc 2 1, 3) := dk_132 2 1 (dk_at dksX2_full_1 9 rfl rfl)
theorem dX2_full_36 : decode cX2_full 36 = .ok (.goto (-32), 3) := dk_167 255 224 (dk_at dksX2_full_1 12 rfl rfl)
theorem dX2_full_39 : decode cX2_full 39 = .ok (.iload_n 1, 1) := dk_27 (dk_at dksX2_full_1 15 rfl rfl)
theorem dX2_full_40 : decode cX2_full 40 = .ok (.ireturn, 1) := dk_172 (dk_at dksX2_full_1 16 rfl rfl)
abbrev cX2_wakes : ByteArray := prog_14_method_30_code
def yX2_wakes : MethodName := ⟨RX2, "wakes", "(II)Z"⟩
def dkwX2_wakes_0 : List UInt8 := [26, 6, 160, 0, 9, 27, 5, 112, 154, 0, 7, 4, 167, 0, 4, 3, 172]
abbrev dktX2_wakes_0 : List UInt8 := dkwX2_wakes_0 ++ []
theorem dksX2_wakes_0 : cX2_wakes.data.toList.drop 0 = dktX2_wakes_0 := by decide +kernel
theorem dX2_wakes_0 : decode cX2_wakes 0 = .ok (.iload_n 0, 1) := dk_26 (dk_at dksX2_wakes_0 0 rfl rfl)
theorem dX2_wakes_1 : decode cX2_wakes 1 = .ok (.iconst 3, 1) := dk_6 (dk_at dksX2_wakes_0 1 rfl rfl)
theorem dX2_wakes_2 : decode cX2_wakes 2 = .ok (.if_icmp .ne 9, 3) := dk_160 0 9 (dk_at dksX2_wakes_0 2 rfl rfl)
theorem dX2_wakes_5 : decode cX2_wakes 5 = .ok (.iload_n 1, 1) := dk_27 (dk_at dksX2_wakes_0 5 rfl rfl)
theorem dX2_wakes_6 : decode cX2_wakes 6 = .ok (.iconst 2, 1) := dk_5 (dk_at dksX2_wakes_0 6 rfl rfl)
theorem dX2_wakes_7 : decode cX2_wakes 7 = .ok (.irem, 1) := dk_112 (dk_at dksX2_wakes_0 7 rfl rfl)
theorem dX2_wakes_8 : decode cX2_wakes 8 = .ok (.ifCond .ne 7, 3) := dk_154 0 7 (dk_at dksX2_wakes_0 8 rfl rfl)
theorem dX2_wakes_11 : decode cX2_wakes 11 = .ok (.iconst 1, 1) := dk_4 (dk_at dksX2_wakes_0 11 rfl rfl)
theorem dX2_wakes_12 : decode cX2_wakes 12 = .ok (.goto 4, 3) := dk_167 0 4 (dk_at dksX2_wakes_0 12 rfl rfl)
theorem dX2_wakes_15 : decode cX2_wakes 15 = .ok (.iconst 0, 1) := dk_3 (dk_at dksX2_wakes_0 15 rfl rfl)
theorem dX2_wakes_16 : decode cX2_wakes 16 = .ok (.ireturn, 1) := dk_172 (dk_at dksX2_wakes_0 16 rfl rfl)
abbrev cX2_eats : ByteArray := prog_14_method_35_code
def yX2_eats : MethodName := ⟨RX2, "eats", "([II)I"⟩
def dkwX2_eats_6 : List UInt8 := [46, 42, 184, 0, 163, 126, 54, 5, 167, 255, 139, 21, 4, 172]
abbrev dktX2_eats_6 : List UInt8 := dkwX2_eats_6 ++ []
def dkwX2_eats_5 : List UInt8 := [104, 96, 4, 96, 46, 154, 0, 12, 4, 21, 6, 120, 2, 130, 167, 0, 4, 2, 126, 79, 42, 28, 7, 96]
abbrev dktX2_eats_5 : List UInt8 := dkwX2_eats_5 ++ dktX2_eats_6
def dkwX2_eats_4 : List UInt8 := [92, 46, 21, 7, 100, 79, 21, 4, 21, 7, 96, 54, 4, 42, 28, 7, 96, 92, 46, 42, 6, 5, 21, 6]
abbrev dktX2_eats_4 : List UInt8 := dkwX2_eats_4 ++ dktX2_eats_5
def dkwX2_eats_3 : List UInt8 := [54, 7, 42, 28, 4, 96, 42, 6, 5, 21, 6, 104, 96, 46, 79, 42, 6, 5, 21, 6, 104, 96, 4, 96]
abbrev dktX2_eats_3 : List UInt8 := dkwX2_eats_3 ++ dktX2_eats_4
def dkwX2_eats_2 : List UInt8 := [21, 5, 184, 0, 167, 54, 6, 29, 21, 4, 100, 42, 6, 5, 21, 6, 104, 96, 4, 96, 46, 184, 0, 171]
abbrev dktX2_eats_2 : List UInt8 := dkwX2_eats_2 ++ dktX2_eats_3
def dkwX2_eats_1 : List UInt8 := [7, 96, 46, 42, 184, 0, 163, 126, 54, 5, 21, 4, 29, 162, 0, 117, 21, 5, 153, 0, 112, 42, 27]
abbrev dktX2_eats_1 : List UInt8 := dkwX2_eats_1 ++ dktX2_eats_2
def dkwX2_eats_0 : List UInt8 := [16, 21, 8, 27, 104, 96, 61, 42, 28, 46, 42, 28, 5, 96, 46, 184, 0, 160, 62, 3, 54, 4, 42, 28]
abbrev dktX2_eats_0 : List UInt8 := dkwX2_eats_0 ++ dktX2_eats_1
theorem dksX2_eats_0 : cX2_eats.data.toList.drop 0 = dktX2_eats_0 := by decide +kernel
theorem dksX2_eats_1 : cX2_eats.data.toList.drop 24 = dktX2_eats_1 := dk_seg dksX2_eats_0 24 rfl rfl
theorem dksX2_eats_2 : cX2_eats.data.toList.drop 47 = dktX2_eats_2 := dk_seg dksX2_eats_1 23 rfl rfl
theorem dksX2_eats_3 : cX2_eats.data.toList.drop 71 = dktX2_eats_3 := dk_seg dksX2_eats_2 24 rfl rfl
theorem dksX2_eats_4 : cX2_eats.data.toList.drop 95 = dktX2_eats_4 := dk_seg dksX2_eats_3 24 rfl rfl
theorem dksX2_eats_5 : cX2_eats.data.toList.drop 119 = dktX2_eats_5 := dk_seg dksX2_eats_4 24 rfl rfl
theorem dksX2_eats_6 : cX2_eats.data.toList.drop 143 = dktX2_eats_6 := dk_seg dksX2_eats_5 24 rfl rfl
theorem dX2_eats_0 : decode cX2_eats 0 = .ok (.bipush 21, 2) := dk_16 21 (dk_at dksX2_eats_0 0 rfl rfl)
theorem dX2_eats_2 : decode cX2_eats 2 = .ok (.iconst 5, 1) := dk_8 (dk_at dksX2_eats_0 2 rfl rfl)
theorem dX2_eats_3 : decode cX2_eats 3 = .ok (.iload_n 1, 1) := dk_27 (dk_at dksX2_eats_0 3 rfl rfl)
theorem dX2_eats_4 : decode cX2_eats 4 = .ok (.imul, 1) := dk_104 (dk_at dksX2_eats_0 4 rfl rfl)
theorem dX2_eats_5 : decode cX2_eats 5 = .ok (.iadd, 1) := dk_96 (dk_at dksX2_eats_0 5 rfl rfl)
theorem dX2_eats_6 : decode cX2_eats 6 = .ok (.istore_n 2, 1) := dk_61 (dk_at dksX2_eats_0 6 rfl rfl)
theorem dX2_eats_7 : decode cX2_eats 7 = .ok (.aload_n 0, 1) := dk_42 (dk_at dksX2_eats_0 7 rfl rfl)
theorem dX2_eats_8 : decode cX2_eats 8 = .ok (.iload_n 2, 1) := dk_28 (dk_at dksX2_eats_0 8 rfl rfl)
theorem dX2_eats_9 : decode cX2_eats 9 = .ok (.iaload, 1) := dk_46 (dk_at dksX2_eats_0 9 rfl rfl)
theorem dX2_eats_10 : decode cX2_eats 10 = .ok (.aload_n 0, 1) := dk_42 (dk_at dksX2_eats_0 10 rfl rfl)
theorem dX2_eats_11 : decode cX2_eats 11 = .ok (.iload_n 2, 1) := dk_28 (dk_at dksX2_eats_0 11 rfl rfl)
theorem dX2_eats_12 : decode cX2_eats 12 = .ok (.iconst 2, 1) := dk_5 (dk_at dksX2_eats_0 12 rfl rfl)
theorem dX2_eats_13 : decode cX2_eats 13 = .ok (.iadd, 1) := dk_96 (dk_at dksX2_eats_0 13 rfl rfl)
theorem dX2_eats_14 : decode cX2_eats 14 = .ok (.iaload, 1) := dk_46 (dk_at dksX2_eats_0 14 rfl rfl)
theorem dX2_eats_15 : decode cX2_eats 15 = .ok (.invokestatic 160, 3) := dk_184 0 160 (dk_at dksX2_eats_0 15 rfl rfl)
theorem dX2_eats_18 : decode cX2_eats 18 = .ok (.istore_n 3, 1) := dk_62 (dk_at dksX2_eats_0 18 rfl rfl)
theorem dX2_eats_19 : decode cX2_eats 19 = .ok (.iconst 0, 1) := dk_3 (dk_at dksX2_eats_0 19 rfl rfl)
theorem dX2_eats_20 : decode cX2_eats 20 = .ok (.istore 4, 2) := dk_54 4 (dk_at dksX2_eats_0 20 rfl rfl)
theorem dX2_eats_22 : decode cX2_eats 22 = .ok (.aload_n 0, 1) := dk_42 (dk_at dksX2_eats_0 22 rfl rfl)
theorem dX2_eats_23 : decode cX2_eats 23 = .ok (.iload_n 2, 1) := dk_28 (dk_at dksX2_eats_0 23 rfl rfl)
theorem dX2_eats_24 : decode cX2_eats 24 = .ok (.iconst 4, 1) := dk_7 (dk_at dksX2_eats_1 0 rfl rfl)
theorem dX2_eats_25 : decode cX2_eats 25 = .ok (.iadd, 1) := dk_96 (dk_at dksX2_eats_1 1 rfl rfl)
theorem dX2_eats_26 : decode cX2_eats 26 = .ok (.iaload, 1) := dk_46 (dk_at dksX2_eats_1 2 rfl rfl)
theorem dX2_eats_27 : decode cX2_eats 27 = .ok (.aload_n 0, 1) := dk_42 (dk_at dksX2_eats_1 3 rfl rfl)
theorem dX2_eats_28 : decode cX2_eats 28 = .ok (.invokestatic 163, 3) := dk_184 0 163 (dk_at dksX2_eats_1 4 rfl rfl)
theorem dX2_eats_31 : decode cX2_eats 31 = .ok (.iand, 1) := dk_126 (dk_at dksX2_eats_1 7 rfl rfl)
theorem dX2_eats_32 : decode cX2_eats 32 = .ok (.istore 5, 2) := dk_54 5 (dk_at dksX2_eats_1 8 rfl rfl)
theorem dX2_eats_34 : decode cX2_eats 34 = .ok (.iload 4, 2) := dk_21 4 (dk_at dksX2_eats_1 10 rfl rfl)
theorem dX2_eats_36 : decode cX2_eats 36 = .ok (.iload_n 3, 1) := dk_29 (dk_at dksX2_eats_1 12 rfl rfl)
theorem dX2_eats_37 : decode cX2_eats 37 = .ok (.if_icmp .ge 117, 3) := dk_162 0 117 (dk_at dksX2_eats_1 13 rfl rfl)
theorem dX2_eats_40 : decode cX2_eats 40 = .ok (.iload 5, 2) := dk_21 5 (dk_at dksX2_eats_1 16 rfl rfl)
theorem dX2_eats_42 : decode cX2_eats 42 = .ok (.ifCond .eq 112, 3) := dk_153 0 112 (dk_at dksX2_eats_1 18 rfl rfl)
theorem dX2_eats_45 : decode cX2_eats 45 = .ok (.aload_n 0, 1) := dk_42 (dk_at dksX2_eats_1 21 rfl rfl)
theorem dX2_eats_46 : decode cX2_eats 46 = .ok (.iload_n 1, 1) := dk_27 (dk_at dksX2_eats_1 22 rfl rfl)
theorem dX2_eats_47 : decode cX2_eats 47 = .ok (.iload 5, 2) := dk_21 5 (dk_at dksX2_eats_2 0 rfl rfl)
theorem dX2_eats_49 : decode cX2_eats 49 = .ok (.invokestatic 167, 3) := dk_184 0 167 (dk_at dksX2_eats_2 2 rfl rfl)
theorem dX2_eats_52 : decode cX2_eats 52 = .ok (.istore 6, 2) := dk_54 6 (dk_at dksX2_eats_2 5 rfl rfl)
theorem dX2_eats_54 : decode cX2_eats 54 = .ok (.iload_n 3, 1) := dk_29 (dk_at dksX2_eats_2 7 rfl rfl)
theorem dX2_eats_55 : decode cX2_eats 55 = .ok (.iload 4, 2) := dk_21 4 (dk_at dksX2_eats_2 8 rfl rfl)
theorem dX2_eats_57 : decode cX2_eats 57 = .ok (.isub, 1) := dk_100 (dk_at dksX2_eats_2 10 rfl rfl)
theorem dX2_eats_58 : decode cX2_eats 58 = .ok (.aload_n 0, 1) := dk_42 (dk_at dksX2_eats_2 11 rfl rfl)
theorem dX2_eats_59 : decode cX2_eats 59 = .ok (.iconst 3, 1) := dk_6 (dk_at dksX2_eats_2 12 rfl rfl)
theorem dX2_eats_60 : decode cX2_eats 60 = .ok (.iconst 2, 1) := dk_5 (dk_at dksX2_eats_2 13 rfl rfl)
theorem dX2_eats_61 : decode cX2_eats 61 = .ok (.iload 6, 2) := dk_21 6 (dk_at dksX2_eats_2 14 rfl rfl)
theorem dX2_eats_63 : decode cX2_eats 63 = .ok (.imul, 1) := dk_104 (dk_at dksX2_eats_2 16 rfl rfl)
theorem dX2_eats_64 : decode cX2_eats 64 = .ok (.iadd, 1) := dk_96 (dk_at dksX2_eats_2 17 rfl rfl)
theorem dX2_eats_65 : decode cX2_eats 65 = .ok (.iconst 1, 1) := dk_4 (dk_at dksX2_eats_2 18 rfl rfl)
theorem dX2_eats_66 : decode cX2_eats 66 = .ok (.iadd, 1) := dk_96 (dk_at dksX2_eats_2 19 rfl rfl)
theorem dX2_eats_67 : decode cX2_eats 67 = .ok (.iaload, 1) := dk_46 (dk_at dksX2_eats_2 20 rfl rfl)
theorem dX2_eats_68 : decode cX2_eats 68 = .ok (.invokestatic 171, 3) := dk_184 0 171 (dk_at dksX2_eats_2 21 rfl rfl)
theorem dX2_eats_71 : decode cX2_eats 71 = .ok (.istore 7, 2) := dk_54 7 (dk_at dksX2_eats_3 0 rfl rfl)
theorem dX2_eats_73 : decode cX2_eats 73 = .ok (.aload_n 0, 1) := dk_42 (dk_at dksX2_eats_3 2 rfl rfl)
theorem dX2_eats_74 : decode cX2_eats 74 = .ok (.iload_n 2, 1) := dk_28 (dk_at dksX2_eats_3 3 rfl rfl)
theorem dX2_eats_75 : decode cX2_eats 75 = .ok (.iconst 1, 1) := dk_4 (dk_at dksX2_eats_3 4 rfl rfl)
theorem dX2_eats_76 : decode cX2_eats 76 = .ok (.iadd, 1) := dk_96 (dk_at dksX2_eats_3 5 rfl rfl)
theorem dX2_eats_77 : decode cX2_eats 77 = .ok (.aload_n 0, 1) := dk_42 (dk_at dksX2_eats_3 6 rfl rfl)
theorem dX2_eats_78 : decode cX2_eats 78 = .ok (.iconst 3, 1) := dk_6 (dk_at dksX2_eats_3 7 rfl rfl)
theorem dX2_eats_79 : decode cX2_eats 79 = .ok (.iconst 2, 1) := dk_5 (dk_at dksX2_eats_3 8 rfl rfl)
theorem dX2_eats_80 : decode cX2_eats 80 = .ok (.iload 6, 2) := dk_21 6 (dk_at dksX2_eats_3 9 rfl rfl)
theorem dX2_eats_82 : decode cX2_eats 82 = .ok (.imul, 1) := dk_104 (dk_at dksX2_eats_3 11 rfl rfl)
theorem dX2_eats_83 : decode cX2_eats 83 = .ok (.iadd, 1) := dk_96 (dk_at dksX2_eats_3 12 rfl rfl)
theorem dX2_eats_84 : decode cX2_eats 84 = .ok (.iaload, 1) := dk_46 (dk_at dksX2_eats_3 13 rfl rfl)
theorem dX2_eats_85 : decode cX2_eats 85 = .ok (.iastore, 1) := dk_79 (dk_at dksX2_eats_3 14 rfl rfl)
theorem dX2_eats_86 : decode cX2_eats 86 = .ok (.aload_n 0, 1) := dk_42 (dk_at dksX2_eats_3 15 rfl rfl)
theorem dX2_eats_87 : decode cX2_eats 87 = .ok (.iconst 3, 1) := dk_6 (dk_at dksX2_eats_3 16 rfl rfl)
theorem dX2_eats_88 : decode cX2_eats 88 = .ok (.iconst 2, 1) := dk_5 (dk_at dksX2_eats_3 17 rfl rfl)
theorem dX2_eats_89 : decode cX2_eats 89 = .ok (.iload 6, 2) := dk_21 6 (dk_at dksX2_eats_3 18 rfl rfl)
theorem dX2_eats_91 : decode cX2_eats 91 = .ok (.imul, 1) := dk_104 (dk_at dksX2_eats_3 20 rfl rfl)
theorem dX2_eats_92 : decode cX2_eats 92 = .ok (.iadd, 1) := dk_96 (dk_at dksX2_eats_3 21 rfl rfl)
theorem dX2_eats_93 : decode cX2_eats 93 = .ok (.iconst 1, 1) := dk_4 (dk_at dksX2_eats_3 22 rfl rfl)
theorem dX2_eats_94 : decode cX2_eats 94 = .ok (.iadd, 1) := dk_96 (dk_at dksX2_eats_3 23 rfl rfl)
theorem dX2_eats_95 : decode cX2_eats 95 = .ok (.dup2, 1) := dk_92 (dk_at dksX2_eats_4 0 rfl rfl)
theorem dX2_eats_96 : decode cX2_eats 96 = .ok (.iaload, 1) := dk_46 (dk_at dksX2_eats_4 1 rfl rfl)
theorem dX2_eats_97 : decode cX2_eats 97 = .ok (.iload 7, 2) := dk_21 7 (dk_at dksX2_eats_4 2 rfl rfl)
theorem dX2_eats_99 : decode cX2_eats 99 = .ok (.isub, 1) := dk_100 (dk_at dksX2_eats_4 4 rfl rfl)
theorem dX2_eats_100 : decode cX2_eats 100 = .ok (.iastore, 1) := dk_79 (dk_at dksX2_eats_4 5 rfl rfl)
theorem dX2_eats_101 : decode cX2_eats 101 = .ok (.iload 4, 2) := dk_21 4 (dk_at dksX2_eats_4 6 rfl rfl)
theorem dX2_eats_103 : decode cX2_eats 103 = .ok (.iload 7, 2) := dk_21 7 (dk_at dksX2_eats_4 8 rfl rfl)
theorem dX2_eats_105 : decode cX2_eats 105 = .ok (.iadd, 1) := dk_96 (dk_at dksX2_eats_4 10 rfl rfl)
theorem dX2_eats_106 : decode cX2_eats 106 = .ok (.istore 4, 2) := dk_54 4 (dk_at dksX2_eats_4 11 rfl rfl)
theorem dX2_eats_108 : decode cX2_eats 108 = .ok (.aload_n 0, 1) := dk_42 (dk_at dksX2_eats_4 13 rfl rfl)
theorem dX2_eats_109 : decode cX2_eats 109 = .ok (.iload_n 2, 1) := dk_28 (dk_at dksX2_eats_4 14 rfl rfl)
theorem dX2_eats_110 : decode cX2_eats 110 = .ok (.iconst 4, 1) := dk_7 (dk_at dksX2_eats_4 15 rfl rfl)
theorem dX2_eats_111 : decode cX2_eats 111 = .ok (.iadd, 1) := dk_96 (dk_at dksX2_eats_4 16 rfl rfl)
theorem dX2_eats_112 : decode cX2_eats 112 = .ok (.dup2, 1) := dk_92 (dk_at dksX2_eats_4 17 rfl rfl)
theorem dX2_eats_113 : decode cX2_eats 113 = .ok (.iaload, 1) := dk_46 (dk_at dksX2_eats_4 18 rfl rfl)
theorem dX2_eats_114 : decode cX2_eats 114 = .ok (.aload_n 0, 1) := dk_42 (dk_at dksX2_eats_4 19 rfl rfl)
theorem dX2_eats_115 : decode cX2_eats 115 = .ok (.iconst 3, 1) := dk_6 (dk_at dksX2_eats_4 20 rfl rfl)
theorem dX2_eats_116 : decode cX2_eats 116 = .ok (.iconst 2, 1) := dk_5 (dk_at dksX2_eats_4 21 rfl rfl)
theorem dX2_eats_117 : decode cX2_eats 117 = .ok (.iload 6, 2) := dk_21 6 (dk_at dksX2_eats_4 22 rfl rfl)
theorem dX2_eats_119 : decode cX2_eats 119 = .ok (.imul, 1) := dk_104 (dk_at dksX2_eats_5 0 rfl rfl)
theorem dX2_eats_120 : decode cX2_eats 120 = .ok (.iadd, 1) := dk_96 (dk_at dksX2_eats_5 1 rfl rfl)
theorem dX2_eats_121 : decode cX2_eats 121 = .ok (.iconst 1, 1) := dk_4 (dk_at dksX2_eats_5 2 rfl rfl)
theorem dX2_eats_122 : decode cX2_eats 122 = .ok (.iadd, 1) := dk_96 (dk_at dksX2_eats_5 3 rfl rfl)
theorem dX2_eats_123 : decode cX2_eats 123 = .ok (.iaload, 1) := dk_46 (dk_at dksX2_eats_5 4 rfl rfl)
theorem dX2_eats_124 : decode cX2_eats 124 = .ok (.ifCond .ne 12, 3) := dk_154 0 12 (dk_at dksX2_eats_5 5 rfl rfl)
theorem dX2_eats_127 : decode cX2_eats 127 = .ok (.iconst 1, 1) := dk_4 (dk_at dksX2_eats_5 8 rfl rfl)
theorem dX2_eats_128 : decode cX2_eats 128 = .ok (.iload 6, 2) := dk_21 6 (dk_at dksX2_eats_5 9 rfl rfl)
theorem dX2_eats_130 : decode cX2_eats 130 = .ok (.ishl, 1) := dk_120 (dk_at dksX2_eats_5 11 rfl rfl)
theorem dX2_eats_131 : decode cX2_eats 131 = .ok (.iconst (-1), 1) := dk_2 (dk_at dksX2_eats_5 12 rfl rfl)
theorem dX2_eats_132 : decode cX2_eats 132 = .ok (.ixor, 1) := dk_130 (dk_at dksX2_eats_5 13 rfl rfl)
theorem dX2_eats_133 : decode cX2_eats 133 = .ok (.goto 4, 3) := dk_167 0 4 (dk_at dksX2_eats_5 14 rfl rfl)
theorem dX2_eats_136 : decode cX2_eats 136 = .ok (.iconst (-1), 1) := dk_2 (dk_at dksX2_eats_5 17 rfl rfl)
theorem dX2_eats_137 : decode cX2_eats 137 = .ok (.iand, 1) := dk_126 (dk_at dksX2_eats_5 18 rfl rfl)
theorem dX2_eats_138 : decode cX2_eats 138 = .ok (.iastore, 1) := dk_79 (dk_at dksX2_eats_5 19 rfl rfl)
theorem dX2_eats_139 : decode cX2_eats 139 = .ok (.aload_n 0, 1) := dk_42 (dk_at dksX2_eats_5 20 rfl rfl)
theorem dX2_eats_140 : decode cX2_eats 140 = .ok (.iload_n 2, 1) := dk_28 (dk_at dksX2_eats_5 21 rfl rfl)
theorem dX2_eats_141 : decode cX2_eats 141 = .ok (.iconst 4, 1) := dk_7 (dk_at dksX2_eats_5 22 rfl rfl)
theorem dX2_eats_142 : decode cX2_eats 142 = .ok (.iadd, 1) := dk_96 (dk_at dksX2_eats_5 23 rfl rfl)
theorem dX2_eats_143 : decode cX2_eats 143 = .ok (.iaload, 1) := dk_46 (dk_at dksX2_eats_6 0 rfl rfl)
theorem dX2_eats_144 : decode cX2_eats 144 = .ok (.aload_n 0, 1) := dk_42 (dk_at dksX2_eats_6 1 rfl rfl)
theorem dX2_eats_145 : decode cX2_eats 145 = .ok (.invokestatic 163, 3) := dk_184 0 163 (dk_at dksX2_eats_6 2 rfl rfl)
theorem dX2_eats_148 : decode cX2_eats 148 = .ok (.iand, 1) := dk_126 (dk_at dksX2_eats_6 5 rfl rfl)
theorem dX2_eats_149 : decode cX2_eats 149 = .ok (.istore 5, 2) := dk_54 5 (dk_at dksX2_eats_6 6 rfl rfl)
theorem dX2_eats_151 : decode cX2_eats 151 = .ok (.goto (-117), 3) := dk_167 255 139 (dk_at dksX2_eats_6 8 rfl rfl)
theorem dX2_eats_154 : decode cX2_eats 154 = .ok (.iload 4, 2) := dk_21 4 (dk_at dksX2_eats_6 11 rfl rfl)
theorem dX2_eats_156 : decode cX2_eats 156 = .ok (.ireturn, 1) := dk_172 (dk_at dksX2_eats_6 13 rfl rfl)
abbrev cX2_picks : ByteArray := prog_14_method_34_code
def yX2_picks : MethodName := ⟨RX2, "picks", "([III)I"⟩
def dkwX2_picks_6 : List UInt8 := [21, 5, 167, 0, 5, 21, 4, 54, 4, 132, 5, 1, 167, 255, 118, 21, 4, 172]
abbrev dktX2_picks_6 : List UInt8 := dkwX2_picks_6 ++ []
def dkwX2_picks_5 : List UInt8 := [154, 0, 19, 29, 5, 162, 0, 14, 42, 27, 21, 5, 21, 4, 184, 0, 156, 54, 6, 21, 6, 153, 0, 8]
abbrev dktX2_picks_5 : List UInt8 := dkwX2_picks_5 ++ dktX2_picks_6
def dkwX2_picks_4 : List UInt8 := [27, 21, 5, 21, 4, 184, 0, 156, 153, 0, 7, 4, 167, 0, 4, 3, 54, 6, 167, 0, 24, 21, 6]
abbrev dktX2_picks_4 : List UInt8 := dkwX2_picks_4 ++ dktX2_picks_5
def dkwX2_picks_3 : List UInt8 := [21, 4, 104, 96, 4, 96, 46, 54, 8, 21, 7, 21, 8, 161, 0, 22, 21, 7, 21, 8, 160, 0, 19, 42]
abbrev dktX2_picks_3 : List UInt8 := dkwX2_picks_3 ++ dktX2_picks_4
def dkwX2_picks_2 : List UInt8 := [154, 0, 68, 29, 5, 160, 0, 63, 42, 6, 5, 21, 5, 104, 96, 4, 96, 46, 54, 7, 42, 6, 5]
abbrev dktX2_picks_2 : List UInt8 := dkwX2_picks_2 ++ dktX2_picks_3
def dkwX2_picks_1 : List UInt8 := [21, 5, 184, 0, 152, 153, 0, 121, 21, 4, 2, 160, 0, 7, 4, 167, 0, 4, 3, 54, 6, 21, 6]
abbrev dktX2_picks_1 : List UInt8 := dkwX2_picks_1 ++ dktX2_picks_2
def dkwX2_picks_0 : List UInt8 := [42, 16, 21, 8, 27, 104, 96, 46, 62, 2, 54, 4, 3, 54, 5, 21, 5, 42, 3, 46, 162, 0, 136, 28]
abbrev dktX2_picks_0 : List UInt8 := dkwX2_picks_0 ++ dktX2_picks_1
theorem dksX2_picks_0 : cX2_picks.data.toList.drop 0 = dktX2_picks_0 := by decide +kernel
theorem dksX2_picks_1 : cX2_picks.data.toList.drop 24 = dktX2_picks_1 := dk_seg dksX2_picks_0 24 rfl rfl
theorem dksX2_picks_2 : cX2_picks.data.toList.drop 47 = dktX2_picks_2 := dk_seg dksX2_picks_1 23 rfl rfl
theorem dksX2_picks_3 : cX2_picks.data.toList.drop 70 = dktX2_picks_3 := dk_seg dksX2_picks_2 23 rfl rfl
theorem dksX2_picks_4 : cX2_picks.data.toList.drop 94 = dktX2_picks_4 := dk_seg dksX2_picks_3 24 rfl rfl
theorem dksX2_picks_5 : cX2_picks.data.toList.drop 117 = dktX2_picks_5 := dk_seg dksX2_picks_4 23 rfl rfl
theorem dksX2_picks_6 : cX2_picks.data.toList.drop 141 = dktX2_picks_6 := dk_seg dksX2_picks_5 24 rfl rfl
theorem dX2_picks_0 : decode cX2_picks 0 = .ok (.aload_n 0, 1) := dk_42 (dk_at dksX2_picks_0 0 rfl rfl)
theorem dX2_picks_1 : decode cX2_picks 1 = .ok (.bipush 21, 2) := dk_16 21 (dk_at dksX2_picks_0 1 rfl rfl)
theorem dX2_picks_3 : decode cX2_picks 3 = .ok (.iconst 5, 1) := dk_8 (dk_at dksX2_picks_0 3 rfl rfl)
theorem dX2_picks_4 : decode cX2_picks 4 = .ok (.iload_n 1, 1) := dk_27 (dk_at dksX2_picks_0 4 rfl rfl)
theorem dX2_picks_5 : decode cX2_picks 5 = .ok (.imul, 1) := dk_104 (dk_at dksX2_picks_0 5 rfl rfl)
theorem dX2_picks_6 : decode cX2_picks 6 = .ok (.iadd, 1) := dk_96 (dk_at dksX2_picks_0 6 rfl rfl)
theorem dX2_picks_7 : decode cX2_picks 7 = .ok (.iaload, 1) := dk_46 (dk_at dksX2_picks_0 7 rfl rfl)
theorem dX2_picks_8 : decode cX2_picks 8 = .ok (.istore_n 3, 1) := dk_62 (dk_at dksX2_picks_0 8 rfl rfl)
theorem dX2_picks_9 : decode cX2_picks 9 = .ok (.iconst (-1), 1) := dk_2 (dk_at dksX2_picks_0 9 rfl rfl)
theorem dX2_picks_10 : decode cX2_picks 10 = .ok (.istore 4, 2) := dk_54 4 (dk_at dksX2_picks_0 10 rfl rfl)
theorem dX2_picks_12 : decode cX2_picks 12 = .ok (.iconst 0, 1) := dk_3 (dk_at dksX2_picks_0 12 rfl rfl)
theorem dX2_picks_13 : decode cX2_picks 13 = .ok (.istore 5, 2) := dk_54 5 (dk_at dksX2_picks_0 13 rfl rfl)
theorem dX2_picks_15 : decode cX2_picks 15 = .ok (.iload 5, 2) := dk_21 5 (dk_at dksX2_picks_0 15 rfl rfl)
theorem dX2_picks_17 : decode cX2_picks 17 = .ok (.aload_n 0, 1) := dk_42 (dk_at dksX2_picks_0 17 rfl rfl)
theorem dX2_picks_18 : decode cX2_picks 18 = .ok (.iconst 0, 1) := dk_3 (dk_at dksX2_picks_0 18 rfl rfl)
theorem dX2_picks_19 : decode cX2_picks 19 = .ok (.iaload, 1) := dk_46 (dk_at dksX2_picks_0 19 rfl rfl)
theorem dX2_picks_20 : decode cX2_picks 20 = .ok (.if_icmp .ge 136, 3) := dk_162 0 136 (dk_at dksX2_picks_0 20 rfl rfl)
theorem dX2_picks_23 : decode cX2_picks 23 = .ok (.iload_n 2, 1) := dk_28 (dk_at dksX2_picks_0 23 rfl rfl)
theorem dX2_picks_24 : decode cX2_picks 24 = .ok (.iload 5, 2) := dk_21 5 (dk_at dksX2_picks_1 0 rfl rfl)
theorem dX2_picks_26 : decode cX2_picks 26 = .ok (.invokestatic 152, 3) := dk_184 0 152 (dk_at dksX2_picks_1 2 rfl rfl)
theorem dX2_picks_29 : decode cX2_picks 29 = .ok (.ifCond .eq 121, 3) := dk_153 0 121 (dk_at dksX2_picks_1 5 rfl rfl)
theorem dX2_picks_32 : decode cX2_picks 32 = .ok (.iload 4, 2) := dk_21 4 (dk_at dksX2_picks_1 8 rfl rfl)
theorem dX2_picks_34 : decode cX2_picks 34 = .ok (.iconst (-1), 1) := dk_2 (dk_at dksX2_picks_1 10 rfl rfl)
theorem dX2_picks_35 : decode cX2_picks 35 = .ok (.if_icmp .ne 7, 3) := dk_160 0 7 (dk_at dksX2_picks_1 11 rfl rfl)
theorem dX2_picks_38 : decode cX2_picks 38 = .ok (.iconst 1, 1) := dk_4 (dk_at dksX2_picks_1 14 rfl rfl)
theorem dX2_picks_39 : decode cX2_picks 39 = .ok (.goto 4, 3) := dk_167 0 4 (dk_at dksX2_picks_1 15 rfl rfl)
theorem dX2_picks_42 : decode cX2_picks 42 = .ok (.iconst 0, 1) := dk_3 (dk_at dksX2_picks_1 18 rfl rfl)
theorem dX2_picks_43 : decode cX2_picks 43 = .ok (.istore 6, 2) := dk_54 6 (dk_at dksX2_picks_1 19 rfl rfl)
theorem dX2_picks_45 : decode cX2_picks 45 = .ok (.iload 6, 2) := dk_21 6 (dk_at dksX2_picks_1 21 rfl rfl)
theorem dX2_picks_47 : decode cX2_picks 47 = .ok (.ifCond .ne 68, 3) := dk_154 0 68 (dk_at dksX2_picks_2 0 rfl rfl)
theorem dX2_picks_50 : decode cX2_picks 50 = .ok (.iload_n 3, 1) := dk_29 (dk_at dksX2_picks_2 3 rfl rfl)
theorem dX2_picks_51 : decode cX2_picks 51 = .ok (.iconst 2, 1) := dk_5 (dk_at dksX2_picks_2 4 rfl rfl)
theorem dX2_picks_52 : decode cX2_picks 52 = .ok (.if_icmp .ne 63, 3) := dk_160 0 63 (dk_at dksX2_picks_2 5 rfl rfl)
theorem dX2_picks_55 : decode cX2_picks 55 = .ok (.aload_n 0, 1) := dk_42 (dk_at dksX2_picks_2 8 rfl rfl)
theorem dX2_picks_56 : decode cX2_picks 56 = .ok (.iconst 3, 1) := dk_6 (dk_at dksX2_picks_2 9 rfl rfl)
theorem dX2_picks_57 : decode cX2_picks 57 = .ok (.iconst 2, 1) := dk_5 (dk_at dksX2_picks_2 10 rfl rfl)
theorem dX2_picks_58 : decode cX2_picks 58 = .ok (.iload 5, 2) := dk_21 5 (dk_at dksX2_picks_2 11 rfl rfl)
theorem dX2_picks_60 : decode cX2_picks 60 = .ok (.imul, 1) := dk_104 (dk_at dksX2_picks_2 13 rfl rfl)
theorem dX2_picks_61 : decode cX2_picks 61 = .ok (.iadd, 1) := dk_96 (dk_at dksX2_picks_2 14 rfl rfl)
theorem dX2_picks_62 : decode cX2_picks 62 = .ok (.iconst 1, 1) := dk_4 (dk_at dksX2_picks_2 15 rfl rfl)
theorem dX2_picks_63 : decode cX2_picks 63 = .ok (.iadd, 1) := dk_96 (dk_at dksX2_picks_2 16 rfl rfl)
theorem dX2_picks_64 : decode cX2_picks 64 = .ok (.iaload, 1) := dk_46 (dk_at dksX2_picks_2 17 rfl rfl)
theorem dX2_picks_65 : decode cX2_picks 65 = .ok (.istore 7, 2) := dk_54 7 (dk_at dksX2_picks_2 18 rfl rfl)
theorem dX2_picks_67 : decode cX2_picks 67 = .ok (.aload_n 0, 1) := dk_42 (dk_at dksX2_picks_2 20 rfl rfl)
theorem dX2_picks_68 : decode cX2_picks 68 = .ok (.iconst 3, 1) := dk_6 (dk_at dksX2_picks_2 21 rfl rfl)
theorem dX2_picks_69 : decode cX2_picks 69 = .ok (.iconst 2, 1) := dk_5 (dk_at dksX2_picks_2 22 rfl rfl)
theorem dX2_picks_70 : decode cX2_picks 70 = .ok (.iload 4, 2) := dk_21 4 (dk_at dksX2_picks_3 0 rfl rfl)
theorem dX2_picks_72 : decode cX2_picks 72 = .ok (.imul, 1) := dk_104 (dk_at dksX2_picks_3 2 rfl rfl)
theorem dX2_picks_73 : decode cX2_picks 73 = .ok (.iadd, 1) := dk_96 (dk_at dksX2_picks_3 3 rfl rfl)
theorem dX2_picks_74 : decode cX2_picks 74 = .ok (.iconst 1, 1) := dk_4 (dk_at dksX2_picks_3 4 rfl rfl)
theorem dX2_picks_75 : decode cX2_picks 75 = .ok (.iadd, 1) := dk_96 (dk_at dksX2_picks_3 5 rfl rfl)
theorem dX2_picks_76 : decode cX2_picks 76 = .ok (.iaload, 1) := dk_46 (dk_at dksX2_picks_3 6 rfl rfl)
theorem dX2_picks_77 : decode cX2_picks 77 = .ok (.istore 8, 2) := dk_54 8 (dk_at dksX2_picks_3 7 rfl rfl)
theorem dX2_picks_79 : decode cX2_picks 79 = .ok (.iload 7, 2) := dk_21 7 (dk_at dksX2_picks_3 9 rfl rfl)
theorem dX2_picks_81 : decode cX2_picks 81 = .ok (.iload 8, 2) := dk_21 8 (dk_at dksX2_picks_3 11 rfl rfl)
theorem dX2_picks_83 : decode cX2_picks 83 = .ok (.if_icmp .lt 22, 3) := dk_161 0 22 (dk_at dksX2_picks_3 13 rfl rfl)
theorem dX2_picks_86 : decode cX2_picks 86 = .ok (.iload 7, 2) := dk_21 7 (dk_at dksX2_picks_3 16 rfl rfl)
theorem dX2_picks_88 : decode cX2_picks 88 = .ok (.iload 8, 2) := dk_21 8 (dk_at dksX2_picks_3 18 rfl rfl)
theorem dX2_picks_90 : decode cX2_picks 90 = .ok (.if_icmp .ne 19, 3) := dk_160 0 19 (dk_at dksX2_picks_3 20 rfl rfl)
theorem dX2_picks_93 : decode cX2_picks 93 = .ok (.aload_n 0, 1) := dk_42 (dk_at dksX2_picks_3 23 rfl rfl)
theorem dX2_picks_94 : decode cX2_picks 94 = .ok (.iload_n 1, 1) := dk_27 (dk_at dksX2_picks_4 0 rfl rfl)
theorem dX2_picks_95 : decode cX2_picks 95 = .ok (.iload 5, 2) := dk_21 5 (dk_at dksX2_picks_4 1 rfl rfl)
theorem dX2_picks_97 : decode cX2_picks 97 = .ok (.iload 4, 2) := dk_21 4 (dk_at dksX2_picks_4 3 rfl rfl)
theorem dX2_picks_99 : decode cX2_picks 99 = .ok (.invokestatic 156, 3) := dk_184 0 156 (dk_at dksX2_picks_4 5 rfl rfl)
theorem dX2_picks_102 : decode cX2_picks 102 = .ok (.ifCond .eq 7, 3) := dk_153 0 7 (dk_at dksX2_picks_4 8 rfl rfl)
theorem dX2_picks_105 : decode cX2_picks 105 = .ok (.iconst 1, 1) := dk_4 (dk_at dksX2_picks_4 11 rfl rfl)
theorem dX2_picks_106 : decode cX2_picks 106 = .ok (.goto 4, 3) := dk_167 0 4 (dk_at dksX2_picks_4 12 rfl rfl)
theorem dX2_picks_109 : decode cX2_picks 109 = .ok (.iconst 0, 1) := dk_3 (dk_at dksX2_picks_4 15 rfl rfl)
theorem dX2_picks_110 : decode cX2_picks 110 = .ok (.istore 6, 2) := dk_54 6 (dk_at dksX2_picks_4 16 rfl rfl)
theorem dX2_picks_112 : decode cX2_picks 112 = .ok (.goto 24, 3) := dk_167 0 24 (dk_at dksX2_picks_4 18 rfl rfl)
theorem dX2_picks_115 : decode cX2_picks 115 = .ok (.iload 6, 2) := dk_21 6 (dk_at dksX2_picks_4 21 rfl rfl)
theorem dX2_picks_117 : decode cX2_picks 117 = .ok (.ifCond .ne 19, 3) := dk_154 0 19 (dk_at dksX2_picks_5 0 rfl rfl)
theorem dX2_picks_120 : decode cX2_picks 120 = .ok (.iload_n 3, 1) := dk_29 (dk_at dksX2_picks_5 3 rfl rfl)
theorem dX2_picks_121 : decode cX2_picks 121 = .ok (.iconst 2, 1) := dk_5 (dk_at dksX2_picks_5 4 rfl rfl)
theorem dX2_picks_122 : decode cX2_picks 122 = .ok (.if_icmp .ge 14, 3) := dk_162 0 14 (dk_at dksX2_picks_5 5 rfl rfl)
theorem dX2_picks_125 : decode cX2_picks 125 = .ok (.aload_n 0, 1) := dk_42 (dk_at dksX2_picks_5 8 rfl rfl)
theorem dX2_picks_126 : decode cX2_picks 126 = .ok (.iload_n 1, 1) := dk_27 (dk_at dksX2_picks_5 9 rfl rfl)
theorem dX2_picks_127 : decode cX2_picks 127 = .ok (.iload 5, 2) := dk_21 5 (dk_at dksX2_picks_5 10 rfl rfl)
theorem dX2_picks_129 : decode cX2_picks 129 = .ok (.iload 4, 2) := dk_21 4 (dk_at dksX2_picks_5 12 rfl rfl)
theorem dX2_picks_131 : decode cX2_picks 131 = .ok (.invokestatic 156, 3) := dk_184 0 156 (dk_at dksX2_picks_5 14 rfl rfl)
theorem dX2_picks_134 : decode cX2_picks 134 = .ok (.istore 6, 2) := dk_54 6 (dk_at dksX2_picks_5 17 rfl rfl)
theorem dX2_picks_136 : decode cX2_picks 136 = .ok (.iload 6, 2) := dk_21 6 (dk_at dksX2_picks_5 19 rfl rfl)
theorem dX2_picks_138 : decode cX2_picks 138 = .ok (.ifCond .eq 8, 3) := dk_153 0 8 (dk_at dksX2_picks_5 21 rfl rfl)
theorem dX2_picks_141 : decode cX2_picks 141 = .ok (.iload 5, 2) := dk_21 5 (dk_at dksX2_picks_6 0 rfl rfl)
theorem dX2_picks_143 : decode cX2_picks 143 = .ok (.goto 5, 3) := dk_167 0 5 (dk_at dksX2_picks_6 2 rfl rfl)
theorem dX2_picks_146 : decode cX2_picks 146 = .ok (.iload 4, 2) := dk_21 4 (dk_at dksX2_picks_6 5 rfl rfl)
theorem dX2_picks_148 : decode cX2_picks 148 = .ok (.istore 4, 2) := dk_54 4 (dk_at dksX2_picks_6 7 rfl rfl)
theorem dX2_picks_150 : decode cX2_picks 150 = .ok (.iinc 5 1, 3) := dk_132 5 1 (dk_at dksX2_picks_6 9 rfl rfl)
theorem dX2_picks_153 : decode cX2_picks 153 = .ok (.goto (-138), 3) := dk_167 255 118 (dk_at dksX2_picks_6 12 rfl rfl)
theorem dX2_picks_156 : decode cX2_picks 156 = .ok (.iload 4, 2) := dk_21 4 (dk_at dksX2_picks_6 15 rfl rfl)
theorem dX2_picks_158 : decode cX2_picks 158 = .ok (.ireturn, 1) := dk_172 (dk_at dksX2_picks_6 17 rfl rfl)
abbrev cX2_isNearer : ByteArray := prog_14_method_33_code
def yX2_isNearer : MethodName := ⟨RX2, "isNearer", "([IIII)Z"⟩
def dkwX2_isNearer_3 : List UInt8 := [4, 167, 0, 4, 3, 172]
abbrev dktX2_isNearer_3 : List UInt8 := dkwX2_isNearer_3 ++ []
def dkwX2_isNearer_2 : List UInt8 := [21, 5, 21, 6, 160, 0, 24, 42, 6, 5, 28, 104, 96, 46, 42, 6, 5, 29, 104, 96, 46, 162, 0, 7]
abbrev dktX2_isNearer_2 : List UInt8 := dkwX2_isNearer_2 ++ dktX2_isNearer_3
def dkwX2_isNearer_1 : List UInt8 := [54, 5, 21, 4, 42, 6, 5, 29, 104, 96, 46, 184, 0, 149, 54, 6, 21, 5, 21, 6, 161, 0, 27]
abbrev dktX2_isNearer_1 : List UInt8 := dkwX2_isNearer_1 ++ dktX2_isNearer_2
def dkwX2_isNearer_0 : List UInt8 := [42, 16, 21, 8, 27, 104, 96, 4, 96, 46, 54, 4, 21, 4, 42, 6, 5, 28, 104, 96, 46, 184, 0, 149]
abbrev dktX2_isNearer_0 : List UInt8 := dkwX2_isNearer_0 ++ dktX2_isNearer_1
theorem dksX2_isNearer_0 : cX2_isNearer.data.toList.drop 0 = dktX2_isNearer_0 := by decide +kernel
theorem dksX2_isNearer_1 : cX2_isNearer.data.toList.drop 24 = dktX2_isNearer_1 := dk_seg dksX2_isNearer_0 24 rfl rfl
theorem dksX2_isNearer_2 : cX2_isNearer.data.toList.drop 47 = dktX2_isNearer_2 := dk_seg dksX2_isNearer_1 23 rfl rfl
theorem dksX2_isNearer_3 : cX2_isNearer.data.toList.drop 71 = dktX2_isNearer_3 := dk_seg dksX2_isNearer_2 24 rfl rfl
theorem dX2_isNearer_0 : decode cX2_isNearer 0 = .ok (.aload_n 0, 1) := dk_42 (dk_at dksX2_isNearer_0 0 rfl rfl)
theorem dX2_isNearer_1 : decode cX2_isNearer 1 = .ok (.bipush 21, 2) := dk_16 21 (dk_at dksX2_isNearer_0 1 rfl rfl)
theorem dX2_isNearer_3 : decode cX2_isNearer 3 = .ok (.iconst 5, 1) := dk_8 (dk_at dksX2_isNearer_0 3 rfl rfl)
theorem dX2_isNearer_4 : decode cX2_isNearer 4 = .ok (.iload_n 1, 1) := dk_27 (dk_at dksX2_isNearer_0 4 rfl rfl)
theorem dX2_isNearer_5 : decode cX2_isNearer 5 = .ok (.imul, 1) := dk_104 (dk_at dksX2_isNearer_0 5 rfl rfl)
theorem dX2_isNearer_6 : decode cX2_isNearer 6 = .ok (.iadd, 1) := dk_96 (dk_at dksX2_isNearer_0 6 rfl rfl)
theorem dX2_isNearer_7 : decode cX2_isNearer 7 = .ok (.iconst 1, 1) := dk_4 (dk_at dksX2_isNearer_0 7 rfl rfl)
theorem dX2_isNearer_8 : decode cX2_isNearer 8 = .ok (.iadd, 1) := dk_96 (dk_at dksX2_isNearer_0 8 rfl rfl)
theorem dX2_isNearer_9 : decode cX2_isNearer 9 = .ok (.iaload, 1) := dk_46 (dk_at dksX2_isNearer_0 9 rfl rfl)
theorem dX2_isNearer_10 : decode cX2_isNearer 10 = .ok (.istore 4, 2) := dk_54 4 (dk_at dksX2_isNearer_0 10 rfl rfl)
theorem dX2_isNearer_12 : decode cX2_isNearer 12 = .ok (.iload 4, 2) := dk_21 4 (dk_at dksX2_isNearer_0 12 rfl rfl)
theorem dX2_isNearer_14 : decode cX2_isNearer 14 = .ok (.aload_n 0, 1) := dk_42 (dk_at dksX2_isNearer_0 14 rfl rfl)
theorem dX2_isNearer_15 : decode cX2_isNearer 15 = .ok (.iconst 3, 1) := dk_6 (dk_at dksX2_isNearer_0 15 rfl rfl)
theorem dX2_isNearer_16 : decode cX2_isNearer 16 = .ok (.iconst 2, 1) := dk_5 (dk_at dksX2_isNearer_0 16 rfl rfl)
theorem dX2_isNearer_17 : decode cX2_isNearer 17 = .ok (.iload_n 2, 1) := dk_28 (dk_at dksX2_isNearer_0 17 rfl rfl)
theorem dX2_isNearer_18 : decode cX2_isNearer 18 = .ok (.imul, 1) := dk_104 (dk_at dksX2_isNearer_0 18 rfl rfl)
theorem dX2_isNearer_19 : decode cX2_isNearer 19 = .ok (.iadd, 1) := dk_96 (dk_at dksX2_isNearer_0 19 rfl rfl)
theorem dX2_isNearer_20 : decode cX2_isNearer 20 = .ok (.iaload, 1) := dk_46 (dk_at dksX2_isNearer_0 20 rfl rfl)
theorem dX2_isNearer_21 : decode cX2_isNearer 21 = .ok (.invokestatic 149, 3) := dk_184 0 149 (dk_at dksX2_isNearer_0 21 rfl rfl)
theorem dX2_isNearer_24 : decode cX2_isNearer 24 = .ok (.istore 5, 2) := dk_54 5 (dk_at dksX2_isNearer_1 0 rfl rfl)
theorem dX2_isNearer_26 : decode cX2_isNearer 26 = .ok (.iload 4, 2) := dk_21 4 (dk_at dksX2_isNearer_1 2 rfl rfl)
theorem dX2_isNearer_28 : decode cX2_isNearer 28 = .ok (.aload_n 0, 1) := dk_42 (dk_at dksX2_isNearer_1 4 rfl rfl)
theorem dX2_isNearer_29 : decode cX2_isNearer 29 = .ok (.iconst 3, 1) := dk_6 (dk_at dksX2_isNearer_1 5 rfl rfl)
theorem dX2_isNearer_30 : decode cX2_isNearer 30 = .ok (.iconst 2, 1) := dk_5 (dk_at dksX2_isNearer_1 6 rfl rfl)
theorem dX2_isNearer_31 : decode cX2_isNearer 31 = .ok (.iload_n 3, 1) := dk_29 (dk_at dksX2_isNearer_1 7 rfl rfl)
theorem dX2_isNearer_32 : decode cX2_isNearer 32 = .ok (.imul, 1) := dk_104 (dk_at dksX2_isNearer_1 8 rfl rfl)
theorem dX2_isNearer_33 : decode cX2_isNearer 33 = .ok (.iadd, 1) := dk_96 (dk_at dksX2_isNearer_1 9 rfl rfl)
theorem dX2_isNearer_34 : decode cX2_isNearer 34 = .ok (.iaload, 1) := dk_46 (dk_at dksX2_isNearer_1 10 rfl rfl)
theorem dX2_isNearer_35 : decode cX2_isNearer 35 = .ok (.invokestatic 149, 3) := dk_184 0 149 (dk_at dksX2_isNearer_1 11 rfl rfl)
theorem dX2_isNearer_38 : decode cX2_isNearer 38 = .ok (.istore 6, 2) := dk_54 6 (dk_at dksX2_isNearer_1 14 rfl rfl)
theorem dX2_isNearer_40 : decode cX2_isNearer 40 = .ok (.iload 5, 2) := dk_21 5 (dk_at dksX2_isNearer_1 16 rfl rfl)
theorem dX2_isNearer_42 : decode cX2_isNearer 42 = .ok (.iload 6, 2) := dk_21 6 (dk_at dksX2_isNearer_1 18 rfl rfl)
theorem dX2_isNearer_44 : decode cX2_isNearer 44 = .ok (.if_icmp .lt 27, 3) := dk_161 0 27 (dk_at dksX2_isNearer_1 20 rfl rfl)
theorem dX2_isNearer_47 : decode cX2_isNearer 47 = .ok (.iload 5, 2) := dk_21 5 (dk_at dksX2_isNearer_2 0 rfl rfl)
theorem dX2_isNearer_49 : decode cX2_isNearer 49 = .ok (.iload 6, 2) := dk_21 6 (dk_at dksX2_isNearer_2 2 rfl rfl)
theorem dX2_isNearer_51 : decode cX2_isNearer 51 = .ok (.if_icmp .ne 24, 3) := dk_160 0 24 (dk_at dksX2_isNearer_2 4 rfl rfl)
theorem dX2_isNearer_54 : decode cX2_isNearer 54 = .ok (.aload_n 0, 1) := dk_42 (dk_at dksX2_isNearer_2 7 rfl rfl)
theorem dX2_isNearer_55 : decode cX2_isNearer 55 = .ok (.iconst 3, 1) := dk_6 (dk_at dksX2_isNearer_2 8 rfl rfl)
theorem dX2_isNearer_56 : decode cX2_isNearer 56 = .ok (.iconst 2, 1) := dk_5 (dk_at dksX2_isNearer_2 9 rfl rfl)
theorem dX2_isNearer_57 : decode cX2_isNearer 57 = .ok (.iload_n 2, 1) := dk_28 (dk_at dksX2_isNearer_2 10 rfl rfl)
theorem dX2_isNearer_58 : decode cX2_isNearer 58 = .ok (.imul, 1) := dk_104 (dk_at dksX2_isNearer_2 11 rfl rfl)
theorem dX2_isNearer_59 : decode cX2_isNearer 59 = .ok (.iadd, 1) := dk_96 (dk_at dksX2_isNearer_2 12 rfl rfl)
theorem dX2_isNearer_60 : decode cX2_isNearer 60 = .ok (.iaload, 1) := dk_46 (dk_at dksX2_isNearer_2 13 rfl rfl)
theorem dX2_isNearer_61 : decode cX2_isNearer 61 = .ok (.aload_n 0, 1) := dk_42 (dk_at dksX2_isNearer_2 14 rfl rfl)
theorem dX2_isNearer_62 : decode cX2_isNearer 62 = .ok (.iconst 3, 1) := dk_6 (dk_at dksX2_isNearer_2 15 rfl rfl)
theorem dX2_isNearer_63 : decode cX2_isNearer 63 = .ok (.iconst 2, 1) := dk_5 (dk_at dksX2_isNearer_2 16 rfl rfl)
theorem dX2_isNearer_64 : decode cX2_isNearer 64 = .ok (.iload_n 3, 1) := dk_29 (dk_at dksX2_isNearer_2 17 rfl rfl)
theorem dX2_isNearer_65 : decode cX2_isNearer 65 = .ok (.imul, 1) := dk_104 (dk_at dksX2_isNearer_2 18 rfl rfl)
theorem dX2_isNearer_66 : decode cX2_isNearer 66 = .ok (.iadd, 1) := dk_96 (dk_at dksX2_isNearer_2 19 rfl rfl)
theorem dX2_isNearer_67 : decode cX2_isNearer 67 = .ok (.iaload, 1) := dk_46 (dk_at dksX2_isNearer_2 20 rfl rfl)
theorem dX2_isNearer_68 : decode cX2_isNearer 68 = .ok (.if_icmp .ge 7, 3) := dk_162 0 7 (dk_at dksX2_isNearer_2 21 rfl rfl)
theorem dX2_isNearer_71 : decode cX2_isNearer 71 = .ok (.iconst 1, 1) := dk_4 (dk_at dksX2_isNearer_3 0 rfl rfl)
theorem dX2_isNearer_72 : decode cX2_isNearer 72 = .ok (.goto 4, 3) := dk_167 0 4 (dk_at dksX2_isNearer_3 1 rfl rfl)
theorem dX2_isNearer_75 : decode cX2_isNearer 75 = .ok (.iconst 0, 1) := dk_3 (dk_at dksX2_isNearer_3 4 rfl rfl)
theorem dX2_isNearer_76 : decode cX2_isNearer 76 = .ok (.ireturn, 1) := dk_172 (dk_at dksX2_isNearer_3 5 rfl rfl)
abbrev cX2_lesser : ByteArray := prog_14_method_7_code
def yX2_lesser : MethodName := ⟨RX2, "lesser", "(II)I"⟩
def dkwX2_lesser_0 : List UInt8 := [26, 27, 162, 0, 7, 26, 167, 0, 4, 27, 172]
abbrev dktX2_lesser_0 : List UInt8 := dkwX2_lesser_0 ++ []
theorem dksX2_lesser_0 : cX2_lesser.data.toList.drop 0 = dktX2_lesser_0 := by decide +kernel
theorem dX2_lesser_0 : decode cX2_lesser 0 = .ok (.iload_n 0, 1) := dk_26 (dk_at dksX2_lesser_0 0 rfl rfl)
theorem dX2_lesser_1 : decode cX2_lesser 1 = .ok (.iload_n 1, 1) := dk_27 (dk_at dksX2_lesser_0 1 rfl rfl)
theorem dX2_lesser_2 : decode cX2_lesser 2 = .ok (.if_icmp .ge 7, 3) := dk_162 0 7 (dk_at dksX2_lesser_0 2 rfl rfl)
theorem dX2_lesser_5 : decode cX2_lesser 5 = .ok (.iload_n 0, 1) := dk_26 (dk_at dksX2_lesser_0 5 rfl rfl)
theorem dX2_lesser_6 : decode cX2_lesser 6 = .ok (.goto 4, 3) := dk_167 0 4 (dk_at dksX2_lesser_0 6 rfl rfl)
theorem dX2_lesser_9 : decode cX2_lesser 9 = .ok (.iload_n 1, 1) := dk_27 (dk_at dksX2_lesser_0 9 rfl rfl)
theorem dX2_lesser_10 : decode cX2_lesser 10 = .ok (.ireturn, 1) := dk_172 (dk_at dksX2_lesser_0 10 rfl rfl)
abbrev cX2_bury : ByteArray := prog_14_method_48_code
def yX2_bury : MethodName := ⟨RX2, "bury", "(II)I"⟩
def dkwX2_bury_5 : List UInt8 := [42, 180, 0, 19, 3, 92, 46, 4, 96, 79, 29, 172]
abbrev dktX2_bury_5 : List UInt8 := dkwX2_bury_5 ++ []
def dkwX2_bury_4 : List UInt8 := [96, 4, 96, 28, 79, 42, 180, 0, 19, 16, 21, 8, 27, 104, 96, 7, 96, 92, 46, 4, 29, 120, 128, 79]
abbrev dktX2_bury_4 : List UInt8 := dkwX2_bury_4 ++ dktX2_bury_5
def dkwX2_bury_3 : List UInt8 := [104, 96, 42, 180, 0, 19, 16, 21, 8, 27, 104, 96, 4, 96, 46, 79, 42, 180, 0, 19, 6, 5, 29, 104]
abbrev dktX2_bury_3 : List UInt8 := dkwX2_bury_3 ++ dktX2_bury_4
def dkwX2_bury_2 : List UInt8 := [160, 0, 6, 16, 251, 172, 42, 182, 0, 200, 42, 180, 0, 19, 3, 46, 62, 42, 180, 0, 19, 6, 5, 29]
abbrev dktX2_bury_2 : List UInt8 := dkwX2_bury_2 ++ dktX2_bury_3
def dkwX2_bury_1 : List UInt8 := [42, 180, 0, 19, 27, 184, 0, 174, 153, 0, 6, 16, 252, 172, 42, 180, 0, 19, 3, 46, 16, 9]
abbrev dktX2_bury_1 : List UInt8 := dkwX2_bury_1 ++ dktX2_bury_2
def dkwX2_bury_0 : List UInt8 := [42, 27, 182, 0, 194, 154, 0, 6, 16, 254, 172, 28, 4, 16, 99, 184, 0, 59, 154, 0, 6, 16, 253, 172]
abbrev dktX2_bury_0 : List UInt8 := dkwX2_bury_0 ++ dktX2_bury_1
theorem dksX2_bury_0 : cX2_bury.data.toList.drop 0 = dktX2_bury_0 := by decide +kernel
theorem dksX2_bury_1 : cX2_bury.data.toList.drop 24 = dktX2_bury_1 := dk_seg dksX2_bury_0 24 rfl rfl
theorem dksX2_bury_2 : cX2_bury.data.toList.drop 46 = dktX2_bury_2 := dk_seg dksX2_bury_1 22 rfl rfl
theorem dksX2_bury_3 : cX2_bury.data.toList.drop 70 = dktX2_bury_3 := dk_seg dksX2_bury_2 24 rfl rfl
theorem dksX2_bury_4 : cX2_bury.data.toList.drop 94 = dktX2_bury_4 := dk_seg dksX2_bury_3 24 rfl rfl
theorem dksX2_bury_5 : cX2_bury.data.toList.drop 118 = dktX2_bury_5 := dk_seg dksX2_bury_4 24 rfl rfl
theorem dX2_bury_0 : decode cX2_bury 0 = .ok (.aload_n 0, 1) := dk_42 (dk_at dksX2_bury_0 0 rfl rfl)
theorem dX2_bury_1 : decode cX2_bury 1 = .ok (.iload_n 1, 1) := dk_27 (dk_at dksX2_bury_0 1 rfl rfl)
theorem dX2_bury_2 : decode cX2_bury 2 = .ok (.invokevirtual 194, 3) := dk_182 0 194 (dk_at dksX2_bury_0 2 rfl rfl)
theorem dX2_bury_5 : decode cX2_bury 5 = .ok (.ifCond .ne 6, 3) := dk_154 0 6 (dk_at dksX2_bury_0 5 rfl rfl)
theorem dX2_bury_8 : decode cX2_bury 8 = .ok (.bipush (-2), 2) := dk_16 254 (dk_at dksX2_bury_0 8 rfl rfl)
theorem dX2_bury_10 : decode cX2_bury 10 = .ok (.ireturn, 1) := dk_172 (dk_at dksX2_bury_0 10 rfl rfl)
theorem dX2_bury_11 : decode cX2_bury 11 = .ok (.iload_n 2, 1) := dk_28 (dk_at dksX2_bury_0 11 rfl rfl)
theorem dX2_bury_12 : decode cX2_bury 12 = .ok (.iconst 1, 1) := dk_4 (dk_at dksX2_bury_0 12 rfl rfl)
theorem dX2_bury_13 : decode cX2_bury 13 = .ok (.bipush 99, 2) := dk_16 99 (dk_at dksX2_bury_0 13 rfl rfl)
theorem dX2_bury_15 : decode cX2_bury 15 = .ok (.invokestatic 59, 3) := dk_184 0 59 (dk_at dksX2_bury_0 15 rfl rfl)
theorem dX2_bury_18 : decode cX2_bury 18 = .ok (.ifCond .ne 6, 3) := dk_154 0 6 (dk_at dksX2_bury_0 18 rfl rfl)
theorem dX2_bury_21 : decode cX2_bury 21 = .ok (.bipush (-3), 2) := dk_16 253 (dk_at dksX2_bury_0 21 rfl rfl)
theorem dX2_bury_23 : decode cX2_bury 23 = .ok (.ireturn, 1) := dk_172 (dk_at dksX2_bury_0 23 rfl rfl)
theorem dX2_bury_24 : decode cX2_bury 24 = .ok (.aload_n 0, 1) := dk_42 (dk_at dksX2_bury_1 0 rfl rfl)
theorem dX2_bury_25 : decode cX2_bury 25 = .ok (.getfield 19, 3) := dk_180 0 19 (dk_at dksX2_bury_1 1 rfl rfl)
theorem dX2_bury_28 : decode cX2_bury 28 = .ok (.iload_n 1, 1) := dk_27 (dk_at dksX2_bury_1 4 rfl rfl)
theorem dX2_bury_29 : decode cX2_bury 29 = .ok (.invokestatic 174, 3) := dk_184 0 174 (dk_at dksX2_bury_1 5 rfl rfl)
theorem dX2_bury_32 : decode cX2_bury 32 = .ok (.ifCond .eq 6, 3) := dk_153 0 6 (dk_at dksX2_bury_1 8 rfl rfl)
theorem dX2_bury_35 : decode cX2_bury 35 = .ok (.bipush (-4), 2) := dk_16 252 (dk_at dksX2_bury_1 11 rfl rfl)
theorem dX2_bury_37 : decode cX2_bury 37 = .ok (.ireturn, 1) := dk_172 (dk_at dksX2_bury_1 13 rfl rfl)
theorem dX2_bury_38 : decode cX2_bury 38 = .ok (.aload_n 0, 1) := dk_42 (dk_at dksX2_bury_1 14 rfl rfl)
theorem dX2_bury_39 : decode cX2_bury 39 = .ok (.getfield 19, 3) := dk_180 0 19 (dk_at dksX2_bury_1 15 rfl rfl)
theorem dX2_bury_42 : decode cX2_bury 42 = .ok (.iconst 0, 1) := dk_3 (dk_at dksX2_bury_1 18 rfl rfl)
theorem dX2_bury_43 : decode cX2_bury 43 = .ok (.iaload, 1) := dk_46 (dk_at dksX2_bury_1 19 rfl rfl)
theorem dX2_bury_44 : decode cX2_bury 44 = .ok (.bipush 9, 2) := dk_16 9 (dk_at dksX2_bury_1 20 rfl rfl)
theorem dX2_bury_46 : decode cX2_bury 46 = .ok (.if_icmp .ne 6, 3) := dk_160 0 6 (dk_at dksX2_bury_2 0 rfl rfl)
theorem dX2_bury_49 : decode cX2_bury 49 = .ok (.bipush (-5), 2) := dk_16 251 (dk_at dksX2_bury_2 3 rfl rfl)
theorem dX2_bury_51 : decode cX2_bury 51 = .ok (.ireturn, 1) := dk_172 (dk_at dksX2_bury_2 5 rfl rfl)
theorem dX2_bury_52 : decode cX2_bury 52 = .ok (.aload_n 0, 1) := dk_42 (dk_at dksX2_bury_2 6 rfl rfl)
theorem dX2_bury_53 : decode cX2_bury 53 = .ok (.invokevirtual 200, 3) := dk_182 0 200 (dk_at dksX2_bury_2 7 rfl rfl)
theorem dX2_bury_56 : decode cX2_bury 56 = .ok (.aload_n 0, 1) := dk_42 (dk_at dksX2_bury_2 10 rfl rfl)
theorem dX2_bury_57 : decode cX2_bury 57 = .ok (.getfield 19, 3) := dk_180 0 19 (dk_at dksX2_bury_2 11 rfl rfl)
theorem dX2_bury_60 : decode cX2_bury 60 = .ok (.iconst 0, 1) := dk_3 (dk_at dksX2_bury_2 14 rfl rfl)
theorem dX2_bury_61 : decode cX2_bury 61 = .ok (.iaload, 1) := dk_46 (dk_at dksX2_bury_2 15 rfl rfl)
theorem dX2_bury_62 : decode cX2_bury 62 = .ok (.istore_n 3, 1) := dk_62 (dk_at dksX2_bury_2 16 rfl rfl)
theorem dX2_bury_63 : decode cX2_bury 63 = .ok (.aload_n 0, 1) := dk_42 (dk_at dksX2_bury_2 17 rfl rfl)
theorem dX2_bury_64 : decode cX2_bury 64 = .ok (.getfield 19, 3) := dk_180 0 19 (dk_at dksX2_bury_2 18 rfl rfl)
theorem dX2_bury_67 : decode cX2_bury 67 = .ok (.iconst 3, 1) := dk_6 (dk_at dksX2_bury_2 21 rfl rfl)
theorem dX2_bury_68 : decode cX2_bury 68 = .ok (.iconst 2, 1) := dk_5 (dk_at dksX2_bury_2 22 rfl rfl)
theorem dX2_bury_69 : decode cX2_bury 69 = .ok (.iload_n 3, 1) := dk_29 (dk_at dksX2_bury_2 23 rfl rfl)
theorem dX2_bury_70 : decode cX2_bury 70 = .ok (.imul, 1) := dk_104 (dk_at dksX2_bury_3 0 rfl rfl)
theorem dX2_bury_71 : decode cX2_bury 71 = .ok (.iadd, 1) := dk_96 (dk_at dksX2_bury_3 1 rfl rfl)
theorem dX2_bury_72 : decode cX2_bury 72 = .ok (.aload_n 0, 1) := dk_42 (dk_at dksX2_bury_3 2 rfl rfl)
theorem dX2_bury_73 : decode cX2_bury 73 = .ok (.getfield 19, 3) := dk_180 0 19 (dk_at dksX2_bury_3 3 rfl rfl)
theorem dX2_bury_76 : decode cX2_bury 76 = .ok (.bipush 21, 2) := dk_16 21 (dk_at dksX2_bury_3 6 rfl rfl)
theorem dX2_bury_78 : decode cX2_bury 78 = .ok (.iconst 5, 1) := dk_8 (dk_at dksX2_bury_3 8 rfl rfl)
theorem dX2_bury_79 : decode cX2_bury 79 = .ok (.iload_n 1, 1) := dk_27 (dk_at dksX2_bury_3 9 rfl rfl)
theorem dX2_bury_80 : decode cX2_bury 80 = .ok (.imul, 1) := dk_104 (dk_at dksX2_bury_3 10 rfl rfl)
theorem dX2_bury_81 : decode cX2_bury 81 = .ok (.iadd, 1) := dk_96 (dk_at dksX2_bury_3 11 rfl rfl)
theorem dX2_bury_82 : decode cX2_bury 82 = .ok (.iconst 1, 1) := dk_4 (dk_at dksX2_bury_3 12 rfl rfl)
theorem dX2_bury_83 : decode cX2_bury 83 = .ok (.iadd, 1) := dk_96 (dk_at dksX2_bury_3 13 rfl rfl)
theorem dX2_bury_84 : decode cX2_bury 84 = .ok (.iaload, 1) := dk_46 (dk_at dksX2_bury_3 14 rfl rfl)
theorem dX2_bury_85 : decode cX2_bury 85 = .ok (.iastore, 1) := dk_79 (dk_at dksX2_bury_3 15 rfl rfl)
theorem dX2_bury_86 : decode cX2_bury 86 = .ok (.aload_n 0, 1) := dk_42 (dk_at dksX2_bury_3 16 rfl rfl)
theorem dX2_bury_87 : decode cX2_bury 87 = .ok (.getfield 19, 3) := dk_180 0 19 (dk_at dksX2_bury_3 17 rfl rfl)
theorem dX2_bury_90 : decode cX2_bury 90 = .ok (.iconst 3, 1) := dk_6 (dk_at dksX2_bury_3 20 rfl rfl)
theorem dX2_bury_91 : decode cX2_bury 91 = .ok (.iconst 2, 1) := dk_5 (dk_at dksX2_bury_3 21 rfl rfl)
theorem dX2_bury_92 : decode cX2_bury 92 = .ok (.iload_n 3, 1) := dk_29 (dk_at dksX2_bury_3 22 rfl rfl)
theorem dX2_bury_93 : decode cX2_bury 93 = .ok (.imul, 1) := dk_104 (dk_at dksX2_bury_3 23 rfl rfl)
theorem dX2_bury_94 : decode cX2_bury 94 = .ok (.iadd, 1) := dk_96 (dk_at dksX2_bury_4 0 rfl rfl)
theorem dX2_bury_95 : decode cX2_bury 95 = .ok (.iconst 1, 1) := dk_4 (dk_at dksX2_bury_4 1 rfl rfl)
theorem dX2_bury_96 : decode cX2_bury 96 = .ok (.iadd, 1) := dk_96 (dk_at dksX2_bury_4 2 rfl rfl)
theorem dX2_bury_97 : decode cX2_bury 97 = .ok (.iload_n 2, 1) := dk_28 (dk_at dksX2_bury_4 3 rfl rfl)
theorem dX2_bury_98 : decode cX2_bury 98 = .ok (.iastore, 1) := dk_79 (dk_at dksX2_bury_4 4 rfl rfl)
theorem dX2_bury_99 : decode cX2_bury 99 = .ok (.aload_n 0, 1) := dk_42 (dk_at dksX2_bury_4 5 rfl rfl)
theorem dX2_bury_100 : decode cX2_bury 100 = .ok (.getfield 19, 3) := dk_180 0 19 (dk_at dksX2_bury_4 6 rfl rfl)
theorem dX2_bury_103 : decode cX2_bury 103 = .ok (.bipush 21, 2) := dk_16 21 (dk_at dksX2_bury_4 9 rfl rfl)
theorem dX2_bury_105 : decode cX2_bury 105 = .ok (.iconst 5, 1) := dk_8 (dk_at dksX2_bury_4 11 rfl rfl)
theorem dX2_bury_106 : decode cX2_bury 106 = .ok (.iload_n 1, 1) := dk_27 (dk_at dksX2_bury_4 12 rfl rfl)
theorem dX2_bury_107 : decode cX2_bury 107 = .ok (.imul, 1) := dk_104 (dk_at dksX2_bury_4 13 rfl rfl)
theorem dX2_bury_108 : decode cX2_bury 108 = .ok (.iadd, 1) := dk_96 (dk_at dksX2_bury_4 14 rfl rfl)
theorem dX2_bury_109 : decode cX2_bury 109 = .ok (.iconst 4, 1) := dk_7 (dk_at dksX2_bury_4 15 rfl rfl)
theorem dX2_bury_110 : decode cX2_bury 110 = .ok (.iadd, 1) := dk_96 (dk_at dksX2_bury_4 16 rfl rfl)
theorem dX2_bury_111 : decode cX2_bury 111 = .ok (.dup2, 1) := dk_92 (dk_at dksX2_bury_4 17 rfl rfl)
theorem dX2_bury_112 : decode cX2_bury 112 = .ok (.iaload, 1) := dk_46 (dk_at dksX2_bury_4 18 rfl rfl)
theorem dX2_bury_113 : decode cX2_bury 113 = .ok (.iconst 1, 1) := dk_4 (dk_at dksX2_bury_4 19 rfl rfl)
theorem dX2_bury_114 : decode cX2_bury 114 = .ok (.iload_n 3, 1) := dk_29 (dk_at dksX2_bury_4 20 rfl rfl)
theorem dX2_bury_115 : decode cX2_bury 115 = .ok (.ishl, 1) := dk_120 (dk_at dksX2_bury_4 21 rfl rfl)
theorem dX2_bury_116 : decode cX2_bury 116 = .ok (.ior, 1) := dk_128 (dk_at dksX2_bury_4 22 rfl rfl)
theorem dX2_bury_117 : decode cX2_bury 117 = .ok (.iastore, 1) := dk_79 (dk_at dksX2_bury_4 23 rfl rfl)
theorem dX2_bury_118 : decode cX2_bury 118 = .ok (.aload_n 0, 1) := dk_42 (dk_at dksX2_bury_5 0 rfl rfl)
theorem dX2_bury_119 : decode cX2_bury 119 = .ok (.getfield 19, 3) := dk_180 0 19 (dk_at dksX2_bury_5 1 rfl rfl)
theorem dX2_bury_122 : decode cX2_bury 122 = .ok (.iconst 0, 1) := dk_3 (dk_at dksX2_bury_5 4 rfl rfl)
theorem dX2_bury_123 : decode cX2_bury 123 = .ok (.dup2, 1) := dk_92 (dk_at dksX2_bury_5 5 rfl rfl)
theorem dX2_bury_124 : decode cX2_bury 124 = .ok (.iaload, 1) := dk_46 (dk_at dksX2_bury_5 6 rfl rfl)
theorem dX2_bury_125 : decode cX2_bury 125 = .ok (.iconst 1, 1) := dk_4 (dk_at dksX2_bury_5 7 rfl rfl)
theorem dX2_bury_126 : decode cX2_bury 126 = .ok (.iadd, 1) := dk_96 (dk_at dksX2_bury_5 8 rfl rfl)
theorem dX2_bury_127 : decode cX2_bury 127 = .ok (.iastore, 1) := dk_79 (dk_at dksX2_bury_5 9 rfl rfl)
theorem dX2_bury_128 : decode cX2_bury 128 = .ok (.iload_n 3, 1) := dk_29 (dk_at dksX2_bury_5 10 rfl rfl)
theorem dX2_bury_129 : decode cX2_bury 129 = .ok (.ireturn, 1) := dk_172 (dk_at dksX2_bury_5 11 rfl rfl)
abbrev cX2_raid : ByteArray := prog_14_method_49_code
def yX2_raid : MethodName := ⟨RX2, "raid", "(II)I"⟩
def dkwX2_raid_3 : List UInt8 := [4, 96, 46, 172]
abbrev dktX2_raid_3 : List UInt8 := dkwX2_raid_3 ++ []
def dkwX2_raid_2 : List UInt8 := [180, 0, 19, 6, 5, 27, 104, 96, 4, 96, 92, 46, 28, 100, 79, 42, 180, 0, 19, 6, 5, 27, 104, 96]
abbrev dktX2_raid_2 : List UInt8 := dkwX2_raid_2 ++ dktX2_raid_3
def dkwX2_raid_1 : List UInt8 := [42, 180, 0, 19, 6, 5, 27, 104, 96, 4, 96, 46, 28, 162, 0, 6, 16, 252, 172, 42, 182, 0, 200, 42]
abbrev dktX2_raid_1 : List UInt8 := dkwX2_raid_1 ++ dktX2_raid_2
def dkwX2_raid_0 : List UInt8 := [42, 27, 182, 0, 188, 154, 0, 6, 16, 254, 172, 28, 4, 16, 99, 184, 0, 59, 154, 0, 6, 16, 253, 172]
abbrev dktX2_raid_0 : List UInt8 := dkwX2_raid_0 ++ dktX2_raid_1
theorem dksX2_raid_0 : cX2_raid.data.toList.drop 0 = dktX2_raid_0 := by decide +kernel
theorem dksX2_raid_1 : cX2_raid.data.toList.drop 24 = dktX2_raid_1 := dk_seg dksX2_raid_0 24 rfl rfl
theorem dksX2_raid_2 : cX2_raid.data.toList.drop 48 = dktX2_raid_2 := dk_seg dksX2_raid_1 24 rfl rfl
theorem dksX2_raid_3 : cX2_raid.data.toList.drop 72 = dktX2_raid_3 := dk_seg dksX2_raid_2 24 rfl rfl
theorem dX2_raid_0 : decode cX2_raid 0 = .ok (.aload_n 0, 1) := dk_42 (dk_at dksX2_raid_0 0 rfl rfl)
theorem dX2_raid_1 : decode cX2_raid 1 = .ok (.iload_n 1, 1) := dk_27 (dk_at dksX2_raid_0 1 rfl rfl)
theorem dX2_raid_2 : decode cX2_raid 2 = .ok (.invokevirtual 188, 3) := dk_182 0 188 (dk_at dksX2_raid_0 2 rfl rfl)
theorem dX2_raid_5 : decode cX2_raid 5 = .ok (.ifCond .ne 6, 3) := dk_154 0 6 (dk_at dksX2_raid_0 5 rfl rfl)
theorem dX2_raid_8 : decode cX2_raid 8 = .ok (.bipush (-2), 2) := dk_16 254 (dk_at dksX2_raid_0 8 rfl rfl)
theorem dX2_raid_10 : decode cX2_raid 10 = .ok (.ireturn, 1) := dk_172 (dk_at dksX2_raid_0 10 rfl rfl)
theorem dX2_raid_11 : decode cX2_raid 11 = .ok (.iload_n 2, 1) := dk_28 (dk_at dksX2_raid_0 11 rfl rfl)
theorem dX2_raid_12 : decode cX2_raid 12 = .ok (.iconst 1, 1) := dk_4 (dk_at dksX2_raid_0 12 rfl rfl)
theorem dX2_raid_13 : decode cX2_raid 13 = .ok (.bipush 99, 2) := dk_16 99 (dk_at dksX2_raid_0 13 rfl rfl)
theorem dX2_raid_15 : decode cX2_raid 15 = .ok (.invokestatic 59, 3) := dk_184 0 59 (dk_at dksX2_raid_0 15 rfl rfl)
theorem dX2_raid_18 : decode cX2_raid 18 = .ok (.ifCond .ne 6, 3) := dk_154 0 6 (dk_at dksX2_raid_0 18 rfl rfl)
theorem dX2_raid_21 : decode cX2_raid 21 = .ok (.bipush (-3), 2) := dk_16 253 (dk_at dksX2_raid_0 21 rfl rfl)
theorem dX2_raid_23 : decode cX2_raid 23 = .ok (.ireturn, 1) := dk_172 (dk_at dksX2_raid_0 23 rfl rfl)
theorem dX2_raid_24 : decode cX2_raid 24 = .ok (.aload_n 0, 1) := dk_42 (dk_at dksX2_raid_1 0 rfl rfl)
theorem dX2_raid_25 : decode cX2_raid 25 = .ok (.getfield 19, 3) := dk_180 0 19 (dk_at dksX2_raid_1 1 rfl rfl)
theorem dX2_raid_28 : decode cX2_raid 28 = .ok (.iconst 3, 1) := dk_6 (dk_at dksX2_raid_1 4 rfl rfl)
theorem dX2_raid_29 : decode cX2_raid 29 = .ok (.iconst 2, 1) := dk_5 (dk_at dksX2_raid_1 5 rfl rfl)
theorem dX2_raid_30 : decode cX2_raid 30 = .ok (.iload_n 1, 1) := dk_27 (dk_at dksX2_raid_1 6 rfl rfl)
theorem dX2_raid_31 : decode cX2_raid 31 = .ok (.imul, 1) := dk_104 (dk_at dksX2_raid_1 7 rfl rfl)
theorem dX2_raid_32 : decode cX2_raid 32 = .ok (.iadd, 1) := dk_96 (dk_at dksX2_raid_1 8 rfl rfl)
theorem dX2_raid_33 : decode cX2_raid 33 = .ok (.iconst 1, 1) := dk_4 (dk_at dksX2_raid_1 9 rfl rfl)
theorem dX2_raid_34 : decode cX2_raid 34 = .ok (.iadd, 1) := dk_96 (dk_at dksX2_raid_1 10 rfl rfl)
theorem dX2_raid_35 : decode cX2_raid 35 = .ok (.iaload, 1) := dk_46 (dk_at dksX2_raid_1 11 rfl rfl)
theorem dX2_raid_36 : decode cX2_raid 36 = .ok (.iload_n 2, 1) := dk_28 (dk_at dksX2_raid_1 12 rfl rfl)
theorem dX2_raid_37 : decode cX2_raid 37 = .ok (.if_icmp .ge 6, 3) := dk_162 0 6 (dk_at dksX2_raid_1 13 rfl rfl)
theorem dX2_raid_40 : decode cX2_raid 40 = .ok (.bipush (-4), 2) := dk_16 252 (dk_at dksX2_raid_1 16 rfl rfl)
theorem dX2_raid_42 : decode cX2_raid 42 = .ok (.ireturn, 1) := dk_172 (dk_at dksX2_raid_1 18 rfl rfl)
theorem dX2_raid_43 : decode cX2_raid 43 = .ok (.aload_n 0, 1) := dk_42 (dk_at dksX2_raid_1 19 rfl rfl)
theorem dX2_raid_44 : decode cX2_raid 44 = .ok (.invokevirtual 200, 3) := dk_182 0 200 (dk_at dksX2_raid_1 20 rfl rfl)
theorem dX2_raid_47 : decode cX2_raid 47 = .ok (.aload_n 0, 1) := dk_42 (dk_at dksX2_raid_1 23 rfl rfl)
theorem dX2_raid_48 : decode cX2_raid 48 = .ok (.getfield 19, 3) := dk_180 0 19 (dk_at dksX2_raid_2 0 rfl rfl)
theorem dX2_raid_51 : decode cX2_raid 51 = .ok (.iconst 3, 1) := dk_6 (dk_at dksX2_raid_2 3 rfl rfl)
theorem dX2_raid_52 : decode cX2_raid 52 = .ok (.iconst 2, 1) := dk_5 (dk_at dksX2_raid_2 4 rfl rfl)
theorem dX2_raid_53 : decode cX2_raid 53 = .ok (.iload_n 1, 1) := dk_27 (dk_at dksX2_raid_2 5 rfl rfl)
theorem dX2_raid_54 : decode cX2_raid 54 = .ok (.imul, 1) := dk_104 (dk_at dksX2_raid_2 6 rfl rfl)
theorem dX2_raid_55 : decode cX2_raid 55 = .ok (.iadd, 1) := dk_96 (dk_at dksX2_raid_2 7 rfl rfl)
theorem dX2_raid_56 : decode cX2_raid 56 = .ok (.iconst 1, 1) := dk_4 (dk_at dksX2_raid_2 8 rfl rfl)
theorem dX2_raid_57 : decode cX2_raid 57 = .ok (.iadd, 1) := dk_96 (dk_at dksX2_raid_2 9 rfl rfl)
theorem dX2_raid_58 : decode cX2_raid 58 = .ok (.dup2, 1) := dk_92 (dk_at dksX2_raid_2 10 rfl rfl)
theorem dX2_raid_59 : decode cX2_raid 59 = .ok (.iaload, 1) := dk_46 (dk_at dksX2_raid_2 11 rfl rfl)
theorem dX2_raid_60 : decode cX2_raid 60 = .ok (.iload_n 2, 1) := dk_28 (dk_at dksX2_raid_2 12 rfl rfl)
theorem dX2_raid_61 : decode cX2_raid 61 = .ok (.isub, 1) := dk_100 (dk_at dksX2_raid_2 13 rfl rfl)
theorem dX2_raid_62 : decode cX2_raid 62 = .ok (.iastore, 1) := dk_79 (dk_at dksX2_raid_2 14 rfl rfl)
theorem dX2_raid_63 : decode cX2_raid 63 = .ok (.aload_n 0, 1) := dk_42 (dk_at dksX2_raid_2 15 rfl rfl)
theorem dX2_raid_64 : decode cX2_raid 64 = .ok (.getfield 19, 3) := dk_180 0 19 (dk_at dksX2_raid_2 16 rfl rfl)
theorem dX2_raid_67 : decode cX2_raid 67 = .ok (.iconst 3, 1) := dk_6 (dk_at dksX2_raid_2 19 rfl rfl)
theorem dX2_raid_68 : decode cX2_raid 68 = .ok (.iconst 2, 1) := dk_5 (dk_at dksX2_raid_2 20 rfl rfl)
theorem dX2_raid_69 : decode cX2_raid 69 = .ok (.iload_n 1, 1) := dk_27 (dk_at dksX2_raid_2 21 rfl rfl)
theorem dX2_raid_70 : decode cX2_raid 70 = .ok (.imul, 1) := dk_104 (dk_at dksX2_raid_2 22 rfl rfl)
theorem dX2_raid_71 : decode cX2_raid 71 = .ok (.iadd, 1) := dk_96 (dk_at dksX2_raid_2 23 rfl rfl)
theorem dX2_raid_72 : decode cX2_raid 72 = .ok (.iconst 1, 1) := dk_4 (dk_at dksX2_raid_3 0 rfl rfl)
theorem dX2_raid_73 : decode cX2_raid 73 = .ok (.iadd, 1) := dk_96 (dk_at dksX2_raid_3 1 rfl rfl)
theorem dX2_raid_74 : decode cX2_raid 74 = .ok (.iaload, 1) := dk_46 (dk_at dksX2_raid_3 2 rfl rfl)
theorem dX2_raid_75 : decode cX2_raid 75 = .ok (.ireturn, 1) := dk_172 (dk_at dksX2_raid_3 3 rfl rfl)
abbrev cX2_tell : ByteArray := prog_14_method_50_code
def yX2_tell : MethodName := ⟨RX2, "tell", "(II)I"⟩
def dkwX2_tell_3 : List UInt8 := [79, 42, 180, 0, 19, 29, 46, 172]
abbrev dktX2_tell_3 : List UInt8 := dkwX2_tell_3 ++ []
def dkwX2_tell_2 : List UInt8 := [184, 0, 174, 153, 0, 6, 16, 252, 172, 42, 182, 0, 200, 42, 180, 0, 19, 29, 92, 46, 4, 28, 120, 128]
abbrev dktX2_tell_2 : List UInt8 := dkwX2_tell_2 ++ dktX2_tell_3
def dkwX2_tell_1 : List UInt8 := [96, 7, 96, 62, 42, 180, 0, 19, 29, 46, 28, 184, 0, 152, 154, 0, 14, 42, 180, 0, 19, 27]
abbrev dktX2_tell_1 : List UInt8 := dkwX2_tell_1 ++ dktX2_tell_2
def dkwX2_tell_0 : List UInt8 := [42, 27, 182, 0, 194, 153, 0, 11, 42, 28, 182, 0, 188, 154, 0, 6, 16, 254, 172, 16, 21, 8, 27, 104]
abbrev dktX2_tell_0 : List UInt8 := dkwX2_tell_0 ++ dktX2_tell_1
theorem dksX2_tell_0 : cX2_tell.data.toList.drop 0 = dktX2_tell_0 := by decide +kernel
theorem dksX2_tell_1 : cX2_tell.data.toList.drop 24 = dktX2_tell_1 := dk_seg dksX2_tell_0 24 rfl rfl
theorem dksX2_tell_2 : cX2_tell.data.toList.drop 46 = dktX2_tell_2 := dk_seg dksX2_tell_1 22 rfl rfl
theorem dksX2_tell_3 : cX2_tell.data.toList.drop 70 = dktX2_tell_3 := dk_seg dksX2_tell_2 24 rfl rfl
theorem dX2_tell_0 : decode cX2_tell 0 = .ok (.aload_n 0, 1) := dk_42 (dk_at dksX2_tell_0 0 rfl rfl)
theorem dX2_tell_1 : decode cX2_tell 1 = .ok (.iload_n 1, 1) := dk_27 (dk_at dksX2_tell_0 1 rfl rfl)
theorem dX2_tell_2 : decode cX2_tell 2 = .ok (.invokevirtual 194, 3) := dk_182 0 194 (dk_at dksX2_tell_0 2 rfl rfl)
theorem dX2_tell_5 : decode cX2_tell 5 = .ok (.ifCond .eq 11, 3) := dk_153 0 11 (dk_at dksX2_tell_0 5 rfl rfl)
theorem dX2_tell_8 : decode cX2_tell 8 = .ok (.aload_n 0, 1) := dk_42 (dk_at dksX2_tell_0 8 rfl rfl)
theorem dX2_tell_9 : decode cX2_tell 9 = .ok (.iload_n 2, 1) := dk_28 (dk_at dksX2_tell_0 9 rfl rfl)
theorem dX2_tell_10 : decode cX2_tell 10 = .ok (.invokevirtual 188, 3) := dk_182 0 188 (dk_at dksX2_tell_0 10 rfl rfl)
theorem dX2_tell_13 : decode cX2_tell 13 = .ok (.ifCond .ne 6, 3) := dk_154 0 6 (dk_at dksX2_tell_0 13 rfl rfl)
theorem dX2_tell_16 : decode cX2_tell 16 = .ok (.bipush (-2), 2) := dk_16 254 (dk_at dksX2_tell_0 16 rfl rfl)
theorem dX2_tell_18 : decode cX2_tell 18 = .ok (.ireturn, 1) := dk_172 (dk_at dksX2_tell_0 18 rfl rfl)
theorem dX2_tell_19 : decode cX2_tell 19 = .ok (.bipush 21, 2) := dk_16 21 (dk_at dksX2_tell_0 19 rfl rfl)
theorem dX2_tell_21 : decode cX2_tell 21 = .ok (.iconst 5, 1) := dk_8 (dk_at dksX2_tell_0 21 rfl rfl)
theorem dX2_tell_22 : decode cX2_tell 22 = .ok (.iload_n 1, 1) := dk_27 (dk_at dksX2_tell_0 22 rfl rfl)
theorem dX2_tell_23 : decode cX2_tell 23 = .ok (.imul, 1) := dk_104 (dk_at dksX2_tell_0 23 rfl rfl)
theorem dX2_tell_24 : decode cX2_tell 24 = .ok (.iadd, 1) := dk_96 (dk_at dksX2_tell_1 0 rfl rfl)
theorem dX2_tell_25 : decode cX2_tell 25 = .ok (.iconst 4, 1) := dk_7 (dk_at dksX2_tell_1 1 rfl rfl)
theorem dX2_tell_26 : decode cX2_tell 26 = .ok (.iadd, 1) := dk_96 (dk_at dksX2_tell_1 2 rfl rfl)
theorem dX2_tell_27 : decode cX2_tell 27 = .ok (.istore_n 3, 1) := dk_62 (dk_at dksX2_tell_1 3 rfl rfl)
theorem dX2_tell_28 : decode cX2_tell 28 = .ok (.aload_n 0, 1) := dk_42 (dk_at dksX2_tell_1 4 rfl rfl)
theorem dX2_tell_29 : decode cX2_tell 29 = .ok (.getfield 19, 3) := dk_180 0 19 (dk_at dksX2_tell_1 5 rfl rfl)
theorem dX2_tell_32 : decode cX2_tell 32 = .ok (.iload_n 3, 1) := dk_29 (dk_at dksX2_tell_1 8 rfl rfl)
theorem dX2_tell_33 : decode cX2_tell 33 = .ok (.iaload, 1) := dk_46 (dk_at dksX2_tell_1 9 rfl rfl)
theorem dX2_tell_34 : decode cX2_tell 34 = .ok (.iload_n 2, 1) := dk_28 (dk_at dksX2_tell_1 10 rfl rfl)
theorem dX2_tell_35 : decode cX2_tell 35 = .ok (.invokestatic 152, 3) := dk_184 0 152 (dk_at dksX2_tell_1 11 rfl rfl)
theorem dX2_tell_38 : decode cX2_tell 38 = .ok (.ifCond .ne 14, 3) := dk_154 0 14 (dk_at dksX2_tell_1 14 rfl rfl)
theorem dX2_tell_41 : decode cX2_tell 41 = .ok (.aload_n 0, 1) := dk_42 (dk_at dksX2_tell_1 17 rfl rfl)
theorem dX2_tell_42 : decode cX2_tell 42 = .ok (.getfield 19, 3) := dk_180 0 19 (dk_at dksX2_tell_1 18 rfl rfl)
theorem dX2_tell_45 : decode cX2_tell 45 = .ok (.iload_n 1, 1) := dk_27 (dk_at dksX2_tell_1 21 rfl rfl)
theorem dX2_tell_46 : decode cX2_tell 46 = .ok (.invokestatic 174, 3) := dk_184 0 174 (dk_at dksX2_tell_2 0 rfl rfl)
theorem dX2_tell_49 : decode cX2_tell 49 = .ok (.ifCond .eq 6, 3) := dk_153 0 6 (dk_at dksX2_tell_2 3 rfl rfl)
theorem dX2_tell_52 : decode cX2_tell 52 = .ok (.bipush (-4), 2) := dk_16 252 (dk_at dksX2_tell_2 6 rfl rfl)
theorem dX2_tell_54 : decode cX2_tell 54 = .ok (.ireturn, 1) := dk_172 (dk_at dksX2_tell_2 8 rfl rfl)
theorem dX2_tell_55 : decode cX2_tell 55 = .ok (.aload_n 0, 1) := dk_42 (dk_at dksX2_tell_2 9 rfl rfl)
theorem dX2_tell_56 : decode cX2_tell 56 = .ok (.invokevirtual 200, 3) := dk_182 0 200 (dk_at dksX2_tell_2 10 rfl rfl)
theorem dX2_tell_59 : decode cX2_tell 59 = .ok (.aload_n 0, 1) := dk_42 (dk_at dksX2_tell_2 13 rfl rfl)
theorem dX2_tell_60 : decode cX2_tell 60 = .ok (.getfield 19, 3) := dk_180 0 19 (dk_at dksX2_tell_2 14 rfl rfl)
theorem dX2_tell_63 : decode cX2_tell 63 = .ok (.iload_n 3, 1) := dk_29 (dk_at dksX2_tell_2 17 rfl rfl)
theorem dX2_tell_64 : decode cX2_tell 64 = .ok (.dup2, 1) := dk_92 (dk_at dksX2_tell_2 18 rfl rfl)
theorem dX2_tell_65 : decode cX2_tell 65 = .ok (.iaload, 1) := dk_46 (dk_at dksX2_tell_2 19 rfl rfl)
theorem dX2_tell_66 : decode cX2_tell 66 = .ok (.iconst 1, 1) := dk_4 (dk_at dksX2_tell_2 20 rfl rfl)
theorem dX2_tell_67 : decode cX2_tell 67 = .ok (.iload_n 2, 1) := dk_28 (dk_at dksX2_tell_2 21 rfl rfl)
theorem dX2_tell_68 : decode cX2_tell 68 = .ok (.ishl, 1) := dk_120 (dk_at dksX2_tell_2 22 rfl rfl)
theorem dX2_tell_69 : decode cX2_tell 69 = .ok (.ior, 1) := dk_128 (dk_at dksX2_tell_2 23 rfl rfl)
theorem dX2_tell_70 : decode cX2_tell 70 = .ok (.iastore, 1) := dk_79 (dk_at dksX2_tell_3 0 rfl rfl)
theorem dX2_tell_71 : decode cX2_tell 71 = .ok (.aload_n 0, 1) := dk_42 (dk_at dksX2_tell_3 1 rfl rfl)
theorem dX2_tell_72 : decode cX2_tell 72 = .ok (.getfield 19, 3) := dk_180 0 19 (dk_at dksX2_tell_3 2 rfl rfl)
theorem dX2_tell_75 : decode cX2_tell 75 = .ok (.iload_n 3, 1) := dk_29 (dk_at dksX2_tell_3 5 rfl rfl)
theorem dX2_tell_76 : decode cX2_tell 76 = .ok (.iaload, 1) := dk_46 (dk_at dksX2_tell_3 6 rfl rfl)
theorem dX2_tell_77 : decode cX2_tell 77 = .ok (.ireturn, 1) := dk_172 (dk_at dksX2_tell_3 7 rfl rfl)
abbrev cX2_undo : ByteArray := prog_14_method_51_code
def yX2_undo : MethodName := ⟨RX2, "undo", "()I"⟩
def dkwX2_undo_1 : List UInt8 := [16, 46, 42, 180, 0, 146, 104, 42, 180, 0, 19, 3, 184, 0, 130, 42, 180, 0, 146, 172]
abbrev dktX2_undo_1 : List UInt8 := dkwX2_undo_1 ++ []
def dkwX2_undo_0 : List UInt8 := [42, 180, 0, 146, 154, 0, 6, 16, 252, 172, 42, 89, 180, 0, 146, 4, 100, 181, 0, 146, 42, 180, 0, 25]
abbrev dktX2_undo_0 : List UInt8 := dkwX2_undo_0 ++ dktX2_undo_1
theorem dksX2_undo_0 : cX2_undo.data.toList.drop 0 = dktX2_undo_0 := by decide +kernel
theorem dksX2_undo_1 : cX2_undo.data.toList.drop 24 = dktX2_undo_1 := dk_seg dksX2_undo_0 24 rfl rfl
theorem dX2_undo_0 : decode cX2_undo 0 = .ok (.aload_n 0, 1) := dk_42 (dk_at dksX2_undo_0 0 rfl rfl)
theorem dX2_undo_1 : decode cX2_undo 1 = .ok (.getfield 146, 3) := dk_180 0 146 (dk_at dksX2_undo_0 1 rfl rfl)
theorem dX2_undo_4 : decode cX2_undo 4 = .ok (.ifCond .ne 6, 3) := dk_154 0 6 (dk_at dksX2_undo_0 4 rfl rfl)
theorem dX2_undo_7 : decode cX2_undo 7 = .ok (.bipush (-4), 2) := dk_16 252 (dk_at dksX2_undo_0 7 rfl rfl)
theorem dX2_undo_9 : decode cX2_undo 9 = .ok (.ireturn, 1) := dk_172 (dk_at dksX2_undo_0 9 rfl rfl)
theorem dX2_undo_10 : decode cX2_undo 10 = .ok (.aload_n 0, 1) := dk_42 (dk_at dksX2_undo_0 10 rfl rfl)
theorem dX2_undo_11 : decode cX2_undo 11 = .ok (.dup, 1) := dk_89 (dk_at dksX2_undo_0 11 rfl rfl)
theorem dX2_undo_12 : decode cX2_undo 12 = .ok (.getfield 146, 3) := dk_180 0 146 (dk_at dksX2_undo_0 12 rfl rfl)
theorem dX2_undo_15 : decode cX2_undo 15 = .ok (.iconst 1, 1) := dk_4 (dk_at dksX2_undo_0 15 rfl rfl)
theorem dX2_undo_16 : decode cX2_undo 16 = .ok (.isub, 1) := dk_100 (dk_at dksX2_undo_0 16 rfl rfl)
theorem dX2_undo_17 : decode cX2_undo 17 = .ok (.putfield 146, 3) := dk_181 0 146 (dk_at dksX2_undo_0 17 rfl rfl)
theorem dX2_undo_20 : decode cX2_undo 20 = .ok (.aload_n 0, 1) := dk_42 (dk_at dksX2_undo_0 20 rfl rfl)
theorem dX2_undo_21 : decode cX2_undo 21 = .ok (.getfield 25, 3) := dk_180 0 25 (dk_at dksX2_undo_0 21 rfl rfl)
theorem dX2_undo_24 : decode cX2_undo 24 = .ok (.bipush 46, 2) := dk_16 46 (dk_at dksX2_undo_1 0 rfl rfl)
theorem dX2_undo_26 : decode cX2_undo 26 = .ok (.aload_n 0, 1) := dk_42 (dk_at dksX2_undo_1 2 rfl rfl)
theorem dX2_undo_27 : decode cX2_undo 27 = .ok (.getfield 146, 3) := dk_180 0 146 (dk_at dksX2_undo_1 3 rfl rfl)
theorem dX2_undo_30 : decode cX2_undo 30 = .ok (.imul, 1) := dk_104 (dk_at dksX2_undo_1 6 rfl rfl)
theorem dX2_undo_31 : decode cX2_undo 31 = .ok (.aload_n 0, 1) := dk_42 (dk_at dksX2_undo_1 7 rfl rfl)
theorem dX2_undo_32 : decode cX2_undo 32 = .ok (.getfield 19, 3) := dk_180 0 19 (dk_at dksX2_undo_1 8 rfl rfl)
theorem dX2_undo_35 : decode cX2_undo 35 = .ok (.iconst 0, 1) := dk_3 (dk_at dksX2_undo_1 11 rfl rfl)
theorem dX2_undo_36 : decode cX2_undo 36 = .ok (.invokestatic 130, 3) := dk_184 0 130 (dk_at dksX2_undo_1 12 rfl rfl)
theorem dX2_undo_39 : decode cX2_undo 39 = .ok (.aload_n 0, 1) := dk_42 (dk_at dksX2_undo_1 15 rfl rfl)
theorem dX2_undo_40 : decode cX2_undo 40 = .ok (.getfield 146, 3) := dk_180 0 146 (dk_at dksX2_undo_1 16 rfl rfl)
theorem dX2_undo_43 : decode cX2_undo 43 = .ok (.ireturn, 1) := dk_172 (dk_at dksX2_undo_1 19 rfl rfl)
abbrev cX2_keep : ByteArray := prog_14_method_52_code
def yX2_keep : MethodName := ⟨RX2, "keep", "(I)I"⟩
def dkwX2_keep_1 : List UInt8 := [104, 184, 0, 130, 42, 180, 0, 31, 27, 4, 84, 42, 180, 0, 19, 5, 46, 172]
abbrev dktX2_keep_1 : List UInt8 := dkwX2_keep_1 ++ []
def dkwX2_keep_0 : List UInt8 := [27, 3, 4, 184, 0, 59, 154, 0, 6, 16, 254, 172, 42, 180, 0, 19, 3, 42, 180, 0, 28, 16, 46, 27]
abbrev dktX2_keep_0 : List UInt8 := dkwX2_keep_0 ++ dktX2_keep_1
theorem dksX2_keep_0 : cX2_keep.data.toList.drop 0 = dktX2_keep_0 := by decide +kernel
theorem dksX2_keep_1 : cX2_keep.data.toList.drop 24 = dktX2_keep_1 := dk_seg dksX2_keep_0 24 rfl rfl
theorem dX2_keep_0 : decode cX2_keep 0 = .ok (.iload_n 1, 1) := dk_27 (dk_at dksX2_keep_0 0 rfl rfl)
theorem dX2_keep_1 : decode cX2_keep 1 = .ok (.iconst 0, 1) := dk_3 (dk_at dksX2_keep_0 1 rfl rfl)
theorem dX2_keep_2 : decode cX2_keep 2 = .ok (.iconst 1, 1) := dk_4 (dk_at dksX2_keep_0 2 rfl rfl)
theorem dX2_keep_3 : decode cX2_keep 3 = .ok (.invokestatic 59, 3) := dk_184 0 59 (dk_at dksX2_keep_0 3 rfl rfl)
theorem dX2_keep_6 : decode cX2_keep 6 = .ok (.ifCond .ne 6, 3) := dk_154 0 6 (dk_at dksX2_keep_0 6 rfl rfl)
theorem dX2_keep_9 : decode cX2_keep 9 = .ok (.bipush (-2), 2) := dk_16 254 (dk_at dksX2_keep_0 9 rfl rfl)
theorem dX2_keep_11 : decode cX2_keep 11 = .ok (.ireturn, 1) := dk_172 (dk_at dksX2_keep_0 11 rfl rfl)
theorem dX2_keep_12 : decode cX2_keep 12 = .ok (.aload_n 0, 1) := dk_42 (dk_at dksX2_keep_0 12 rfl rfl)
theorem dX2_keep_13 : decode cX2_keep 13 = .ok (.getfield 19, 3) := dk_180 0 19 (dk_at dksX2_keep_0 13 rfl rfl)
theorem dX2_keep_16 : decode cX2_keep 16 = .ok (.iconst 0, 1) := dk_3 (dk_at dksX2_keep_0 16 rfl rfl)
theorem dX2_keep_17 : decode cX2_keep 17 = .ok (.aload_n 0, 1) := dk_42 (dk_at dksX2_keep_0 17 rfl rfl)
theorem dX2_keep_18 : decode cX2_keep 18 = .ok (.getfield 28, 3) := dk_180 0 28 (dk_at dksX2_keep_0 18 rfl rfl)
theorem dX2_keep_21 : decode cX2_keep 21 = .ok (.bipush 46, 2) := dk_16 46 (dk_at dksX2_keep_0 21 rfl rfl)
theorem dX2_keep_23 : decode cX2_keep 23 = .ok (.iload_n 1, 1) := dk_27 (dk_at dksX2_keep_0 23 rfl rfl)
theorem dX2_keep_24 : decode cX2_keep 24 = .ok (.imul, 1) := dk_104 (dk_at dksX2_keep_1 0 rfl rfl)
theorem dX2_keep_25 : decode cX2_keep 25 = .ok (.invokestatic 130, 3) := dk_184 0 130 (dk_at dksX2_keep_1 1 rfl rfl)
theorem dX2_keep_28 : decode cX2_keep 28 = .ok (.aload_n 0, 1) := dk_42 (dk_at dksX2_keep_1 4 rfl rfl)
theorem dX2_keep_29 : decode cX2_keep 29 = .ok (.getfield 31, 3) := dk_180 0 31 (dk_at dksX2_keep_1 5 rfl rfl)
theorem dX2_keep_32 : decode cX2_keep 32 = .ok (.iload_n 1, 1) := dk_27 (dk_at dksX2_keep_1 8 rfl rfl)
theorem dX2_keep_33 : decode cX2_keep 33 = .ok (.iconst 1, 1) := dk_4 (dk_at dksX2_keep_1 9 rfl rfl)
theorem dX2_keep_34 : decode cX2_keep 34 = .ok (.bastore, 1) := dk_84 (dk_at dksX2_keep_1 10 rfl rfl)
theorem dX2_keep_35 : decode cX2_keep 35 = .ok (.aload_n 0, 1) := dk_42 (dk_at dksX2_keep_1 11 rfl rfl)
theorem dX2_keep_36 : decode cX2_keep 36 = .ok (.getfield 19, 3) := dk_180 0 19 (dk_at dksX2_keep_1 12 rfl rfl)
theorem dX2_keep_39 : decode cX2_keep 39 = .ok (.iconst 2, 1) := dk_5 (dk_at dksX2_keep_1 15 rfl rfl)
theorem dX2_keep_40 : decode cX2_keep 40 = .ok (.iaload, 1) := dk_46 (dk_at dksX2_keep_1 16 rfl rfl)
theorem dX2_keep_41 : decode cX2_keep 41 = .ok (.ireturn, 1) := dk_172 (dk_at dksX2_keep_1 17 rfl rfl)
abbrev cX2_back : ByteArray := prog_14_method_53_code
def yX2_back : MethodName := ⟨RX2, "back", "(I)I"⟩
def dkwX2_back_2 : List UInt8 := [180, 0, 19, 5, 46, 172]
abbrev dktX2_back_2 : List UInt8 := dkwX2_back_2 ++ []
def dkwX2_back_1 : List UInt8 := [42, 180, 0, 28, 16, 46, 27, 104, 42, 180, 0, 19, 3, 184, 0, 130, 42, 3, 181, 0, 146, 42]
abbrev dktX2_back_1 : List UInt8 := dkwX2_back_1 ++ dktX2_back_2
def dkwX2_back_0 : List UInt8 := [27, 3, 4, 184, 0, 59, 154, 0, 6, 16, 254, 172, 42, 180, 0, 31, 27, 51, 154, 0, 6, 16, 252, 172]
abbrev dktX2_back_0 : List UInt8 := dkwX2_back_0 ++ dktX2_back_1
theorem dksX2_back_0 : cX2_back.data.toList.drop 0 = dktX2_back_0 := by decide +kernel
theorem dksX2_back_1 : cX2_back.data.toList.drop 24 = dktX2_back_1 := dk_seg dksX2_back_0 24 rfl rfl
theorem dksX2_back_2 : cX2_back.data.toList.drop 46 = dktX2_back_2 := dk_seg dksX2_back_1 22 rfl rfl
theorem dX2_back_0 : decode cX2_back 0 = .ok (.iload_n 1, 1) := dk_27 (dk_at dksX2_back_0 0 rfl rfl)
theorem dX2_back_1 : decode cX2_back 1 = .ok (.iconst 0, 1) := dk_3 (dk_at dksX2_back_0 1 rfl rfl)
theorem dX2_back_2 : decode cX2_back 2 = .ok (.iconst 1, 1) := dk_4 (dk_at dksX2_back_0 2 rfl rfl)
theorem dX2_back_3 : decode cX2_back 3 = .ok (.invokestatic 59, 3) := dk_184 0 59 (dk_at dksX2_back_0 3 rfl rfl)
theorem dX2_back_6 : decode cX2_back 6 = .ok (.ifCond .ne 6, 3) := dk_154 0 6 (dk_at dksX2_back_0 6 rfl rfl)
theorem dX2_back_9 : decode cX2_back 9 = .ok (.bipush (-2), 2) := dk_16 254 (dk_at dksX2_back_0 9 rfl rfl)
theorem dX2_back_11 : decode cX2_back 11 = .ok (.ireturn, 1) := dk_172 (dk_at dksX2_back_0 11 rfl rfl)
theorem dX2_back_12 : decode cX2_back 12 = .ok (.aload_n 0, 1) := dk_42 (dk_at dksX2_back_0 12 rfl rfl)
theorem dX2_back_13 : decode cX2_back 13 = .ok (.getfield 31, 3) := dk_180 0 31 (dk_at dksX2_back_0 13 rfl rfl)
theorem dX2_back_16 : decode cX2_back 16 = .ok (.iload_n 1, 1) := dk_27 (dk_at dksX2_back_0 16 rfl rfl)
theorem dX2_back_17 : decode cX2_back 17 = .ok (.baload, 1) := dk_51 (dk_at dksX2_back_0 17 rfl rfl)
theorem dX2_back_18 : decode cX2_back 18 = .ok (.ifCond .ne 6, 3) := dk_154 0 6 (dk_at dksX2_back_0 18 rfl rfl)
theorem dX2_back_21 : decode cX2_back 21 = .ok (.bipush (-4), 2) := dk_16 252 (dk_at dksX2_back_0 21 rfl rfl)
theorem dX2_back_23 : decode cX2_back 23 = .ok (.ireturn, 1) := dk_172 (dk_at dksX2_back_0 23 rfl rfl)
theorem dX2_back_24 : decode cX2_back 24 = .ok (.aload_n 0, 1) := dk_42 (dk_at dksX2_back_1 0 rfl rfl)
theorem dX2_back_25 : decode cX2_back 25 = .ok (.getfield 28, 3) := dk_180 0 28 (dk_at dksX2_back_1 1 rfl rfl)
theorem dX2_back_28 : decode cX2_back 28 = .ok (.bipush 46, 2) := dk_16 46 (dk_at dksX2_back_1 4 rfl rfl)
theorem dX2_back_30 : decode cX2_back 30 = .ok (.iload_n 1, 1) := dk_27 (dk_at dksX2_back_1 6 rfl rfl)
theorem dX2_back_31 : decode cX2_back 31 = .ok (.imul, 1) := dk_104 (dk_at dksX2_back_1 7 rfl rfl)
theorem dX2_back_32 : decode cX2_back 32 = .ok (.aload_n 0, 1) := dk_42 (dk_at dksX2_back_1 8 rfl rfl)
theorem dX2_back_33 : decode cX2_back 33 = .ok (.getfield 19, 3) := dk_180 0 19 (dk_at dksX2_back_1 9 rfl rfl)
theorem dX2_back_36 : decode cX2_back 36 = .ok (.iconst 0, 1) := dk_3 (dk_at dksX2_back_1 12 rfl rfl)
theorem dX2_back_37 : decode cX2_back 37 = .ok (.invokestatic 130, 3) := dk_184 0 130 (dk_at dksX2_back_1 13 rfl rfl)
theorem dX2_back_40 : decode cX2_back 40 = .ok (.aload_n 0, 1) := dk_42 (dk_at dksX2_back_1 16 rfl rfl)
theorem dX2_back_41 : decode cX2_back 41 = .ok (.iconst 0, 1) := dk_3 (dk_at dksX2_back_1 17 rfl rfl)
theorem dX2_back_42 : decode cX2_back 42 = .ok (.putfield 146, 3) := dk_181 0 146 (dk_at dksX2_back_1 18 rfl rfl)
theorem dX2_back_45 : decode cX2_back 45 = .ok (.aload_n 0, 1) := dk_42 (dk_at dksX2_back_1 21 rfl rfl)
theorem dX2_back_46 : decode cX2_back 46 = .ok (.getfield 19, 3) := dk_180 0 19 (dk_at dksX2_back_2 0 rfl rfl)
theorem dX2_back_49 : decode cX2_back 49 = .ok (.iconst 2, 1) := dk_5 (dk_at dksX2_back_2 3 rfl rfl)
theorem dX2_back_50 : decode cX2_back 50 = .ok (.iaload, 1) := dk_46 (dk_at dksX2_back_2 4 rfl rfl)
theorem dX2_back_51 : decode cX2_back 51 = .ok (.ireturn, 1) := dk_172 (dk_at dksX2_back_2 5 rfl rfl)
abbrev cX2_behind : ByteArray := prog_14_method_55_code
def yX2_behind : MethodName := ⟨RX2, "behind", "(III)I"⟩
def dkwX2_behind_3 : List UInt8 := [46, 172]
abbrev dktX2_behind_3 : List UInt8 := dkwX2_behind_3 ++ []
def dkwX2_behind_2 : List UInt8 := [180, 0, 22, 3, 184, 0, 130, 42, 28, 182, 0, 207, 42, 180, 0, 22, 16, 21, 8, 27, 104, 96, 29, 96]
abbrev dktX2_behind_2 : List UInt8 := dkwX2_behind_2 ++ dktX2_behind_3
def dkwX2_behind_1 : List UInt8 := [159, 0, 16, 29, 6, 159, 0, 11, 29, 7, 159, 0, 6, 16, 253, 172, 42, 180, 0, 19, 3, 42]
abbrev dktX2_behind_1 : List UInt8 := dkwX2_behind_1 ++ dktX2_behind_2
def dkwX2_behind_0 : List UInt8 := [42, 27, 182, 0, 194, 154, 0, 6, 16, 254, 172, 28, 3, 16, 60, 184, 0, 59, 153, 0, 18, 29, 4]
abbrev dktX2_behind_0 : List UInt8 := dkwX2_behind_0 ++ dktX2_behind_1
theorem dksX2_behind_0 : cX2_behind.data.toList.drop 0 = dktX2_behind_0 := by decide +kernel
theorem dksX2_behind_1 : cX2_behind.data.toList.drop 23 = dktX2_behind_1 := dk_seg dksX2_behind_0 23 rfl rfl
theorem dksX2_behind_2 : cX2_behind.data.toList.drop 45 = dktX2_behind_2 := dk_seg dksX2_behind_1 22 rfl rfl
theorem dksX2_behind_3 : cX2_behind.data.toList.drop 69 = dktX2_behind_3 := dk_seg dksX2_behind_2 24 rfl rfl
theorem dX2_behind_0 : decode cX2_behind 0 = .ok (.aload_n 0, 1) := dk_42 (dk_at dksX2_behind_0 0 rfl rfl)
theorem dX2_behind_1 : decode cX2_behind 1 = .ok (.iload_n 1, 1) := dk_27 (dk_at dksX2_behind_0 1 rfl rfl)
theorem dX2_behind_2 : decode cX2_behind 2 = .ok (.invokevirtual 194, 3) := dk_182 0 194 (dk_at dksX2_behind_0 2 rfl rfl)
theorem dX2_behind_5 : decode cX2_behind 5 = .ok (.ifCond .ne 6, 3) := dk_154 0 6 (dk_at dksX2_behind_0 5 rfl rfl)
theorem dX2_behind_8 : decode cX2_behind 8 = .ok (.bipush (-2), 2) := dk_16 254 (dk_at dksX2_behind_0 8 rfl rfl)
theorem dX2_behind_10 : decode cX2_behind 10 = .ok (.ireturn, 1) := dk_172 (dk_at dksX2_behind_0 10 rfl rfl)
theorem dX2_behind_11 : decode cX2_behind 11 = .ok (.iload_n 2, 1) := dk_28 (dk_at dksX2_behind_0 11 rfl rfl)
theorem dX2_behind_12 : decode cX2_behind 12 = .ok (.iconst 0, 1) := dk_3 (dk_at dksX2_behind_0 12 rfl rfl)
theorem dX2_behind_13 : decode cX2_behind 13 = .ok (.bipush 60, 2) := dk_16 60 (dk_at dksX2_behind_0 13 rfl rfl)
theorem dX2_behind_15 : decode cX2_behind 15 = .ok (.invokestatic 59, 3) := dk_184 0 59 (dk_at dksX2_behind_0 15 rfl rfl)
theorem dX2_behind_18 : decode cX2_behind 18 = .ok (.ifCond .eq 18, 3) := dk_153 0 18 (dk_at dksX2_behind_0 18 rfl rfl)
theorem dX2_behind_21 : decode cX2_behind 21 = .ok (.iload_n 3, 1) := dk_29 (dk_at dksX2_behind_0 21 rfl rfl)
theorem dX2_behind_22 : decode cX2_behind 22 = .ok (.iconst 1, 1) := dk_4 (dk_at dksX2_behind_0 22 rfl rfl)
theorem dX2_behind_23 : decode cX2_behind 23 = .ok (.if_icmp .eq 16, 3) := dk_159 0 16 (dk_at dksX2_behind_1 0 rfl rfl)
theorem dX2_behind_26 : decode cX2_behind 26 = .ok (.iload_n 3, 1) := dk_29 (dk_at dksX2_behind_1 3 rfl rfl)
theorem dX2_behind_27 : decode cX2_behind 27 = .ok (.iconst 3, 1) := dk_6 (dk_at dksX2_behind_1 4 rfl rfl)
theorem dX2_behind_28 : decode cX2_behind 28 = .ok (.if_icmp .eq 11, 3) := dk_159 0 11 (dk_at dksX2_behind_1 5 rfl rfl)
theorem dX2_behind_31 : decode cX2_behind 31 = .ok (.iload_n 3, 1) := dk_29 (dk_at dksX2_behind_1 8 rfl rfl)
theorem dX2_behind_32 : decode cX2_behind 32 = .ok (.iconst 4, 1) := dk_7 (dk_at dksX2_behind_1 9 rfl rfl)
theorem dX2_behind_33 : decode cX2_behind 33 = .ok (.if_icmp .eq 6, 3) := dk_159 0 6 (dk_at dksX2_behind_1 10 rfl rfl)
theorem dX2_behind_36 : decode cX2_behind 36 = .ok (.bipush (-3), 2) := dk_16 253 (dk_at dksX2_behind_1 13 rfl rfl)
theorem dX2_behind_38 : decode cX2_behind 38 = .ok (.ireturn, 1) := dk_172 (dk_at dksX2_behind_1 15 rfl rfl)
theorem dX2_behind_39 : decode cX2_behind 39 = .ok (.aload_n 0, 1) := dk_42 (dk_at dksX2_behind_1 16 rfl rfl)
theorem dX2_behind_40 : decode cX2_behind 40 = .ok (.getfield 19, 3) := dk_180 0 19 (dk_at dksX2_behind_1 17 rfl rfl)
theorem dX2_behind_43 : decode cX2_behind 43 = .ok (.iconst 0, 1) := dk_3 (dk_at dksX2_behind_1 20 rfl rfl)
theorem dX2_behind_44 : decode cX2_behind 44 = .ok (.aload_n 0, 1) := dk_42 (dk_at dksX2_behind_1 21 rfl rfl)
theorem dX2_behind_45 : decode cX2_behind 45 = .ok (.getfield 22, 3) := dk_180 0 22 (dk_at dksX2_behind_2 0 rfl rfl)
theorem dX2_behind_48 : decode cX2_behind 48 = .ok (.iconst 0, 1) := dk_3 (dk_at dksX2_behind_2 3 rfl rfl)
theorem dX2_behind_49 : decode cX2_behind 49 = .ok (.invokestatic 130, 3) := dk_184 0 130 (dk_at dksX2_behind_2 4 rfl rfl)
theorem dX2_behind_52 : decode cX2_behind 52 = .ok (.aload_n 0, 1) := dk_42 (dk_at dksX2_behind_2 7 rfl rfl)
theorem dX2_behind_53 : decode cX2_behind 53 = .ok (.iload_n 2, 1) := dk_28 (dk_at dksX2_behind_2 8 rfl rfl)
theorem dX2_behind_54 : decode cX2_behind 54 = .ok (.invokevirtual 207, 3) := dk_182 0 207 (dk_at dksX2_behind_2 9 rfl rfl)
theorem dX2_behind_57 : decode cX2_behind 57 = .ok (.aload_n 0, 1) := dk_42 (dk_at dksX2_behind_2 12 rfl rfl)
theorem dX2_behind_58 : decode cX2_behind 58 = .ok (.getfield 22, 3) := dk_180 0 22 (dk_at dksX2_behind_2 13 rfl rfl)
theorem dX2_behind_61 : decode cX2_behind 61 = .ok (.bipush 21, 2) := dk_16 21 (dk_at dksX2_behind_2 16 rfl rfl)
theorem dX2_behind_63 : decode cX2_behind 63 = .ok (.iconst 5, 1) := dk_8 (dk_at dksX2_behind_2 18 rfl rfl)
theorem dX2_behind_64 : decode cX2_behind 64 = .ok (.iload_n 1, 1) := dk_27 (dk_at dksX2_behind_2 19 rfl rfl)
theorem dX2_behind_65 : decode cX2_behind 65 = .ok (.imul, 1) := dk_104 (dk_at dksX2_behind_2 20 rfl rfl)
theorem dX2_behind_66 : decode cX2_behind 66 = .ok (.iadd, 1) := dk_96 (dk_at dksX2_behind_2 21 rfl rfl)
theorem dX2_behind_67 : decode cX2_behind 67 = .ok (.iload_n 3, 1) := dk_29 (dk_at dksX2_behind_2 22 rfl rfl)
theorem dX2_behind_68 : decode cX2_behind 68 = .ok (.iadd, 1) := dk_96 (dk_at dksX2_behind_2 23 rfl rfl)
theorem dX2_behind_69 : decode cX2_behind 69 = .ok (.iaload, 1) := dk_46 (dk_at dksX2_behind_3 0 rfl rfl)
theorem dX2_behind_70 : decode cX2_behind 70 = .ok (.ireturn, 1) := dk_172 (dk_at dksX2_behind_3 1 rfl rfl)
abbrev cX2_goesOn : ByteArray := prog_14_method_54_code
def yX2_goesOn : MethodName := ⟨RX2, "goesOn", "(I)V"⟩
def dkwX2_goesOn_0 : List UInt8 := [3, 61, 28, 27, 162, 0, 17, 42, 42, 180, 0, 22, 182, 0, 203, 132, 2, 1, 167, 255, 240, 177]
abbrev dktX2_goesOn_0 : List UInt8 := dkwX2_goesOn_0 ++ []
theorem dksX2_goesOn_0 : cX2_goesOn.data.toList.drop 0 = dktX2_goesOn_0 := by decide +kernel
theorem dX2_goesOn_0 : decode cX2_goesOn 0 = .ok (.iconst 0, 1) := dk_3 (dk_at dksX2_goesOn_0 0 rfl rfl)
theorem dX2_goesOn_1 : decode cX2_goesOn 1 = .ok (.istore_n 2, 1) := dk_61 (dk_at dksX2_goesOn_0 1 rfl rfl)
theorem dX2_goesOn_2 : decode cX2_goesOn 2 = .ok (.iload_n 2, 1) := dk_28 (dk_at dksX2_goesOn_0 2 rfl rfl)
theorem dX2_goesOn_3 : decode cX2_goesOn 3 = .ok (.iload_n 1, 1) := dk_27 (dk_at dksX2_goesOn_0 3 rfl rfl)
theorem dX2_goesOn_4 : decode cX2_goesOn 4 = .ok (.if_icmp .ge 17, 3) := dk_162 0 17 (dk_at dksX2_goesOn_0 4 rfl rfl)
theorem dX2_goesOn_7 : decode cX2_goesOn 7 = .ok (.aload_n 0, 1) := dk_42 (dk_at dksX2_goesOn_0 7 rfl rfl)
theorem dX2_goesOn_8 : decode cX2_goesOn 8 = .ok (.aload_n 0, 1) := dk_42 (dk_at dksX2_goesOn_0 8 rfl rfl)
theorem dX2_goesOn_9 : decode cX2_goesOn 9 = .ok (.getfield 22, 3) := dk_180 0 22 (dk_at dksX2_goesOn_0 9 rfl rfl)
theorem dX2_goesOn_12 : decode cX2_goesOn 12 = .ok (.invokevirtual 203, 3) := dk_182 0 203 (dk_at dksX2_goesOn_0 12 rfl rfl)
theorem dX2_goesOn_15 : decode cX2_goesOn 15 = .ok (.iinc 2 1, 3) := dk_132 2 1 (dk_at dksX2_goesOn_0 15 rfl rfl)
theorem dX2_goesOn_18 : decode cX2_goesOn 18 = .ok (.goto (-16), 3) := dk_167 255 240 (dk_at dksX2_goesOn_0 18 rfl rfl)
theorem dX2_goesOn_21 : decode cX2_goesOn 21 = .ok (.return_, 1) := dk_177 (dk_at dksX2_goesOn_0 21 rfl rfl)
abbrev cX2_nuts : ByteArray := prog_14_method_56_code
def yX2_nuts : MethodName := ⟨RX2, "nuts", "(II)I"⟩
def dkwX2_nuts_2 : List UInt8 := [27, 104, 96, 4, 96, 46, 172]
abbrev dktX2_nuts_2 : List UInt8 := dkwX2_nuts_2 ++ []
def dkwX2_nuts_1 : List UInt8 := [42, 180, 0, 19, 3, 42, 180, 0, 22, 3, 184, 0, 130, 42, 28, 182, 0, 207, 42, 180, 0, 22, 6, 5]
abbrev dktX2_nuts_1 : List UInt8 := dkwX2_nuts_1 ++ dktX2_nuts_2
def dkwX2_nuts_0 : List UInt8 := [42, 27, 182, 0, 188, 154, 0, 6, 16, 254, 172, 28, 3, 16, 60, 184, 0, 59, 154, 0, 6, 16, 253, 172]
abbrev dktX2_nuts_0 : List UInt8 := dkwX2_nuts_0 ++ dktX2_nuts_1
theorem dksX2_nuts_0 : cX2_nuts.data.toList.drop 0 = dktX2_nuts_0 := by decide +kernel
theorem dksX2_nuts_1 : cX2_nuts.data.toList.drop 24 = dktX2_nuts_1 := dk_seg dksX2_nuts_0 24 rfl rfl
theorem dksX2_nuts_2 : cX2_nuts.data.toList.drop 48 = dktX2_nuts_2 := dk_seg dksX2_nuts_1 24 rfl rfl
theorem dX2_nuts_0 : decode cX2_nuts 0 = .ok (.aload_n 0, 1) := dk_42 (dk_at dksX2_nuts_0 0 rfl rfl)
theorem dX2_nuts_1 : decode cX2_nuts 1 = .ok (.iload_n 1, 1) := dk_27 (dk_at dksX2_nuts_0 1 rfl rfl)
theorem dX2_nuts_2 : decode cX2_nuts 2 = .ok (.invokevirtual 188, 3) := dk_182 0 188 (dk_at dksX2_nuts_0 2 rfl rfl)
theorem dX2_nuts_5 : decode cX2_nuts 5 = .ok (.ifCond .ne 6, 3) := dk_154 0 6 (dk_at dksX2_nuts_0 5 rfl rfl)
theorem dX2_nuts_8 : decode cX2_nuts 8 = .ok (.bipush (-2), 2) := dk_16 254 (dk_at dksX2_nuts_0 8 rfl rfl)
theorem dX2_nuts_10 : decode cX2_nuts 10 = .ok (.ireturn, 1) := dk_172 (dk_at dksX2_nuts_0 10 rfl rfl)
theorem dX2_nuts_11 : decode cX2_nuts 11 = .ok (.iload_n 2, 1) := dk_28 (dk_at dksX2_nuts_0 11 rfl rfl)
theorem dX2_nuts_12 : decode cX2_nuts 12 = .ok (.iconst 0, 1) := dk_3 (dk_at dksX2_nuts_0 12 rfl rfl)
theorem dX2_nuts_13 : decode cX2_nuts 13 = .ok (.bipush 60, 2) := dk_16 60 (dk_at dksX2_nuts_0 13 rfl rfl)
theorem dX2_nuts_15 : decode cX2_nuts 15 = .ok (.invokestatic 59, 3) := dk_184 0 59 (dk_at dksX2_nuts_0 15 rfl rfl)
theorem dX2_nuts_18 : decode cX2_nuts 18 = .ok (.ifCond .ne 6, 3) := dk_154 0 6 (dk_at dksX2_nuts_0 18 rfl rfl)
theorem dX2_nuts_21 : decode cX2_nuts 21 = .ok (.bipush (-3), 2) := dk_16 253 (dk_at dksX2_nuts_0 21 rfl rfl)
theorem dX2_nuts_23 : decode cX2_nuts 23 = .ok (.ireturn, 1) := dk_172 (dk_at dksX2_nuts_0 23 rfl rfl)
theorem dX2_nuts_24 : decode cX2_nuts 24 = .ok (.aload_n 0, 1) := dk_42 (dk_at dksX2_nuts_1 0 rfl rfl)
theorem dX2_nuts_25 : decode cX2_nuts 25 = .ok (.getfield 19, 3) := dk_180 0 19 (dk_at dksX2_nuts_1 1 rfl rfl)
theorem dX2_nuts_28 : decode cX2_nuts 28 = .ok (.iconst 0, 1) := dk_3 (dk_at dksX2_nuts_1 4 rfl rfl)
theorem dX2_nuts_29 : decode cX2_nuts 29 = .ok (.aload_n 0, 1) := dk_42 (dk_at dksX2_nuts_1 5 rfl rfl)
theorem dX2_nuts_30 : decode cX2_nuts 30 = .ok (.getfield 22, 3) := dk_180 0 22 (dk_at dksX2_nuts_1 6 rfl rfl)
theorem dX2_nuts_33 : decode cX2_nuts 33 = .ok (.iconst 0, 1) := dk_3 (dk_at dksX2_nuts_1 9 rfl rfl)
theorem dX2_nuts_34 : decode cX2_nuts 34 = .ok (.invokestatic 130, 3) := dk_184 0 130 (dk_at dksX2_nuts_1 10 rfl rfl)
theorem dX2_nuts_37 : decode cX2_nuts 37 = .ok (.aload_n 0, 1) := dk_42 (dk_at dksX2_nuts_1 13 rfl rfl)
theorem dX2_nuts_38 : decode cX2_nuts 38 = .ok (.iload_n 2, 1) := dk_28 (dk_at dksX2_nuts_1 14 rfl rfl)
theorem dX2_nuts_39 : decode cX2_nuts 39 = .ok (.invokevirtual 207, 3) := dk_182 0 207 (dk_at dksX2_nuts_1 15 rfl rfl)
theorem dX2_nuts_42 : decode cX2_nuts 42 = .ok (.aload_n 0, 1) := dk_42 (dk_at dksX2_nuts_1 18 rfl rfl)
theorem dX2_nuts_43 : decode cX2_nuts 43 = .ok (.getfield 22, 3) := dk_180 0 22 (dk_at dksX2_nuts_1 19 rfl rfl)
theorem dX2_nuts_46 : decode cX2_nuts 46 = .ok (.iconst 3, 1) := dk_6 (dk_at dksX2_nuts_1 22 rfl rfl)
theorem dX2_nuts_47 : decode cX2_nuts 47 = .ok (.iconst 2, 1) := dk_5 (dk_at dksX2_nuts_1 23 rfl rfl)
theorem dX2_nuts_48 : decode cX2_nuts 48 = .ok (.iload_n 1, 1) := dk_27 (dk_at dksX2_nuts_2 0 rfl rfl)
theorem dX2_nuts_49 : decode cX2_nuts 49 = .ok (.imul, 1) := dk_104 (dk_at dksX2_nuts_2 1 rfl rfl)
theorem dX2_nuts_50 : decode cX2_nuts 50 = .ok (.iadd, 1) := dk_96 (dk_at dksX2_nuts_2 2 rfl rfl)
theorem dX2_nuts_51 : decode cX2_nuts 51 = .ok (.iconst 1, 1) := dk_4 (dk_at dksX2_nuts_2 3 rfl rfl)
theorem dX2_nuts_52 : decode cX2_nuts 52 = .ok (.iadd, 1) := dk_96 (dk_at dksX2_nuts_2 4 rfl rfl)
theorem dX2_nuts_53 : decode cX2_nuts 53 = .ok (.iaload, 1) := dk_46 (dk_at dksX2_nuts_2 5 rfl rfl)
theorem dX2_nuts_54 : decode cX2_nuts 54 = .ok (.ireturn, 1) := dk_172 (dk_at dksX2_nuts_2 6 rfl rfl)
abbrev cX2_hungry : ByteArray := prog_14_method_57_code
def yX2_hungry : MethodName := ⟨RX2, "hungry", "(I)I"⟩
def dkwX2_hungry_3 : List UInt8 := [162, 0, 5, 28, 172, 132, 2, 1, 167, 255, 205, 2, 172]
abbrev dktX2_hungry_3 : List UInt8 := dkwX2_hungry_3 ++ []
def dkwX2_hungry_2 : List UInt8 := [159, 0, 27, 42, 180, 0, 35, 27, 46, 42, 180, 0, 22, 16, 21, 8, 27, 104, 96, 5, 96, 46]
abbrev dktX2_hungry_2 : List UInt8 := dkwX2_hungry_2 ++ dktX2_hungry_3
def dkwX2_hungry_1 : List UInt8 := [4, 61, 28, 16, 61, 162, 0, 51, 42, 42, 180, 0, 22, 182, 0, 203, 42, 180, 0, 35, 27, 46, 2]
abbrev dktX2_hungry_1 : List UInt8 := dkwX2_hungry_1 ++ dktX2_hungry_2
def dkwX2_hungry_0 : List UInt8 := [42, 27, 182, 0, 194, 154, 0, 6, 16, 254, 172, 42, 180, 0, 19, 3, 42, 180, 0, 22, 3, 184, 0, 130]
abbrev dktX2_hungry_0 : List UInt8 := dkwX2_hungry_0 ++ dktX2_hungry_1
theorem dksX2_hungry_0 : cX2_hungry.data.toList.drop 0 = dktX2_hungry_0 := by decide +kernel
theorem dksX2_hungry_1 : cX2_hungry.data.toList.drop 24 = dktX2_hungry_1 := dk_seg dksX2_hungry_0 24 rfl rfl
theorem dksX2_hungry_2 : cX2_hungry.data.toList.drop 47 = dktX2_hungry_2 := dk_seg dksX2_hungry_1 23 rfl rfl
theorem dksX2_hungry_3 : cX2_hungry.data.toList.drop 69 = dktX2_hungry_3 := dk_seg dksX2_hungry_2 22 rfl rfl
theorem dX2_hungry_0 : decode cX2_hungry 0 = .ok (.aload_n 0, 1) := dk_42 (dk_at dksX2_hungry_0 0 rfl rfl)
theorem dX2_hungry_1 : decode cX2_hungry 1 = .ok (.iload_n 1, 1) := dk_27 (dk_at dksX2_hungry_0 1 rfl rfl)
theorem dX2_hungry_2 : decode cX2_hungry 2 = .ok (.invokevirtual 194, 3) := dk_182 0 194 (dk_at dksX2_hungry_0 2 rfl rfl)
theorem dX2_hungry_5 : decode cX2_hungry 5 = .ok (.ifCond .ne 6, 3) := dk_154 0 6 (dk_at dksX2_hungry_0 5 rfl rfl)
theorem dX2_hungry_8 : decode cX2_hungry 8 = .ok (.bipush (-2), 2) := dk_16 254 (dk_at dksX2_hungry_0 8 rfl rfl)
theorem dX2_hungry_10 : decode cX2_hungry 10 = .ok (.ireturn, 1) := dk_172 (dk_at dksX2_hungry_0 10 rfl rfl)
theorem dX2_hungry_11 : decode cX2_hungry 11 = .ok (.aload_n 0, 1) := dk_42 (dk_at dksX2_hungry_0 11 rfl rfl)
theorem dX2_hungry_12 : decode cX2_hungry 12 = .ok (.getfield 19, 3) := dk_180 0 19 (dk_at dksX2_hungry_0 12 rfl rfl)
theorem dX2_hungry_15 : decode cX2_hungry 15 = .ok (.iconst 0, 1) := dk_3 (dk_at dksX2_hungry_0 15 rfl rfl)
theorem dX2_hungry_16 : decode cX2_hungry 16 = .ok (.aload_n 0, 1) := dk_42 (dk_at dksX2_hungry_0 16 rfl rfl)
theorem dX2_hungry_17 : decode cX2_hungry 17 = .ok (.getfield 22, 3) := dk_180 0 22 (dk_at dksX2_hungry_0 17 rfl rfl)
theorem dX2_hungry_20 : decode cX2_hungry 20 = .ok (.iconst 0, 1) := dk_3 (dk_at dksX2_hungry_0 20 rfl rfl)
theorem dX2_hungry_21 : decode cX2_hungry 21 = .ok (.invokestatic 130, 3) := dk_184 0 130 (dk_at dksX2_hungry_0 21 rfl rfl)
theorem dX2_hungry_24 : decode cX2_hungry 24 = .ok (.iconst 1, 1) := dk_4 (dk_at dksX2_hungry_1 0 rfl rfl)
theorem dX2_hungry_25 : decode cX2_hungry 25 = .ok (.istore_n 2, 1) := dk_61 (dk_at dksX2_hungry_1 1 rfl rfl)
theorem dX2_hungry_26 : decode cX2_hungry 26 = .ok (.iload_n 2, 1) := dk_28 (dk_at dksX2_hungry_1 2 rfl rfl)
theorem dX2_hungry_27 : decode cX2_hungry 27 = .ok (.bipush 61, 2) := dk_16 61 (dk_at dksX2_hungry_1 3 rfl rfl)
theorem dX2_hungry_29 : decode cX2_hungry 29 = .ok (.if_icmp .ge 51, 3) := dk_162 0 51 (dk_at dksX2_hungry_1 5 rfl rfl)
theorem dX2_hungry_32 : decode cX2_hungry 32 = .ok (.aload_n 0, 1) := dk_42 (dk_at dksX2_hungry_1 8 rfl rfl)
theorem dX2_hungry_33 : decode cX2_hungry 33 = .ok (.aload_n 0, 1) := dk_42 (dk_at dksX2_hungry_1 9 rfl rfl)
theorem dX2_hungry_34 : decode cX2_hungry 34 = .ok (.getfield 22, 3) := dk_180 0 22 (dk_at dksX2_hungry_1 10 rfl rfl)
theorem dX2_hungry_37 : decode cX2_hungry 37 = .ok (.invokevirtual 203, 3) := dk_182 0 203 (dk_at dksX2_hungry_1 13 rfl rfl)
theorem dX2_hungry_40 : decode cX2_hungry 40 = .ok (.aload_n 0, 1) := dk_42 (dk_at dksX2_hungry_1 16 rfl rfl)
theorem dX2_hungry_41 : decode cX2_hungry 41 = .ok (.getfield 35, 3) := dk_180 0 35 (dk_at dksX2_hungry_1 17 rfl rfl)
theorem dX2_hungry_44 : decode cX2_hungry 44 = .ok (.iload_n 1, 1) := dk_27 (dk_at dksX2_hungry_1 20 rfl rfl)
theorem dX2_hungry_45 : decode cX2_hungry 45 = .ok (.iaload, 1) := dk_46 (dk_at dksX2_hungry_1 21 rfl rfl)
theorem dX2_hungry_46 : decode cX2_hungry 46 = .ok (.iconst (-1), 1) := dk_2 (dk_at dksX2_hungry_1 22 rfl rfl)
theorem dX2_hungry_47 : decode cX2_hungry 47 = .ok (.if_icmp .eq 27, 3) := dk_159 0 27 (dk_at dksX2_hungry_2 0 rfl rfl)
theorem dX2_hungry_50 : decode cX2_hungry 50 = .ok (.aload_n 0, 1) := dk_42 (dk_at dksX2_hungry_2 3 rfl rfl)
theorem dX2_hungry_51 : decode cX2_hungry 51 = .ok (.getfield 35, 3) := dk_180 0 35 (dk_at dksX2_hungry_2 4 rfl rfl)
theorem dX2_hungry_54 : decode cX2_hungry 54 = .ok (.iload_n 1, 1) := dk_27 (dk_at dksX2_hungry_2 7 rfl rfl)
theorem dX2_hungry_55 : decode cX2_hungry 55 = .ok (.iaload, 1) := dk_46 (dk_at dksX2_hungry_2 8 rfl rfl)
theorem dX2_hungry_56 : decode cX2_hungry 56 = .ok (.aload_n 0, 1) := dk_42 (dk_at dksX2_hungry_2 9 rfl rfl)
theorem dX2_hungry_57 : decode cX2_hungry 57 = .ok (.getfield 22, 3) := dk_180 0 22 (dk_at dksX2_hungry_2 10 rfl rfl)
theorem dX2_hungry_60 : decode cX2_hungry 60 = .ok (.bipush 21, 2) := dk_16 21 (dk_at dksX2_hungry_2 13 rfl rfl)
theorem dX2_hungry_62 : decode cX2_hungry 62 = .ok (.iconst 5, 1) := dk_8 (dk_at dksX2_hungry_2 15 rfl rfl)
theorem dX2_hungry_63 : decode cX2_hungry 63 = .ok (.iload_n 1, 1) := dk_27 (dk_at dksX2_hungry_2 16 rfl rfl)
theorem dX2_hungry_64 : decode cX2_hungry 64 = .ok (.imul, 1) := dk_104 (dk_at dksX2_hungry_2 17 rfl rfl)
theorem dX2_hungry_65 : decode cX2_hungry 65 = .ok (.iadd, 1) := dk_96 (dk_at dksX2_hungry_2 18 rfl rfl)
theorem dX2_hungry_66 : decode cX2_hungry 66 = .ok (.iconst 2, 1) := dk_5 (dk_at dksX2_hungry_2 19 rfl rfl)
theorem dX2_hungry_67 : decode cX2_hungry 67 = .ok (.iadd, 1) := dk_96 (dk_at dksX2_hungry_2 20 rfl rfl)
theorem dX2_hungry_68 : decode cX2_hungry 68 = .ok (.iaload, 1) := dk_46 (dk_at dksX2_hungry_2 21 rfl rfl)
theorem dX2_hungry_69 : decode cX2_hungry 69 = .ok (.if_icmp .ge 5, 3) := dk_162 0 5 (dk_at dksX2_hungry_3 0 rfl rfl)
theorem dX2_hungry_72 : decode cX2_hungry 72 = .ok (.iload_n 2, 1) := dk_28 (dk_at dksX2_hungry_3 3 rfl rfl)
theorem dX2_hungry_73 : decode cX2_hungry 73 = .ok (.ireturn, 1) := dk_172 (dk_at dksX2_hungry_3 4 rfl rfl)
theorem dX2_hungry_74 : decode cX2_hungry 74 = .ok (.iinc 2 1, 3) := dk_132 2 1 (dk_at dksX2_hungry_3 5 rfl rfl)
theorem dX2_hungry_77 : decode cX2_hungry 77 = .ok (.goto (-51), 3) := dk_167 255 205 (dk_at dksX2_hungry_3 8 rfl rfl)
theorem dX2_hungry_80 : decode cX2_hungry 80 = .ok (.iconst (-1), 1) := dk_2 (dk_at dksX2_hungry_3 11 rfl rfl)
theorem dX2_hungry_81 : decode cX2_hungry 81 = .ok (.ireturn, 1) := dk_172 (dk_at dksX2_hungry_3 12 rfl rfl)
abbrev cX2_lasts : ByteArray := prog_14_method_58_code
def yX2_lasts : MethodName := ⟨RX2, "lasts", "(I)I"⟩
def dkwX2_lasts_2 : List UInt8 := [180, 0, 22, 182, 0, 203, 132, 2, 1, 167, 255, 226, 2, 172]
abbrev dktX2_lasts_2 : List UInt8 := dkwX2_lasts_2 ++ []
def dkwX2_lasts_1 : List UInt8 := [3, 61, 28, 16, 61, 162, 0, 30, 42, 180, 0, 22, 27, 184, 0, 174, 153, 0, 5, 28, 172, 42, 42]
abbrev dktX2_lasts_1 : List UInt8 := dkwX2_lasts_1 ++ dktX2_lasts_2
def dkwX2_lasts_0 : List UInt8 := [42, 27, 182, 0, 194, 154, 0, 6, 16, 254, 172, 42, 180, 0, 19, 3, 42, 180, 0, 22, 3, 184, 0, 130]
abbrev dktX2_lasts_0 : List UInt8 := dkwX2_lasts_0 ++ dktX2_lasts_1
theorem dksX2_lasts_0 : cX2_lasts.data.toList.drop 0 = dktX2_lasts_0 := by decide +kernel
theorem dksX2_lasts_1 : cX2_lasts.data.toList.drop 24 = dktX2_lasts_1 := dk_seg dksX2_lasts_0 24 rfl rfl
theorem dksX2_lasts_2 : cX2_lasts.data.toList.drop 47 = dktX2_lasts_2 := dk_seg dksX2_lasts_1 23 rfl rfl
theorem dX2_lasts_0 : decode cX2_lasts 0 = .ok (.aload_n 0, 1) := dk_42 (dk_at dksX2_lasts_0 0 rfl rfl)
theorem dX2_lasts_1 : decode cX2_lasts 1 = .ok (.iload_n 1, 1) := dk_27 (dk_at dksX2_lasts_0 1 rfl rfl)
theorem dX2_lasts_2 : decode cX2_lasts 2 = .ok (.invokevirtual 194, 3) := dk_182 0 194 (dk_at dksX2_lasts_0 2 rfl rfl)
theorem dX2_lasts_5 : decode cX2_lasts 5 = .ok (.ifCond .ne 6, 3) := dk_154 0 6 (dk_at dksX2_lasts_0 5 rfl rfl)
theorem dX2_lasts_8 : decode cX2_lasts 8 = .ok (.bipush (-2), 2) := dk_16 254 (dk_at dksX2_lasts_0 8 rfl rfl)
theorem dX2_lasts_10 : decode cX2_lasts 10 = .ok (.ireturn, 1) := dk_172 (dk_at dksX2_lasts_0 10 rfl rfl)
theorem dX2_lasts_11 : decode cX2_lasts 11 = .ok (.aload_n 0, 1) := dk_42 (dk_at dksX2_lasts_0 11 rfl rfl)
theorem dX2_lasts_12 : decode cX2_lasts 12 = .ok (.getfield 19, 3) := dk_180 0 19 (dk_at dksX2_lasts_0 12 rfl rfl)
theorem dX2_lasts_15 : decode cX2_lasts 15 = .ok (.iconst 0, 1) := dk_3 (dk_at dksX2_lasts_0 15 rfl rfl)
theorem dX2_lasts_16 : decode cX2_lasts 16 = .ok (.aload_n 0, 1) := dk_42 (dk_at dksX2_lasts_0 16 rfl rfl)
theorem dX2_lasts_17 : decode cX2_lasts 17 = .ok (.getfield 22, 3) := dk_180 0 22 (dk_at dksX2_lasts_0 17 rfl rfl)
theorem dX2_lasts_20 : decode cX2_lasts 20 = .ok (.iconst 0, 1) := dk_3 (dk_at dksX2_lasts_0 20 rfl rfl)
theorem dX2_lasts_21 : decode cX2_lasts 21 = .ok (.invokestatic 130, 3) := dk_184 0 130 (dk_at dksX2_lasts_0 21 rfl rfl)
theorem dX2_lasts_24 : decode cX2_lasts 24 = .ok (.iconst 0, 1) := dk_3 (dk_at dksX2_lasts_1 0 rfl rfl)
theorem dX2_lasts_25 : decode cX2_lasts 25 = .ok (.istore_n 2, 1) := dk_61 (dk_at dksX2_lasts_1 1 rfl rfl)
theorem dX2_lasts_26 : decode cX2_lasts 26 = .ok (.iload_n 2, 1) := dk_28 (dk_at dksX2_lasts_1 2 rfl rfl)
theorem dX2_lasts_27 : decode cX2_lasts 27 = .ok (.bipush 61, 2) := dk_16 61 (dk_at dksX2_lasts_1 3 rfl rfl)
theorem dX2_lasts_29 : decode cX2_lasts 29 = .ok (.if_icmp .ge 30, 3) := dk_162 0 30 (dk_at dksX2_lasts_1 5 rfl rfl)
theorem dX2_lasts_32 : decode cX2_lasts 32 = .ok (.aload_n 0, 1) := dk_42 (dk_at dksX2_lasts_1 8 rfl rfl)
theorem dX2_lasts_33 : decode cX2_lasts 33 = .ok (.getfield 22, 3) := dk_180 0 22 (dk_at dksX2_lasts_1 9 rfl rfl)
theorem dX2_lasts_36 : decode cX2_lasts 36 = .ok (.iload_n 1, 1) := dk_27 (dk_at dksX2_lasts_1 12 rfl rfl)
theorem dX2_lasts_37 : decode cX2_lasts 37 = .ok (.invokestatic 174, 3) := dk_184 0 174 (dk_at dksX2_lasts_1 13 rfl rfl)
theorem dX2_lasts_40 : decode cX2_lasts 40 = .ok (.ifCond .eq 5, 3) := dk_153 0 5 (dk_at dksX2_lasts_1 16 rfl rfl)
theorem dX2_lasts_43 : decode cX2_lasts 43 = .ok (.iload_n 2, 1) := dk_28 (dk_at dksX2_lasts_1 19 rfl rfl)
theorem dX2_lasts_44 : decode cX2_lasts 44 = .ok (.ireturn, 1) := dk_172 (dk_at dksX2_lasts_1 20 rfl rfl)
theorem dX2_lasts_45 : decode cX2_lasts 45 = .ok (.aload_n 0, 1) := dk_42 (dk_at dksX2_lasts_1 21 rfl rfl)
theorem dX2_lasts_46 : decode cX2_lasts 46 = .ok (.aload_n 0, 1) := dk_42 (dk_at dksX2_lasts_1 22 rfl rfl)
theorem dX2_lasts_47 : decode cX2_lasts 47 = .ok (.getfield 22, 3) := dk_180 0 22 (dk_at dksX2_lasts_2 0 rfl rfl)
theorem dX2_lasts_50 : decode cX2_lasts 50 = .ok (.invokevirtual 203, 3) := dk_182 0 203 (dk_at dksX2_lasts_2 3 rfl rfl)
theorem dX2_lasts_53 : decode cX2_lasts 53 = .ok (.iinc 2 1, 3) := dk_132 2 1 (dk_at dksX2_lasts_2 6 rfl rfl)
theorem dX2_lasts_56 : decode cX2_lasts 56 = .ok (.goto (-30), 3) := dk_167 255 226 (dk_at dksX2_lasts_2 9 rfl rfl)
theorem dX2_lasts_59 : decode cX2_lasts 59 = .ok (.iconst (-1), 1) := dk_2 (dk_at dksX2_lasts_2 12 rfl rfl)
theorem dX2_lasts_60 : decode cX2_lasts 60 = .ok (.ireturn, 1) := dk_172 (dk_at dksX2_lasts_2 13 rfl rfl)
abbrev cX2_live : ByteArray := prog_14_method_59_code
def yX2_live : MethodName := ⟨RX2, "live", "(I)I"⟩
def dkwX2_live_1 : List UInt8 := [184, 0, 130, 42, 27, 182, 0, 207, 42, 180, 0, 22, 184, 0, 210, 184, 0, 213, 172]
abbrev dktX2_live_1 : List UInt8 := dkwX2_live_1 ++ []
def dkwX2_live_0 : List UInt8 := [27, 3, 16, 60, 184, 0, 59, 154, 0, 6, 16, 253, 172, 42, 180, 0, 19, 3, 42, 180, 0, 22, 3]
abbrev dktX2_live_0 : List UInt8 := dkwX2_live_0 ++ dktX2_live_1
theorem dksX2_live_0 : cX2_live.data.toList.drop 0 = dktX2_live_0 := by decide +kernel
theorem dksX2_live_1 : cX2_live.data.toList.drop 23 = dktX2_live_1 := dk_seg dksX2_live_0 23 rfl rfl
theorem dX2_live_0 : decode cX2_live 0 = .ok (.iload_n 1, 1) := dk_27 (dk_at dksX2_live_0 0 rfl rfl)
theorem dX2_live_1 : decode cX2_live 1 = .ok (.iconst 0, 1) := dk_3 (dk_at dksX2_live_0 1 rfl rfl)
theorem dX2_live_2 : decode cX2_live 2 = .ok (.bipush 60, 2) := dk_16 60 (dk_at dksX2_live_0 2 rfl rfl)
theorem dX2_live_4 : decode cX2_live 4 = .ok (.invokestatic 59, 3) := dk_184 0 59 (dk_at dksX2_live_0 4 rfl rfl)
theorem dX2_live_7 : decode cX2_live 7 = .ok (.ifCond .ne 6, 3) := dk_154 0 6 (dk_at dksX2_live_0 7 rfl rfl)
theorem dX2_live_10 : decode cX2_live 10 = .ok (.bipush (-3), 2) := dk_16 253 (dk_at dksX2_live_0 10 rfl rfl)
theorem dX2_live_12 : decode cX2_live 12 = .ok (.ireturn, 1) := dk_172 (dk_at dksX2_live_0 12 rfl rfl)
theorem dX2_live_13 : decode cX2_live 13 = .ok (.aload_n 0, 1) := dk_42 (dk_at dksX2_live_0 13 rfl rfl)
theorem dX2_live_14 : decode cX2_live 14 = .ok (.getfield 19, 3) := dk_180 0 19 (dk_at dksX2_live_0 14 rfl rfl)
theorem dX2_live_17 : decode cX2_live 17 = .ok (.iconst 0, 1) := dk_3 (dk_at dksX2_live_0 17 rfl rfl)
theorem dX2_live_18 : decode cX2_live 18 = .ok (.aload_n 0, 1) := dk_42 (dk_at dksX2_live_0 18 rfl rfl)
theorem dX2_live_19 : decode cX2_live 19 = .ok (.getfield 22, 3) := dk_180 0 22 (dk_at dksX2_live_0 19 rfl rfl)
theorem dX2_live_22 : decode cX2_live 22 = .ok (.iconst 0, 1) := dk_3 (dk_at dksX2_live_0 22 rfl rfl)
theorem dX2_live_23 : decode cX2_live 23 = .ok (.invokestatic 130, 3) := dk_184 0 130 (dk_at dksX2_live_1 0 rfl rfl)
theorem dX2_live_26 : decode cX2_live 26 = .ok (.aload_n 0, 1) := dk_42 (dk_at dksX2_live_1 3 rfl rfl)
theorem dX2_live_27 : decode cX2_live 27 = .ok (.iload_n 1, 1) := dk_27 (dk_at dksX2_live_1 4 rfl rfl)
theorem dX2_live_28 : decode cX2_live 28 = .ok (.invokevirtual 207, 3) := dk_182 0 207 (dk_at dksX2_live_1 5 rfl rfl)
theorem dX2_live_31 : decode cX2_live 31 = .ok (.aload_n 0, 1) := dk_42 (dk_at dksX2_live_1 8 rfl rfl)
theorem dX2_live_32 : decode cX2_live 32 = .ok (.getfield 22, 3) := dk_180 0 22 (dk_at dksX2_live_1 9 rfl rfl)
theorem dX2_live_35 : decode cX2_live 35 = .ok (.invokestatic 210, 3) := dk_184 0 210 (dk_at dksX2_live_1 12 rfl rfl)
theorem dX2_live_38 : decode cX2_live 38 = .ok (.invokestatic 213, 3) := dk_184 0 213 (dk_at dksX2_live_1 15 rfl rfl)
theorem dX2_live_41 : decode cX2_live 41 = .ok (.ireturn, 1) := dk_172 (dk_at dksX2_live_1 18 rfl rfl)
abbrev cX2_alive : ByteArray := prog_14_method_38_code
def yX2_alive : MethodName := ⟨RX2, "alive", "([I)I"⟩
def dkwX2_alive_1 : List UInt8 := [4, 28, 120, 128, 60, 132, 2, 1, 167, 255, 228, 27, 172]
abbrev dktX2_alive_1 : List UInt8 := dkwX2_alive_1 ++ []
def dkwX2_alive_0 : List UInt8 := [3, 60, 3, 61, 28, 42, 4, 46, 162, 0, 27, 27, 42, 28, 184, 0, 174, 153, 0, 7, 3, 167, 0, 6]
abbrev dktX2_alive_0 : List UInt8 := dkwX2_alive_0 ++ dktX2_alive_1
theorem dksX2_alive_0 : cX2_alive.data.toList.drop 0 = dktX2_alive_0 := by decide +kernel
theorem dksX2_alive_1 : cX2_alive.data.toList.drop 24 = dktX2_alive_1 := dk_seg dksX2_alive_0 24 rfl rfl
theorem dX2_alive_0 : decode cX2_alive 0 = .ok (.iconst 0, 1) := dk_3 (dk_at dksX2_alive_0 0 rfl rfl)
theorem dX2_alive_1 : decode cX2_alive 1 = .ok (.istore_n 1, 1) := dk_60 (dk_at dksX2_alive_0 1 rfl rfl)
theorem dX2_alive_2 : decode cX2_alive 2 = .ok (.iconst 0, 1) := dk_3 (dk_at dksX2_alive_0 2 rfl rfl)
theorem dX2_alive_3 : decode cX2_alive 3 = .ok (.istore_n 2, 1) := dk_61 (dk_at dksX2_alive_0 3 rfl rfl)
theorem dX2_alive_4 : decode cX2_alive 4 = .ok (.iload_n 2, 1) := dk_28 (dk_at dksX2_alive_0 4 rfl rfl)
theorem dX2_alive_5 : decode cX2_alive 5 = .ok (.aload_n 0, 1) := dk_42 (dk_at dksX2_alive_0 5 rfl rfl)
theorem dX2_alive_6 : decode cX2_alive 6 = .ok (.iconst 1, 1) := dk_4 (dk_at dksX2_alive_0 6 rfl rfl)
theorem dX2_alive_7 : decode cX2_alive 7 = .ok (.iaload, 1) := dk_46 (dk_at dksX2_alive_0 7 rfl rfl)
theorem dX2_alive_8 : decode cX2_alive 8 = .ok (.if_icmp .ge 27, 3) := dk_162 0 27 (dk_at dksX2_alive_0 8 rfl rfl)
theorem dX2_alive_11 : decode cX2_alive 11 = .ok (.iload_n 1, 1) := dk_27 (dk_at dksX2_alive_0 11 rfl rfl)
theorem dX2_alive_12 : decode cX2_alive 12 = .ok (.aload_n 0, 1) := dk_42 (dk_at dksX2_alive_0 12 rfl rfl)
theorem dX2_alive_13 : decode cX2_alive 13 = .ok (.iload_n 2, 1) := dk_28 (dk_at dksX2_alive_0 13 rfl rfl)
theorem dX2_alive_14 : decode cX2_alive 14 = .ok (.invokestatic 174, 3) := dk_184 0 174 (dk_at dksX2_alive_0 14 rfl rfl)
theorem dX2_alive_17 : decode cX2_alive 17 = .ok (.ifCond .eq 7, 3) := dk_153 0 7 (dk_at dksX2_alive_0 17 rfl rfl)
theorem dX2_alive_20 : decode cX2_alive 20 = .ok (.iconst 0, 1) := dk_3 (dk_at dksX2_alive_0 20 rfl rfl)
theorem dX2_alive_21 : decode cX2_alive 21 = .ok (.goto 6, 3) := dk_167 0 6 (dk_at dksX2_alive_0 21 rfl rfl)
theorem dX2_alive_24 : decode cX2_alive 24 = .ok (.iconst 1, 1) := dk_4 (dk_at dksX2_alive_1 0 rfl rfl)
theorem dX2_alive_25 : decode cX2_alive 25 = .ok (.iload_n 2, 1) := dk_28 (dk_at dksX2_alive_1 1 rfl rfl)
theorem dX2_alive_26 : decode cX2_alive 26 = .ok (.ishl, 1) := dk_120 (dk_at dksX2_alive_1 2 rfl rfl)
theorem dX2_alive_27 : decode cX2_alive 27 = .ok (.ior, 1) := dk_128 (dk_at dksX2_alive_1 3 rfl rfl)
theorem dX2_alive_28 : decode cX2_alive 28 = .ok (.istore_n 1, 1) := dk_60 (dk_at dksX2_alive_1 4 rfl rfl)
theorem dX2_alive_29 : decode cX2_alive 29 = .ok (.iinc 2 1, 3) := dk_132 2 1 (dk_at dksX2_alive_1 5 rfl rfl)
theorem dX2_alive_32 : decode cX2_alive 32 = .ok (.goto (-28), 3) := dk_167 255 228 (dk_at dksX2_alive_1 8 rfl rfl)
theorem dX2_alive_35 : decode cX2_alive 35 = .ok (.iload_n 1, 1) := dk_27 (dk_at dksX2_alive_1 11 rfl rfl)
theorem dX2_alive_36 : decode cX2_alive 36 = .ok (.ireturn, 1) := dk_172 (dk_at dksX2_alive_1 12 rfl rfl)
abbrev cX2_ones : ByteArray := prog_14_method_6_code
def yX2_ones : MethodName := ⟨RX2, "ones", "(I)I"⟩
def dkwX2_ones_1 : List UInt8 := [27, 172]
abbrev dktX2_ones_1 : List UInt8 := dkwX2_ones_1 ++ []
def dkwX2_ones_0 : List UInt8 := [3, 60, 3, 61, 28, 16, 9, 162, 0, 17, 27, 26, 28, 122, 4, 126, 96, 60, 132, 2, 1, 167, 255, 239]
abbrev dktX2_ones_0 : List UInt8 := dkwX2_ones_0 ++ dktX2_ones_1
theorem dksX2_ones_0 : cX2_ones.data.toList.drop 0 = dktX2_ones_0 := by decide +kernel
theorem dksX2_ones_1 : cX2_ones.data.toList.drop 24 = dktX2_ones_1 := dk_seg dksX2_ones_0 24 rfl rfl
theorem dX2_ones_0 : decode cX2_ones 0 = .ok (.iconst 0, 1) := dk_3 (dk_at dksX2_ones_0 0 rfl rfl)
theorem dX2_ones_1 : decode cX2_ones 1 = .ok (.istore_n 1, 1) := dk_60 (dk_at dksX2_ones_0 1 rfl rfl)
theorem dX2_ones_2 : decode cX2_ones 2 = .ok (.iconst 0, 1) := dk_3 (dk_at dksX2_ones_0 2 rfl rfl)
theorem dX2_ones_3 : decode cX2_ones 3 = .ok (.istore_n 2, 1) := dk_61 (dk_at dksX2_ones_0 3 rfl rfl)
theorem dX2_ones_4 : decode cX2_ones 4 = .ok (.iload_n 2, 1) := dk_28 (dk_at dksX2_ones_0 4 rfl rfl)
theorem dX2_ones_5 : decode cX2_ones 5 = .ok (.bipush 9, 2) := dk_16 9 (dk_at dksX2_ones_0 5 rfl rfl)
theorem dX2_ones_7 : decode cX2_ones 7 = .ok (.if_icmp .ge 17, 3) := dk_162 0 17 (dk_at dksX2_ones_0 7 rfl rfl)
theorem dX2_ones_10 : decode cX2_ones 10 = .ok (.iload_n 1, 1) := dk_27 (dk_at dksX2_ones_0 10 rfl rfl)
theorem dX2_ones_11 : decode cX2_ones 11 = .ok (.iload_n 0, 1) := dk_26 (dk_at dksX2_ones_0 11 rfl rfl)
theorem dX2_ones_12 : decode cX2_ones 12 = .ok (.iload_n 2, 1) := dk_28 (dk_at dksX2_ones_0 12 rfl rfl)
theorem dX2_ones_13 : decode cX2_ones 13 = .ok (.ishr, 1) := dk_122 (dk_at dksX2_ones_0 13 rfl rfl)
theorem dX2_ones_14 : decode cX2_ones 14 = .ok (.iconst 1, 1) := dk_4 (dk_at dksX2_ones_0 14 rfl rfl)
theorem dX2_ones_15 : decode cX2_ones 15 = .ok (.iand, 1) := dk_126 (dk_at dksX2_ones_0 15 rfl rfl)
theorem dX2_ones_16 : decode cX2_ones 16 = .ok (.iadd, 1) := dk_96 (dk_at dksX2_ones_0 16 rfl rfl)
theorem dX2_ones_17 : decode cX2_ones 17 = .ok (.istore_n 1, 1) := dk_60 (dk_at dksX2_ones_0 17 rfl rfl)
theorem dX2_ones_18 : decode cX2_ones 18 = .ok (.iinc 2 1, 3) := dk_132 2 1 (dk_at dksX2_ones_0 18 rfl rfl)
theorem dX2_ones_21 : decode cX2_ones 21 = .ok (.goto (-17), 3) := dk_167 255 239 (dk_at dksX2_ones_0 21 rfl rfl)
theorem dX2_ones_24 : decode cX2_ones 24 = .ok (.iload_n 1, 1) := dk_27 (dk_at dksX2_ones_1 0 rfl rfl)
theorem dX2_ones_25 : decode cX2_ones 25 = .ok (.ireturn, 1) := dk_172 (dk_at dksX2_ones_1 1 rfl rfl)
abbrev cX2_enough : ByteArray := prog_14_method_61_code
def yX2_enough : MethodName := ⟨RX2, "enough", "(II)I"⟩
def dkwX2_enough_4 : List UInt8 := [160, 0, 6, 21, 4, 172, 132, 4, 1, 167, 255, 183, 2, 172]
abbrev dktX2_enough_4 : List UInt8 := dkwX2_enough_4 ++ []
def dkwX2_enough_3 : List UInt8 := [46, 21, 4, 96, 79, 42, 28, 182, 0, 207, 42, 180, 0, 22, 184, 0, 210, 42, 180, 0, 19, 184, 0, 210]
abbrev dktX2_enough_3 : List UInt8 := dkwX2_enough_3 ++ dktX2_enough_4
def dkwX2_enough_2 : List UInt8 := [16, 100, 162, 0, 58, 42, 180, 0, 19, 3, 42, 180, 0, 22, 3, 184, 0, 130, 42, 180, 0, 22, 29, 92]
abbrev dktX2_enough_2 : List UInt8 := dkwX2_enough_2 ++ dktX2_enough_3
def dkwX2_enough_1 : List UInt8 := [104, 96, 4, 96, 62, 3, 54, 4, 21, 4, 16, 61, 162, 0, 72, 42, 180, 0, 19, 29, 46, 21, 4, 96]
abbrev dktX2_enough_1 : List UInt8 := dkwX2_enough_1 ++ dktX2_enough_2
def dkwX2_enough_0 : List UInt8 := [42, 27, 182, 0, 188, 154, 0, 6, 16, 254, 172, 28, 184, 0, 216, 154, 0, 6, 16, 253, 172, 6, 5, 27]
abbrev dktX2_enough_0 : List UInt8 := dkwX2_enough_0 ++ dktX2_enough_1
theorem dksX2_enough_0 : cX2_enough.data.toList.drop 0 = dktX2_enough_0 := by decide +kernel
theorem dksX2_enough_1 : cX2_enough.data.toList.drop 24 = dktX2_enough_1 := dk_seg dksX2_enough_0 24 rfl rfl
theorem dksX2_enough_2 : cX2_enough.data.toList.drop 48 = dktX2_enough_2 := dk_seg dksX2_enough_1 24 rfl rfl
theorem dksX2_enough_3 : cX2_enough.data.toList.drop 72 = dktX2_enough_3 := dk_seg dksX2_enough_2 24 rfl rfl
theorem dksX2_enough_4 : cX2_enough.data.toList.drop 96 = dktX2_enough_4 := dk_seg dksX2_enough_3 24 rfl rfl
theorem dX2_enough_0 : decode cX2_enough 0 = .ok (.aload_n 0, 1) := dk_42 (dk_at dksX2_enough_0 0 rfl rfl)
theorem dX2_enough_1 : decode cX2_enough 1 = .ok (.iload_n 1, 1) := dk_27 (dk_at dksX2_enough_0 1 rfl rfl)
theorem dX2_enough_2 : decode cX2_enough 2 = .ok (.invokevirtual 188, 3) := dk_182 0 188 (dk_at dksX2_enough_0 2 rfl rfl)
theorem dX2_enough_5 : decode cX2_enough 5 = .ok (.ifCond .ne 6, 3) := dk_154 0 6 (dk_at dksX2_enough_0 5 rfl rfl)
theorem dX2_enough_8 : decode cX2_enough 8 = .ok (.bipush (-2), 2) := dk_16 254 (dk_at dksX2_enough_0 8 rfl rfl)
theorem dX2_enough_10 : decode cX2_enough 10 = .ok (.ireturn, 1) := dk_172 (dk_at dksX2_enough_0 10 rfl rfl)
theorem dX2_enough_11 : decode cX2_enough 11 = .ok (.iload_n 2, 1) := dk_28 (dk_at dksX2_enough_0 11 rfl rfl)
theorem dX2_enough_12 : decode cX2_enough 12 = .ok (.invokestatic 216, 3) := dk_184 0 216 (dk_at dksX2_enough_0 12 rfl rfl)
theorem dX2_enough_15 : decode cX2_enough 15 = .ok (.ifCond .ne 6, 3) := dk_154 0 6 (dk_at dksX2_enough_0 15 rfl rfl)
theorem dX2_enough_18 : decode cX2_enough 18 = .ok (.bipush (-3), 2) := dk_16 253 (dk_at dksX2_enough_0 18 rfl rfl)
theorem dX2_enough_20 : decode cX2_enough 20 = .ok (.ireturn, 1) := dk_172 (dk_at dksX2_enough_0 20 rfl rfl)
theorem dX2_enough_21 : decode cX2_enough 21 = .ok (.iconst 3, 1) := dk_6 (dk_at dksX2_enough_0 21 rfl rfl)
theorem dX2_enough_22 : decode cX2_enough 22 = .ok (.iconst 2, 1) := dk_5 (dk_at dksX2_enough_0 22 rfl rfl)
theorem dX2_enough_23 : decode cX2_enough 23 = .ok (.iload_n 1, 1) := dk_27 (dk_at dksX2_enough_0 23 rfl rfl)
theorem dX2_enough_24 : decode cX2_enough 24 = .ok (.imul, 1) := dk_104 (dk_at dksX2_enough_1 0 rfl rfl)
theorem dX2_enough_25 : decode cX2_enough 25 = .ok (.iadd, 1) := dk_96 (dk_at dksX2_enough_1 1 rfl rfl)
theorem dX2_enough_26 : decode cX2_enough 26 = .ok (.iconst 1, 1) := dk_4 (dk_at dksX2_enough_1 2 rfl rfl)
theorem dX2_enough_27 : decode cX2_enough 27 = .ok (.iadd, 1) := dk_96 (dk_at dksX2_enough_1 3 rfl rfl)
theorem dX2_enough_28 : decode cX2_enough 28 = .ok (.istore_n 3, 1) := dk_62 (dk_at dksX2_enough_1 4 rfl rfl)
theorem dX2_enough_29 : decode cX2_enough 29 = .ok (.iconst 0, 1) := dk_3 (dk_at dksX2_enough_1 5 rfl rfl)
theorem dX2_enough_30 : decode cX2_enough 30 = .ok (.istore 4, 2) := dk_54 4 (dk_at dksX2_enough_1 6 rfl rfl)
theorem dX2_enough_32 : decode cX2_enough 32 = .ok (.iload 4, 2) := dk_21 4 (dk_at dksX2_enough_1 8 rfl rfl)
theorem dX2_enough_34 : decode cX2_enough 34 = .ok (.bipush 61, 2) := dk_16 61 (dk_at dksX2_enough_1 10 rfl rfl)
theorem dX2_enough_36 : decode cX2_enough 36 = .ok (.if_icmp .ge 72, 3) := dk_162 0 72 (dk_at dksX2_enough_1 12 rfl rfl)
theorem dX2_enough_39 : decode cX2_enough 39 = .ok (.aload_n 0, 1) := dk_42 (dk_at dksX2_enough_1 15 rfl rfl)
theorem dX2_enough_40 : decode cX2_enough 40 = .ok (.getfield 19, 3) := dk_180 0 19 (dk_at dksX2_enough_1 16 rfl rfl)
theorem dX2_enough_43 : decode cX2_enough 43 = .ok (.iload_n 3, 1) := dk_29 (dk_at dksX2_enough_1 19 rfl rfl)
theorem dX2_enough_44 : decode cX2_enough 44 = .ok (.iaload, 1) := dk_46 (dk_at dksX2_enough_1 20 rfl rfl)
theorem dX2_enough_45 : decode cX2_enough 45 = .ok (.iload 4, 2) := dk_21 4 (dk_at dksX2_enough_1 21 rfl rfl)
theorem dX2_enough_47 : decode cX2_enough 47 = .ok (.iadd, 1) := dk_96 (dk_at dksX2_enough_1 23 rfl rfl)
theorem dX2_enough_48 : decode cX2_enough 48 = .ok (.bipush 100, 2) := dk_16 100 (dk_at dksX2_enough_2 0 rfl rfl)
theorem dX2_enough_50 : decode cX2_enough 50 = .ok (.if_icmp .ge 58, 3) := dk_162 0 58 (dk_at dksX2_enough_2 2 rfl rfl)
theorem dX2_enough_53 : decode cX2_enough 53 = .ok (.aload_n 0, 1) := dk_42 (dk_at dksX2_enough_2 5 rfl rfl)
theorem dX2_enough_54 : decode cX2_enough 54 = .ok (.getfield 19, 3) := dk_180 0 19 (dk_at dksX2_enough_2 6 rfl rfl)
theorem dX2_enough_57 : decode cX2_enough 57 = .ok (.iconst 0, 1) := dk_3 (dk_at dksX2_enough_2 9 rfl rfl)
theorem dX2_enough_58 : decode cX2_enough 58 = .ok (.aload_n 0, 1) := dk_42 (dk_at dksX2_enough_2 10 rfl rfl)
theorem dX2_enough_59 : decode cX2_enough 59 = .ok (.getfield 22, 3) := dk_180 0 22 (dk_at dksX2_enough_2 11 rfl rfl)
theorem dX2_enough_62 : decode cX2_enough 62 = .ok (.iconst 0, 1) := dk_3 (dk_at dksX2_enough_2 14 rfl rfl)
theorem dX2_enough_63 : decode cX2_enough 63 = .ok (.invokestatic 130, 3) := dk_184 0 130 (dk_at dksX2_enough_2 15 rfl rfl)
theorem dX2_enough_66 : decode cX2_enough 66 = .ok (.aload_n 0, 1) := dk_42 (dk_at dksX2_enough_2 18 rfl rfl)
theorem dX2_enough_67 : decode cX2_enough 67 = .ok (.getfield 22, 3) := dk_180 0 22 (dk_at dksX2_enough_2 19 rfl rfl)
theorem dX2_enough_70 : decode cX2_enough 70 = .ok (.iload_n 3, 1) := dk_29 (dk_at dksX2_enough_2 22 rfl rfl)
theorem dX2_enough_71 : decode cX2_enough 71 = .ok (.dup2, 1) := dk_92 (dk_at dksX2_enough_2 23 rfl rfl)
theorem dX2_enough_72 : decode cX2_enough 72 = .ok (.iaload, 1) := dk_46 (dk_at dksX2_enough_3 0 rfl rfl)
theorem dX2_enough_73 : decode cX2_enough 73 = .ok (.iload 4, 2) := dk_21 4 (dk_at dksX2_enough_3 1 rfl rfl)
theorem dX2_enough_75 : decode cX2_enough 75 = .ok (.iadd, 1) := dk_96 (dk_at dksX2_enough_3 3 rfl rfl)
theorem dX2_enough_76 : decode cX2_enough 76 = .ok (.iastore, 1) := dk_79 (dk_at dksX2_enough_3 4 rfl rfl)
theorem dX2_enough_77 : decode cX2_enough 77 = .ok (.aload_n 0, 1) := dk_42 (dk_at dksX2_enough_3 5 rfl rfl)
theorem dX2_enough_78 : decode cX2_enough 78 = .ok (.iload_n 2, 1) := dk_28 (dk_at dksX2_enough_3 6 rfl rfl)
theorem dX2_enough_79 : decode cX2_enough 79 = .ok (.invokevirtual 207, 3) := dk_182 0 207 (dk_at dksX2_enough_3 7 rfl rfl)
theorem dX2_enough_82 : decode cX2_enough 82 = .ok (.aload_n 0, 1) := dk_42 (dk_at dksX2_enough_3 10 rfl rfl)
theorem dX2_enough_83 : decode cX2_enough 83 = .ok (.getfield 22, 3) := dk_180 0 22 (dk_at dksX2_enough_3 11 rfl rfl)
theorem dX2_enough_86 : decode cX2_enough 86 = .ok (.invokestatic 210, 3) := dk_184 0 210 (dk_at dksX2_enough_3 14 rfl rfl)
theorem dX2_enough_89 : decode cX2_enough 89 = .ok (.aload_n 0, 1) := dk_42 (dk_at dksX2_enough_3 17 rfl rfl)
theorem dX2_enough_90 : decode cX2_enough 90 = .ok (.getfield 19, 3) := dk_180 0 19 (dk_at dksX2_enough_3 18 rfl rfl)
theorem dX2_enough_93 : decode cX2_enough 93 = .ok (.invokestatic 210, 3) := dk_184 0 210 (dk_at dksX2_enough_3 21 rfl rfl)
theorem dX2_enough_96 : decode cX2_enough 96 = .ok (.if_icmp .ne 6, 3) := dk_160 0 6 (dk_at dksX2_enough_4 0 rfl rfl)
theorem dX2_enough_99 : decode cX2_enough 99 = .ok (.iload 4, 2) := dk_21 4 (dk_at dksX2_enough_4 3 rfl rfl)
theorem dX2_enough_101 : decode cX2_enough 101 = .ok (.ireturn, 1) := dk_172 (dk_at dksX2_enough_4 5 rfl rfl)
theorem dX2_enough_102 : decode cX2_enough 102 = .ok (.iinc 4 1, 3) := dk_132 4 1 (dk_at dksX2_enough_4 6 rfl rfl)
theorem dX2_enough_105 : decode cX2_enough 105 = .ok (.goto (-73), 3) := dk_167 255 183 (dk_at dksX2_enough_4 9 rfl rfl)
theorem dX2_enough_108 : decode cX2_enough 108 = .ok (.iconst (-1), 1) := dk_2 (dk_at dksX2_enough_4 12 rfl rfl)
theorem dX2_enough_109 : decode cX2_enough 109 = .ok (.ireturn, 1) := dk_172 (dk_at dksX2_enough_4 13 rfl rfl)
abbrev cX2_isNear : ByteArray := prog_14_method_60_code
def yX2_isNear : MethodName := ⟨RX2, "isNear", "(I)Z"⟩
def dkwX2_isNear_0 : List UInt8 := [26, 4, 16, 20, 184, 0, 59, 172]
abbrev dktX2_isNear_0 : List UInt8 := dkwX2_isNear_0 ++ []
theorem dksX2_isNear_0 : cX2_isNear.data.toList.drop 0 = dktX2_isNear_0 := by decide +kernel
theorem dX2_isNear_0 : decode cX2_isNear 0 = .ok (.iload_n 0, 1) := dk_26 (dk_at dksX2_isNear_0 0 rfl rfl)
theorem dX2_isNear_1 : decode cX2_isNear 1 = .ok (.iconst 1, 1) := dk_4 (dk_at dksX2_isNear_0 1 rfl rfl)
theorem dX2_isNear_2 : decode cX2_isNear 2 = .ok (.bipush 20, 2) := dk_16 20 (dk_at dksX2_isNear_0 2 rfl rfl)
theorem dX2_isNear_4 : decode cX2_isNear 4 = .ok (.invokestatic 59, 3) := dk_184 0 59 (dk_at dksX2_isNear_0 4 rfl rfl)
theorem dX2_isNear_7 : decode cX2_isNear 7 = .ok (.ireturn, 1) := dk_172 (dk_at dksX2_isNear_0 7 rfl rfl)
abbrev cX2_worst : ByteArray := prog_14_method_62_code
def yX2_worst : MethodName := ⟨RX2, "worst", "(II)I"⟩
def dkwX2_worst_6 : List UInt8 := [21, 4, 172]
abbrev dktX2_worst_6 : List UInt8 := dkwX2_worst_6 ++ []
def dkwX2_worst_5 : List UInt8 := [21, 6, 167, 0, 5, 21, 4, 54, 4, 132, 5, 1, 167, 255, 153, 28, 154, 0, 7, 29, 167, 0, 5]
abbrev dktX2_worst_5 : List UInt8 := dkwX2_worst_5 ++ dktX2_worst_6
def dkwX2_worst_4 : List UInt8 := [167, 0, 4, 3, 54, 7, 21, 7, 153, 0, 8, 21, 5, 167, 0, 4, 29, 62, 21, 7, 153, 0, 8]
abbrev dktX2_worst_4 : List UInt8 := dkwX2_worst_4 ++ dktX2_worst_5
def dkwX2_worst_3 : List UInt8 := [180, 0, 22, 184, 0, 210, 184, 0, 213, 54, 6, 29, 2, 159, 0, 10, 21, 6, 21, 4, 162, 0, 7, 4]
abbrev dktX2_worst_3 : List UInt8 := dkwX2_worst_3 ++ dktX2_worst_4
def dkwX2_worst_2 : List UInt8 := [184, 0, 130, 42, 180, 0, 22, 6, 5, 21, 5, 104, 96, 4, 96, 3, 79, 42, 27, 182, 0, 207, 42]
abbrev dktX2_worst_2 : List UInt8 := dkwX2_worst_2 ++ dktX2_worst_3
def dkwX2_worst_1 : List UInt8 := [3, 54, 5, 21, 5, 42, 180, 0, 19, 3, 46, 162, 0, 98, 42, 180, 0, 19, 3, 42, 180, 0, 22, 3]
abbrev dktX2_worst_1 : List UInt8 := dkwX2_worst_1 ++ dktX2_worst_2
def dkwX2_worst_0 : List UInt8 := [27, 184, 0, 216, 153, 0, 12, 28, 3, 4, 184, 0, 59, 154, 0, 6, 16, 253, 172, 2, 62, 2, 54, 4]
abbrev dktX2_worst_0 : List UInt8 := dkwX2_worst_0 ++ dktX2_worst_1
theorem dksX2_worst_0 : cX2_worst.data.toList.drop 0 = dktX2_worst_0 := by decide +kernel
theorem dksX2_worst_1 : cX2_worst.data.toList.drop 24 = dktX2_worst_1 := dk_seg dksX2_worst_0 24 rfl rfl
theorem dksX2_worst_2 : cX2_worst.data.toList.drop 48 = dktX2_worst_2 := dk_seg dksX2_worst_1 24 rfl rfl
theorem dksX2_worst_3 : cX2_worst.data.toList.drop 71 = dktX2_worst_3 := dk_seg dksX2_worst_2 23 rfl rfl
theorem dksX2_worst_4 : cX2_worst.data.toList.drop 95 = dktX2_worst_4 := dk_seg dksX2_worst_3 24 rfl rfl
theorem dksX2_worst_5 : cX2_worst.data.toList.drop 118 = dktX2_worst_5 := dk_seg dksX2_worst_4 23 rfl rfl
theorem dksX2_worst_6 : cX2_worst.data.toList.drop 141 = dktX2_worst_6 := dk_seg dksX2_worst_5 23 rfl rfl
theorem dX2_worst_0 : decode cX2_worst 0 = .ok (.iload_n 1, 1) := dk_27 (dk_at dksX2_worst_0 0 rfl rfl)
theorem dX2_worst_1 : decode cX2_worst 1 = .ok (.invokestatic 216, 3) := dk_184 0 216 (dk_at dksX2_worst_0 1 rfl rfl)
theorem dX2_worst_4 : decode cX2_worst 4 = .ok (.ifCond .eq 12, 3) := dk_153 0 12 (dk_at dksX2_worst_0 4 rfl rfl)
theorem dX2_worst_7 : decode cX2_worst 7 = .ok (.iload_n 2, 1) := dk_28 (dk_at dksX2_worst_0 7 rfl rfl)
theorem dX2_worst_8 : decode cX2_worst 8 = .ok (.iconst 0, 1) := dk_3 (dk_at dksX2_worst_0 8 rfl rfl)
theorem dX2_worst_9 : decode cX2_worst 9 = .ok (.iconst 1, 1) := dk_4 (dk_at dksX2_worst_0 9 rfl rfl)
theorem dX2_worst_10 : decode cX2_worst 10 = .ok (.invokestatic 59, 3) := dk_184 0 59 (dk_at dksX2_worst_0 10 rfl rfl)
theorem dX2_worst_13 : decode cX2_worst 13 = .ok (.ifCond .ne 6, 3) := dk_154 0 6 (dk_at dksX2_worst_0 13 rfl rfl)
theorem dX2_worst_16 : decode cX2_worst 16 = .ok (.bipush (-3), 2) := dk_16 253 (dk_at dksX2_worst_0 16 rfl rfl)
theorem dX2_worst_18 : decode cX2_worst 18 = .ok (.ireturn, 1) := dk_172 (dk_at dksX2_worst_0 18 rfl rfl)
theorem dX2_worst_19 : decode cX2_worst 19 = .ok (.iconst (-1), 1) := dk_2 (dk_at dksX2_worst_0 19 rfl rfl)
theorem dX2_worst_20 : decode cX2_worst 20 = .ok (.istore_n 3, 1) := dk_62 (dk_at dksX2_worst_0 20 rfl rfl)
theorem dX2_worst_21 : decode cX2_worst 21 = .ok (.iconst (-1), 1) := dk_2 (dk_at dksX2_worst_0 21 rfl rfl)
theorem dX2_worst_22 : decode cX2_worst 22 = .ok (.istore 4, 2) := dk_54 4 (dk_at dksX2_worst_0 22 rfl rfl)
theorem dX2_worst_24 : decode cX2_worst 24 = .ok (.iconst 0, 1) := dk_3 (dk_at dksX2_worst_1 0 rfl rfl)
theorem dX2_worst_25 : decode cX2_worst 25 = .ok (.istore 5, 2) := dk_54 5 (dk_at dksX2_worst_1 1 rfl rfl)
theorem dX2_worst_27 : decode cX2_worst 27 = .ok (.iload 5, 2) := dk_21 5 (dk_at dksX2_worst_1 3 rfl rfl)
theorem dX2_worst_29 : decode cX2_worst 29 = .ok (.aload_n 0, 1) := dk_42 (dk_at dksX2_worst_1 5 rfl rfl)
theorem dX2_worst_30 : decode cX2_worst 30 = .ok (.getfield 19, 3) := dk_180 0 19 (dk_at dksX2_worst_1 6 rfl rfl)
theorem dX2_worst_33 : decode cX2_worst 33 = .ok (.iconst 0, 1) := dk_3 (dk_at dksX2_worst_1 9 rfl rfl)
theorem dX2_worst_34 : decode cX2_worst 34 = .ok (.iaload, 1) := dk_46 (dk_at dksX2_worst_1 10 rfl rfl)
theorem dX2_worst_35 : decode cX2_worst 35 = .ok (.if_icmp .ge 98, 3) := dk_162 0 98 (dk_at dksX2_worst_1 11 rfl rfl)
theorem dX2_worst_38 : decode cX2_worst 38 = .ok (.aload_n 0, 1) := dk_42 (dk_at dksX2_worst_1 14 rfl rfl)
theorem dX2_worst_39 : decode cX2_worst 39 = .ok (.getfield 19, 3) := dk_180 0 19 (dk_at dksX2_worst_1 15 rfl rfl)
theorem dX2_worst_42 : decode cX2_worst 42 = .ok (.iconst 0, 1) := dk_3 (dk_at dksX2_worst_1 18 rfl rfl)
theorem dX2_worst_43 : decode cX2_worst 43 = .ok (.aload_n 0, 1) := dk_42 (dk_at dksX2_worst_1 19 rfl rfl)
theorem dX2_worst_44 : decode cX2_worst 44 = .ok (.getfield 22, 3) := dk_180 0 22 (dk_at dksX2_worst_1 20 rfl rfl)
theorem dX2_worst_47 : decode cX2_worst 47 = .ok (.iconst 0, 1) := dk_3 (dk_at dksX2_worst_1 23 rfl rfl)
theorem dX2_worst_48 : decode cX2_worst 48 = .ok (.invokestatic 130, 3) := dk_184 0 130 (dk_at dksX2_worst_2 0 rfl rfl)
theorem dX2_worst_51 : decode cX2_worst 51 = .ok (.aload_n 0, 1) := dk_42 (dk_at dksX2_worst_2 3 rfl rfl)
theorem dX2_worst_52 : decode cX2_worst 52 = .ok (.getfield 22, 3) := dk_180 0 22 (dk_at dksX2_worst_2 4 rfl rfl)
theorem dX2_worst_55 : decode cX2_worst 55 = .ok (.iconst 3, 1) := dk_6 (dk_at dksX2_worst_2 7 rfl rfl)
theorem dX2_worst_56 : decode cX2_worst 56 = .ok (.iconst 2, 1) := dk_5 (dk_at dksX2_worst_2 8 rfl rfl)
theorem dX2_worst_57 : decode cX2_worst 57 = .ok (.iload 5, 2) := dk_21 5 (dk_at dksX2_worst_2 9 rfl rfl)
theorem dX2_worst_59 : decode cX2_worst 59 = .ok (.imul, 1) := dk_104 (dk_at dksX2_worst_2 11 rfl rfl)
theorem dX2_worst_60 : decode cX2_worst 60 = .ok (.iadd, 1) := dk_96 (dk_at dksX2_worst_2 12 rfl rfl)
theorem dX2_worst_61 : decode cX2_worst 61 = .ok (.iconst 1, 1) := dk_4 (dk_at dksX2_worst_2 13 rfl rfl)
theorem dX2_worst_62 : decode cX2_worst 62 = .ok (.iadd, 1) := dk_96 (dk_at dksX2_worst_2 14 rfl rfl)
theorem dX2_worst_63 : decode cX2_worst 63 = .ok (.iconst 0, 1) := dk_3 (dk_at dksX2_worst_2 15 rfl rfl)
theorem dX2_worst_64 : decode cX2_worst 64 = .ok (.iastore, 1) := dk_79 (dk_at dksX2_worst_2 16 rfl rfl)
theorem dX2_worst_65 : decode cX2_worst 65 = .ok (.aload_n 0, 1) := dk_42 (dk_at dksX2_worst_2 17 rfl rfl)
theorem dX2_worst_66 : decode cX2_worst 66 = .ok (.iload_n 1, 1) := dk_27 (dk_at dksX2_worst_2 18 rfl rfl)
theorem dX2_worst_67 : decode cX2_worst 67 = .ok (.invokevirtual 207, 3) := dk_182 0 207 (dk_at dksX2_worst_2 19 rfl rfl)
theorem dX2_worst_70 : decode cX2_worst 70 = .ok (.aload_n 0, 1) := dk_42 (dk_at dksX2_worst_2 22 rfl rfl)
theorem dX2_worst_71 : decode cX2_worst 71 = .ok (.getfield 22, 3) := dk_180 0 22 (dk_at dksX2_worst_3 0 rfl rfl)
theorem dX2_worst_74 : decode cX2_worst 74 = .ok (.invokestatic 210, 3) := dk_184 0 210 (dk_at dksX2_worst_3 3 rfl rfl)
theorem dX2_worst_77 : decode cX2_worst 77 = .ok (.invokestatic 213, 3) := dk_184 0 213 (dk_at dksX2_worst_3 6 rfl rfl)
theorem dX2_worst_80 : decode cX2_worst 80 = .ok (.istore 6, 2) := dk_54 6 (dk_at dksX2_worst_3 9 rfl rfl)
theorem dX2_worst_82 : decode cX2_worst 82 = .ok (.iload_n 3, 1) := dk_29 (dk_at dksX2_worst_3 11 rfl rfl)
theorem dX2_worst_83 : decode cX2_worst 83 = .ok (.iconst (-1), 1) := dk_2 (dk_at dksX2_worst_3 12 rfl rfl)
theorem dX2_worst_84 : decode cX2_worst 84 = .ok (.if_icmp .eq 10, 3) := dk_159 0 10 (dk_at dksX2_worst_3 13 rfl rfl)
theorem dX2_worst_87 : decode cX2_worst 87 = .ok (.iload 6, 2) := dk_21 6 (dk_at dksX2_worst_3 16 rfl rfl)
theorem dX2_worst_89 : decode cX2_worst 89 = .ok (.iload 4, 2) := dk_21 4 (dk_at dksX2_worst_3 18 rfl rfl)
theorem dX2_worst_91 : decode cX2_worst 91 = .ok (.if_icmp .ge 7, 3) := dk_162 0 7 (dk_at dksX2_worst_3 20 rfl rfl)
theorem dX2_worst_94 : decode cX2_worst 94 = .ok (.iconst 1, 1) := dk_4 (dk_at dksX2_worst_3 23 rfl rfl)
theorem dX2_worst_95 : decode cX2_worst 95 = .ok (.goto 4, 3) := dk_167 0 4 (dk_at dksX2_worst_4 0 rfl rfl)
theorem dX2_worst_98 : decode cX2_worst 98 = .ok (.iconst 0, 1) := dk_3 (dk_at dksX2_worst_4 3 rfl rfl)
theorem dX2_worst_99 : decode cX2_worst 99 = .ok (.istore 7, 2) := dk_54 7 (dk_at dksX2_worst_4 4 rfl rfl)
theorem dX2_worst_101 : decode cX2_worst 101 = .ok (.iload 7, 2) := dk_21 7 (dk_at dksX2_worst_4 6 rfl rfl)
theorem dX2_worst_103 : decode cX2_worst 103 = .ok (.ifCond .eq 8, 3) := dk_153 0 8 (dk_at dksX2_worst_4 8 rfl rfl)
theorem dX2_worst_106 : decode cX2_worst 106 = .ok (.iload 5, 2) := dk_21 5 (dk_at dksX2_worst_4 11 rfl rfl)
theorem dX2_worst_108 : decode cX2_worst 108 = .ok (.goto 4, 3) := dk_167 0 4 (dk_at dksX2_worst_4 13 rfl rfl)
theorem dX2_worst_111 : decode cX2_worst 111 = .ok (.iload_n 3, 1) := dk_29 (dk_at dksX2_worst_4 16 rfl rfl)
theorem dX2_worst_112 : decode cX2_worst 112 = .ok (.istore_n 3, 1) := dk_62 (dk_at dksX2_worst_4 17 rfl rfl)
theorem dX2_worst_113 : decode cX2_worst 113 = .ok (.iload 7, 2) := dk_21 7 (dk_at dksX2_worst_4 18 rfl rfl)
theorem dX2_worst_115 : decode cX2_worst 115 = .ok (.ifCond .eq 8, 3) := dk_153 0 8 (dk_at dksX2_worst_4 20 rfl rfl)
theorem dX2_worst_118 : decode cX2_worst 118 = .ok (.iload 6, 2) := dk_21 6 (dk_at dksX2_worst_5 0 rfl rfl)
theorem dX2_worst_120 : decode cX2_worst 120 = .ok (.goto 5, 3) := dk_167 0 5 (dk_at dksX2_worst_5 2 rfl rfl)
theorem dX2_worst_123 : decode cX2_worst 123 = .ok (.iload 4, 2) := dk_21 4 (dk_at dksX2_worst_5 5 rfl rfl)
theorem dX2_worst_125 : decode cX2_worst 125 = .ok (.istore 4, 2) := dk_54 4 (dk_at dksX2_worst_5 7 rfl rfl)
theorem dX2_worst_127 : decode cX2_worst 127 = .ok (.iinc 5 1, 3) := dk_132 5 1 (dk_at dksX2_worst_5 9 rfl rfl)
theorem dX2_worst_130 : decode cX2_worst 130 = .ok (.goto (-103), 3) := dk_167 255 153 (dk_at dksX2_worst_5 12 rfl rfl)
theorem dX2_worst_133 : decode cX2_worst 133 = .ok (.iload_n 2, 1) := dk_28 (dk_at dksX2_worst_5 15 rfl rfl)
theorem dX2_worst_134 : decode cX2_worst 134 = .ok (.ifCond .ne 7, 3) := dk_154 0 7 (dk_at dksX2_worst_5 16 rfl rfl)
theorem dX2_worst_137 : decode cX2_worst 137 = .ok (.iload_n 3, 1) := dk_29 (dk_at dksX2_worst_5 19 rfl rfl)
theorem dX2_worst_138 : decode cX2_worst 138 = .ok (.goto 5, 3) := dk_167 0 5 (dk_at dksX2_worst_5 20 rfl rfl)
theorem dX2_worst_141 : decode cX2_worst 141 = .ok (.iload 4, 2) := dk_21 4 (dk_at dksX2_worst_6 0 rfl rfl)
theorem dX2_worst_143 : decode cX2_worst 143 = .ok (.ireturn, 1) := dk_172 (dk_at dksX2_worst_6 2 rfl rfl)
abbrev cX2_whisper : ByteArray := prog_14_method_63_code
def yX2_whisper : MethodName := ⟨RX2, "whisper", "(I)I"⟩
def dkwX2_whisper_8 : List UInt8 := [132, 5, 1, 167, 255, 125, 132, 4, 1, 167, 255, 105, 29, 172]
abbrev dktX2_whisper_8 : List UInt8 := dkwX2_whisper_8 ++ []
def dkwX2_whisper_7 : List UInt8 := [21, 4, 104, 21, 5, 96, 167, 0, 4, 29, 62, 21, 6, 28, 164, 0, 8, 21, 6, 167, 0, 4, 28, 61]
abbrev dktX2_whisper_7 : List UInt8 := dkwX2_whisper_7 ++ dktX2_whisper_8
def dkwX2_whisper_6 : List UInt8 := [182, 0, 207, 42, 180, 0, 22, 184, 0, 210, 184, 0, 213, 54, 6, 21, 6, 28, 164, 0, 14, 16, 10]
abbrev dktX2_whisper_6 : List UInt8 := dkwX2_whisper_6 ++ dktX2_whisper_7
def dkwX2_whisper_5 : List UInt8 := [180, 0, 22, 16, 21, 8, 21, 4, 104, 96, 7, 96, 92, 46, 4, 21, 5, 120, 128, 79, 42, 27]
abbrev dktX2_whisper_5 : List UInt8 := dkwX2_whisper_5 ++ dktX2_whisper_6
def dkwX2_whisper_4 : List UInt8 := [46, 21, 5, 184, 0, 152, 154, 0, 86, 42, 180, 0, 19, 3, 42, 180, 0, 22, 3, 184, 0, 130, 42]
abbrev dktX2_whisper_4 : List UInt8 := dkwX2_whisper_4 ++ dktX2_whisper_5
def dkwX2_whisper_3 : List UInt8 := [180, 0, 19, 21, 4, 184, 0, 174, 154, 0, 108, 42, 180, 0, 19, 16, 21, 8, 21, 4, 104, 96, 7, 96]
abbrev dktX2_whisper_3 : List UInt8 := dkwX2_whisper_3 ++ dktX2_whisper_4
def dkwX2_whisper_2 : List UInt8 := [180, 0, 19, 4, 46, 162, 0, 146, 3, 54, 5, 21, 5, 42, 180, 0, 19, 3, 46, 162, 0, 126, 42]
abbrev dktX2_whisper_2 : List UInt8 := dkwX2_whisper_2 ++ dktX2_whisper_3
def dkwX2_whisper_1 : List UInt8 := [27, 182, 0, 207, 42, 180, 0, 22, 184, 0, 210, 184, 0, 213, 61, 2, 62, 3, 54, 4, 21, 4, 42]
abbrev dktX2_whisper_1 : List UInt8 := dkwX2_whisper_1 ++ dktX2_whisper_2
def dkwX2_whisper_0 : List UInt8 := [27, 184, 0, 216, 154, 0, 6, 16, 253, 172, 42, 180, 0, 19, 3, 42, 180, 0, 22, 3, 184, 0, 130, 42]
abbrev dktX2_whisper_0 : List UInt8 := dkwX2_whisper_0 ++ dktX2_whisper_1
theorem dksX2_whisper_0 : cX2_whisper.data.toList.drop 0 = dktX2_whisper_0 := by decide +kernel
theorem dksX2_whisper_1 : cX2_whisper.data.toList.drop 24 = dktX2_whisper_1 := dk_seg dksX2_whisper_0 24 rfl rfl
theorem dksX2_whisper_2 : cX2_whisper.data.toList.drop 47 = dktX2_whisper_2 := dk_seg dksX2_whisper_1 23 rfl rfl
theorem dksX2_whisper_3 : cX2_whisper.data.toList.drop 70 = dktX2_whisper_3 := dk_seg dksX2_whisper_2 23 rfl rfl
theorem dksX2_whisper_4 : cX2_whisper.data.toList.drop 94 = dktX2_whisper_4 := dk_seg dksX2_whisper_3 24 rfl rfl
theorem dksX2_whisper_5 : cX2_whisper.data.toList.drop 117 = dktX2_whisper_5 := dk_seg dksX2_whisper_4 23 rfl rfl
theorem dksX2_whisper_6 : cX2_whisper.data.toList.drop 139 = dktX2_whisper_6 := dk_seg dksX2_whisper_5 22 rfl rfl
theorem dksX2_whisper_7 : cX2_whisper.data.toList.drop 162 = dktX2_whisper_7 := dk_seg dksX2_whisper_6 23 rfl rfl
theorem dksX2_whisper_8 : cX2_whisper.data.toList.drop 186 = dktX2_whisper_8 := dk_seg dksX2_whisper_7 24 rfl rfl
theorem dX2_whisper_0 : decode cX2_whisper 0 = .ok (.iload_n 1, 1) := dk_27 (dk_at dksX2_whisper_0 0 rfl rfl)
theorem dX2_whisper_1 : decode cX2_whisper 1 = .ok (.invokestatic 216, 3) := dk_184 0 216 (dk_at dksX2_whisper_0 1 rfl rfl)
theorem dX2_whisper_4 : decode cX2_whisper 4 = .ok (.ifCond .ne 6, 3) := dk_154 0 6 (dk_at dksX2_whisper_0 4 rfl rfl)
theorem dX2_whisper_7 : decode cX2_whisper 7 = .ok (.bipush (-3), 2) := dk_16 253 (dk_at dksX2_whisper_0 7 rfl rfl)
theorem dX2_whisper_9 : decode cX2_whisper 9 = .ok (.ireturn, 1) := dk_172 (dk_at dksX2_whisper_0 9 rfl rfl)
theorem dX2_whisper_10 : decode cX2_whisper 10 = .ok (.aload_n 0, 1) := dk_42 (dk_at dksX2_whisper_0 10 rfl rfl)
theorem dX2_whisper_11 : decode cX2_whisper 11 = .ok (.getfield 19, 3) := dk_180 0 19 (dk_at dksX2_whisper_0 11 rfl rfl)
theorem dX2_whisper_14 : decode cX2_whisper 14 = .ok (.iconst 0, 1) := dk_3 (dk_at dksX2_whisper_0 14 rfl rfl)
theorem dX2_whisper_15 : decode cX2_whisper 15 = .ok (.aload_n 0, 1) := dk_42 (dk_at dksX2_whisper_0 15 rfl rfl)
theorem dX2_whisper_16 : decode cX2_whisper 16 = .ok (.getfield 22, 3) := dk_180 0 22 (dk_at dksX2_whisper_0 16 rfl rfl)
theorem dX2_whisper_19 : decode cX2_whisper 19 = .ok (.iconst 0, 1) := dk_3 (dk_at dksX2_whisper_0 19 rfl rfl)
theorem dX2_whisper_20 : decode cX2_whisper 20 = .ok (.invokestatic 130, 3) := dk_184 0 130 (dk_at dksX2_whisper_0 20 rfl rfl)
theorem dX2_whisper_23 : decode cX2_whisper 23 = .ok (.aload_n 0, 1) := dk_42 (dk_at dksX2_whisper_0 23 rfl rfl)
theorem dX2_whisper_24 : decode cX2_whisper 24 = .ok (.iload_n 1, 1) := dk_27 (dk_at dksX2_whisper_1 0 rfl rfl)
theorem dX2_whisper_25 : decode cX2_whisper 25 = .ok (.invokevirtual 207, 3) := dk_182 0 207 (dk_at dksX2_whisper_1 1 rfl rfl)
theorem dX2_whisper_28 : decode cX2_whisper 28 = .ok (.aload_n 0, 1) := dk_42 (dk_at dksX2_whisper_1 4 rfl rfl)
theorem dX2_whisper_29 : decode cX2_whisper 29 = .ok (.getfield 22, 3) := dk_180 0 22 (dk_at dksX2_whisper_1 5 rfl rfl)
theorem dX2_whisper_32 : decode cX2_whisper 32 = .ok (.invokestatic 210, 3) := dk_184 0 210 (dk_at dksX2_whisper_1 8 rfl rfl)
theorem dX2_whisper_35 : decode cX2_whisper 35 = .ok (.invokestatic 213, 3) := dk_184 0 213 (dk_at dksX2_whisper_1 11 rfl rfl)
theorem dX2_whisper_38 : decode cX2_whisper 38 = .ok (.istore_n 2, 1) := dk_61 (dk_at dksX2_whisper_1 14 rfl rfl)
theorem dX2_whisper_39 : decode cX2_whisper 39 = .ok (.iconst (-1), 1) := dk_2 (dk_at dksX2_whisper_1 15 rfl rfl)
theorem dX2_whisper_40 : decode cX2_whisper 40 = .ok (.istore_n 3, 1) := dk_62 (dk_at dksX2_whisper_1 16 rfl rfl)
theorem dX2_whisper_41 : decode cX2_whisper 41 = .ok (.iconst 0, 1) := dk_3 (dk_at dksX2_whisper_1 17 rfl rfl)
theorem dX2_whisper_42 : decode cX2_whisper 42 = .ok (.istore 4, 2) := dk_54 4 (dk_at dksX2_whisper_1 18 rfl rfl)
theorem dX2_whisper_44 : decode cX2_whisper 44 = .ok (.iload 4, 2) := dk_21 4 (dk_at dksX2_whisper_1 20 rfl rfl)
theorem dX2_whisper_46 : decode cX2_whisper 46 = .ok (.aload_n 0, 1) := dk_42 (dk_at dksX2_whisper_1 22 rfl rfl)
theorem dX2_whisper_47 : decode cX2_whisper 47 = .ok (.getfield 19, 3) := dk_180 0 19 (dk_at dksX2_whisper_2 0 rfl rfl)
theorem dX2_whisper_50 : decode cX2_whisper 50 = .ok (.iconst 1, 1) := dk_4 (dk_at dksX2_whisper_2 3 rfl rfl)
theorem dX2_whisper_51 : decode cX2_whisper 51 = .ok (.iaload, 1) := dk_46 (dk_at dksX2_whisper_2 4 rfl rfl)
theorem dX2_whisper_52 : decode cX2_whisper 52 = .ok (.if_icmp .ge 146, 3) := dk_162 0 146 (dk_at dksX2_whisper_2 5 rfl rfl)
theorem dX2_whisper_55 : decode cX2_whisper 55 = .ok (.iconst 0, 1) := dk_3 (dk_at dksX2_whisper_2 8 rfl rfl)
theorem dX2_whisper_56 : decode cX2_whisper 56 = .ok (.istore 5, 2) := dk_54 5 (dk_at dksX2_whisper_2 9 rfl rfl)
theorem dX2_whisper_58 : decode cX2_whisper 58 = .ok (.iload 5, 2) := dk_21 5 (dk_at dksX2_whisper_2 11 rfl rfl)
theorem dX2_whisper_60 : decode cX2_whisper 60 = .ok (.aload_n 0, 1) := dk_42 (dk_at dksX2_whisper_2 13 rfl rfl)
theorem dX2_whisper_61 : decode cX2_whisper 61 = .ok (.getfield 19, 3) := dk_180 0 19 (dk_at dksX2_whisper_2 14 rfl rfl)
theorem dX2_whisper_64 : decode cX2_whisper 64 = .ok (.iconst 0, 1) := dk_3 (dk_at dksX2_whisper_2 17 rfl rfl)
theorem dX2_whisper_65 : decode cX2_whisper 65 = .ok (.iaload, 1) := dk_46 (dk_at dksX2_whisper_2 18 rfl rfl)
theorem dX2_whisper_66 : decode cX2_whisper 66 = .ok (.if_icmp .ge 126, 3) := dk_162 0 126 (dk_at dksX2_whisper_2 19 rfl rfl)
theorem dX2_whisper_69 : decode cX2_whisper 69 = .ok (.aload_n 0, 1) := dk_42 (dk_at dksX2_whisper_2 22 rfl rfl)
theorem dX2_whisper_70 : decode cX2_whisper 70 = .ok (.getfield 19, 3) := dk_180 0 19 (dk_at dksX2_whisper_3 0 rfl rfl)
theorem dX2_whisper_73 : decode cX2_whisper 73 = .ok (.iload 4, 2) := dk_21 4 (dk_at dksX2_whisper_3 3 rfl rfl)
theorem dX2_whisper_75 : decode cX2_whisper 75 = .ok (.invokestatic 174, 3) := dk_184 0 174 (dk_at dksX2_whisper_3 5 rfl rfl)
theorem dX2_whisper_78 : decode cX2_whisper 78 = .ok (.ifCond .ne 108, 3) := dk_154 0 108 (dk_at dksX2_whisper_3 8 rfl rfl)
theorem dX2_whisper_81 : decode cX2_whisper 81 = .ok (.aload_n 0, 1) := dk_42 (dk_at dksX2_whisper_3 11 rfl rfl)
theorem dX2_whisper_82 : decode cX2_whisper 82 = .ok (.getfield 19, 3) := dk_180 0 19 (dk_at dksX2_whisper_3 12 rfl rfl)
theorem dX2_whisper_85 : decode cX2_whisper 85 = .ok (.bipush 21, 2) := dk_16 21 (dk_at dksX2_whisper_3 15 rfl rfl)
theorem dX2_whisper_87 : decode cX2_whisper 87 = .ok (.iconst 5, 1) := dk_8 (dk_at dksX2_whisper_3 17 rfl rfl)
theorem dX2_whisper_88 : decode cX2_whisper 88 = .ok (.iload 4, 2) := dk_21 4 (dk_at dksX2_whisper_3 18 rfl rfl)
theorem dX2_whisper_90 : decode cX2_whisper 90 = .ok (.imul, 1) := dk_104 (dk_at dksX2_whisper_3 20 rfl rfl)
theorem dX2_whisper_91 : decode cX2_whisper 91 = .ok (.iadd, 1) := dk_96 (dk_at dksX2_whisper_3 21 rfl rfl)
theorem dX2_whisper_92 : decode cX2_whisper 92 = .ok (.iconst 4, 1) := dk_7 (dk_at dksX2_whisper_3 22 rfl rfl)
theorem dX2_whisper_93 : decode cX2_whisper 93 = .ok (.iadd, 1) := dk_96 (dk_at dksX2_whisper_3 23 rfl rfl)
theorem dX2_whisper_94 : decode cX2_whisper 94 = .ok (.iaload, 1) := dk_46 (dk_at dksX2_whisper_4 0 rfl rfl)
theorem dX2_whisper_95 : decode cX2_whisper 95 = .ok (.iload 5, 2) := dk_21 5 (dk_at dksX2_whisper_4 1 rfl rfl)
theorem dX2_whisper_97 : decode cX2_whisper 97 = .ok (.invokestatic 152, 3) := dk_184 0 152 (dk_at dksX2_whisper_4 3 rfl rfl)
theorem dX2_whisper_100 : decode cX2_whisper 100 = .ok (.ifCond .ne 86, 3) := dk_154 0 86 (dk_at dksX2_whisper_4 6 rfl rfl)
theorem dX2_whisper_103 : decode cX2_whisper 103 = .ok (.aload_n 0, 1) := dk_42 (dk_at dksX2_whisper_4 9 rfl rfl)
theorem dX2_whisper_104 : decode cX2_whisper 104 = .ok (.getfield 19, 3) := dk_180 0 19 (dk_at dksX2_whisper_4 10 rfl rfl)
theorem dX2_whisper_107 : decode cX2_whisper 107 = .ok (.iconst 0, 1) := dk_3 (dk_at dksX2_whisper_4 13 rfl rfl)
theorem dX2_whisper_108 : decode cX2_whisper 108 = .ok (.aload_n 0, 1) := dk_42 (dk_at dksX2_whisper_4 14 rfl rfl)
theorem dX2_whisper_109 : decode cX2_whisper 109 = .ok (.getfield 22, 3) := dk_180 0 22 (dk_at dksX2_whisper_4 15 rfl rfl)
theorem dX2_whisper_112 : decode cX2_whisper 112 = .ok (.iconst 0, 1) := dk_3 (dk_at dksX2_whisper_4 18 rfl rfl)
theorem dX2_whisper_113 : decode cX2_whisper 113 = .ok (.invokestatic 130, 3) := dk_184 0 130 (dk_at dksX2_whisper_4 19 rfl rfl)
theorem dX2_whisper_116 : decode cX2_whisper 116 = .ok (.aload_n 0, 1) := dk_42 (dk_at dksX2_whisper_4 22 rfl rfl)
theorem dX2_whisper_117 : decode cX2_whisper 117 = .ok (.getfield 22, 3) := dk_180 0 22 (dk_at dksX2_whisper_5 0 rfl rfl)
theorem dX2_whisper_120 : decode cX2_whisper 120 = .ok (.bipush 21, 2) := dk_16 21 (dk_at dksX2_whisper_5 3 rfl rfl)
theorem dX2_whisper_122 : decode cX2_whisper 122 = .ok (.iconst 5, 1) := dk_8 (dk_at dksX2_whisper_5 5 rfl rfl)
theorem dX2_whisper_123 : decode cX2_whisper 123 = .ok (.iload 4, 2) := dk_21 4 (dk_at dksX2_whisper_5 6 rfl rfl)
theorem dX2_whisper_125 : decode cX2_whisper 125 = .ok (.imul, 1) := dk_104 (dk_at dksX2_whisper_5 8 rfl rfl)
theorem dX2_whisper_126 : decode cX2_whisper 126 = .ok (.iadd, 1) := dk_96 (dk_at dksX2_whisper_5 9 rfl rfl)
theorem dX2_whisper_127 : decode cX2_whisper 127 = .ok (.iconst 4, 1) := dk_7 (dk_at dksX2_whisper_5 10 rfl rfl)
theorem dX2_whisper_128 : decode cX2_whisper 128 = .ok (.iadd, 1) := dk_96 (dk_at dksX2_whisper_5 11 rfl rfl)
theorem dX2_whisper_129 : decode cX2_whisper 129 = .ok (.dup2, 1) := dk_92 (dk_at dksX2_whisper_5 12 rfl rfl)
theorem dX2_whisper_130 : decode cX2_whisper 130 = .ok (.iaload, 1) := dk_46 (dk_at dksX2_whisper_5 13 rfl rfl)
theorem dX2_whisper_131 : decode cX2_whisper 131 = .ok (.iconst 1, 1) := dk_4 (dk_at dksX2_whisper_5 14 rfl rfl)
theorem dX2_whisper_132 : decode cX2_whisper 132 = .ok (.iload 5, 2) := dk_21 5 (dk_at dksX2_whisper_5 15 rfl rfl)
theorem dX2_whisper_134 : decode cX2_whisper 134 = .ok (.ishl, 1) := dk_120 (dk_at dksX2_whisper_5 17 rfl rfl)
theorem dX2_whisper_135 : decode cX2_whisper 135 = .ok (.ior, 1) := dk_128 (dk_at dksX2_whisper_5 18 rfl rfl)
theorem dX2_whisper_136 : decode cX2_whisper 136 = .ok (.iastore, 1) := dk_79 (dk_at dksX2_whisper_5 19 rfl rfl)
theorem dX2_whisper_137 : decode cX2_whisper 137 = .ok (.aload_n 0, 1) := dk_42 (dk_at dksX2_whisper_5 20 rfl rfl)
theorem dX2_whisper_138 : decode cX2_whisper 138 = .ok (.iload_n 1, 1) := dk_27 (dk_at dksX2_whisper_5 21 rfl rfl)
theorem dX2_whisper_139 : decode cX2_whisper 139 = .ok (.invokevirtual 207, 3) := dk_182 0 207 (dk_at dksX2_whisper_6 0 rfl rfl)
theorem dX2_whisper_142 : decode cX2_whisper 142 = .ok (.aload_n 0, 1) := dk_42 (dk_at dksX2_whisper_6 3 rfl rfl)
theorem dX2_whisper_143 : decode cX2_whisper 143 = .ok (.getfield 22, 3) := dk_180 0 22 (dk_at dksX2_whisper_6 4 rfl rfl)
theorem dX2_whisper_146 : decode cX2_whisper 146 = .ok (.invokestatic 210, 3) := dk_184 0 210 (dk_at dksX2_whisper_6 7 rfl rfl)
theorem dX2_whisper_149 : decode cX2_whisper 149 = .ok (.invokestatic 213, 3) := dk_184 0 213 (dk_at dksX2_whisper_6 10 rfl rfl)
theorem dX2_whisper_152 : decode cX2_whisper 152 = .ok (.istore 6, 2) := dk_54 6 (dk_at dksX2_whisper_6 13 rfl rfl)
theorem dX2_whisper_154 : decode cX2_whisper 154 = .ok (.iload 6, 2) := dk_21 6 (dk_at dksX2_whisper_6 15 rfl rfl)
theorem dX2_whisper_156 : decode cX2_whisper 156 = .ok (.iload_n 2, 1) := dk_28 (dk_at dksX2_whisper_6 17 rfl rfl)
theorem dX2_whisper_157 : decode cX2_whisper 157 = .ok (.if_icmp .le 14, 3) := dk_164 0 14 (dk_at dksX2_whisper_6 18 rfl rfl)
theorem dX2_whisper_160 : decode cX2_whisper 160 = .ok (.bipush 10, 2) := dk_16 10 (dk_at dksX2_whisper_6 21 rfl rfl)
theorem dX2_whisper_162 : decode cX2_whisper 162 = .ok (.iload 4, 2) := dk_21 4 (dk_at dksX2_whisper_7 0 rfl rfl)
theorem dX2_whisper_164 : decode cX2_whisper 164 = .ok (.imul, 1) := dk_104 (dk_at dksX2_whisper_7 2 rfl rfl)
theorem dX2_whisper_165 : decode cX2_whisper 165 = .ok (.iload 5, 2) := dk_21 5 (dk_at dksX2_whisper_7 3 rfl rfl)
theorem dX2_whisper_167 : decode cX2_whisper 167 = .ok (.iadd, 1) := dk_96 (dk_at dksX2_whisper_7 5 rfl rfl)
theorem dX2_whisper_168 : decode cX2_whisper 168 = .ok (.goto 4, 3) := dk_167 0 4 (dk_at dksX2_whisper_7 6 rfl rfl)
theorem dX2_whisper_171 : decode cX2_whisper 171 = .ok (.iload_n 3, 1) := dk_29 (dk_at dksX2_whisper_7 9 rfl rfl)
theorem dX2_whisper_172 : decode cX2_whisper 172 = .ok (.istore_n 3, 1) := dk_62 (dk_at dksX2_whisper_7 10 rfl rfl)
theorem dX2_whisper_173 : decode cX2_whisper 173 = .ok (.iload 6, 2) := dk_21 6 (dk_at dksX2_whisper_7 11 rfl rfl)
theorem dX2_whisper_175 : decode cX2_whisper 175 = .ok (.iload_n 2, 1) := dk_28 (dk_at dksX2_whisper_7 13 rfl rfl)
theorem dX2_whisper_176 : decode cX2_whisper 176 = .ok (.if_icmp .le 8, 3) := dk_164 0 8 (dk_at dksX2_whisper_7 14 rfl rfl)
theorem dX2_whisper_179 : decode cX2_whisper 179 = .ok (.iload 6, 2) := dk_21 6 (dk_at dksX2_whisper_7 17 rfl rfl)
theorem dX2_whisper_181 : decode cX2_whisper 181 = .ok (.goto 4, 3) := dk_167 0 4 (dk_at dksX2_whisper_7 19 rfl rfl)
theorem dX2_whisper_184 : decode cX2_whisper 184 = .ok (.iload_n 2, 1) := dk_28 (dk_at dksX2_whisper_7 22 rfl rfl)
theorem dX2_whisper_185 : decode cX2_whisper 185 = .ok (.istore_n 2, 1) := dk_61 (dk_at dksX2_whisper_7 23 rfl rfl)
theorem dX2_whisper_186 : decode cX2_whisper 186 = .ok (.iinc 5 1, 3) := dk_132 5 1 (dk_at dksX2_whisper_8 0 rfl rfl)
theorem dX2_whisper_189 : decode cX2_whisper 189 = .ok (.goto (-131), 3) := dk_167 255 125 (dk_at dksX2_whisper_8 3 rfl rfl)
theorem dX2_whisper_192 : decode cX2_whisper 192 = .ok (.iinc 4 1, 3) := dk_132 4 1 (dk_at dksX2_whisper_8 6 rfl rfl)
theorem dX2_whisper_195 : decode cX2_whisper 195 = .ok (.goto (-151), 3) := dk_167 255 105 (dk_at dksX2_whisper_8 9 rfl rfl)
theorem dX2_whisper_198 : decode cX2_whisper 198 = .ok (.iload_n 3, 1) := dk_29 (dk_at dksX2_whisper_8 12 rfl rfl)
theorem dX2_whisper_199 : decode cX2_whisper 199 = .ok (.ireturn, 1) := dk_172 (dk_at dksX2_whisper_8 13 rfl rfl)
abbrev cX2_jay : ByteArray := prog_14_method_64_code
def yX2_jay : MethodName := ⟨RX2, "jay", "(III)I"⟩
def dkwX2_jay_13 : List UInt8 := [154, 0, 8, 21, 6, 167, 0, 5, 21, 7, 21, 8, 108, 172]
abbrev dktX2_jay_13 : List UInt8 := dkwX2_jay_13 ++ []
def dkwX2_jay_12 : List UInt8 := [153, 0, 21, 21, 8, 21, 9, 112, 54, 10, 21, 9, 54, 8, 21, 10, 54, 9, 167, 255, 236, 29]
abbrev dktX2_jay_12 : List UInt8 := dkwX2_jay_12 ++ dktX2_jay_13
def dkwX2_jay_11 : List UInt8 := [167, 0, 4, 3, 96, 54, 6, 132, 8, 1, 167, 255, 87, 21, 6, 54, 8, 21, 7, 54, 9, 21, 9]
abbrev dktX2_jay_11 : List UInt8 := dkwX2_jay_11 ++ dktX2_jay_12
def dkwX2_jay_10 : List UInt8 := [182, 0, 203, 21, 6, 42, 180, 0, 22, 21, 5, 46, 42, 180, 0, 19, 21, 5, 46, 163, 0, 8, 21, 9]
abbrev dktX2_jay_10 : List UInt8 := dkwX2_jay_10 ++ dktX2_jay_11
def dkwX2_jay_9 : List UInt8 := [180, 0, 19, 6, 5, 21, 10, 104, 96, 4, 96, 46, 79, 132, 10, 1, 167, 255, 165, 42, 42, 180, 0, 22]
abbrev dktX2_jay_9 : List UInt8 := dkwX2_jay_9 ++ dktX2_jay_10
def dkwX2_jay_8 : List UInt8 := [5, 21, 10, 104, 96, 4, 96, 21, 8, 21, 10, 184, 0, 152, 153, 0, 7, 3, 167, 0, 16, 42]
abbrev dktX2_jay_8 : List UInt8 := dkwX2_jay_8 ++ dktX2_jay_9
def dkwX2_jay_7 : List UInt8 := [21, 10, 184, 0, 152, 153, 0, 7, 28, 167, 0, 7, 16, 10, 28, 100, 104, 54, 9, 42, 180, 0, 22, 6]
abbrev dktX2_jay_7 : List UInt8 := dkwX2_jay_7 ++ dktX2_jay_8
def dkwX2_jay_6 : List UInt8 := [3, 46, 162, 0, 86, 21, 9, 21, 4, 21, 10, 184, 0, 152, 154, 0, 7, 4, 167, 0, 21, 21, 8]
abbrev dktX2_jay_6 : List UInt8 := dkwX2_jay_6 ++ dktX2_jay_7
def dkwX2_jay_5 : List UInt8 := [54, 9, 42, 180, 0, 19, 3, 42, 180, 0, 22, 3, 184, 0, 130, 3, 54, 10, 21, 10, 42, 180, 0, 19]
abbrev dktX2_jay_5 : List UInt8 := dkwX2_jay_5 ++ dktX2_jay_6
def dkwX2_jay_4 : List UInt8 := [167, 255, 236, 3, 54, 8, 21, 8, 21, 4, 163, 0, 168, 21, 8, 21, 4, 2, 130, 126, 154, 0, 152, 4]
abbrev dktX2_jay_4 : List UInt8 := dkwX2_jay_4 ++ dktX2_jay_5
def dkwX2_jay_3 : List UInt8 := [3, 54, 8, 21, 8, 21, 4, 184, 0, 213, 162, 0, 16, 21, 7, 16, 10, 104, 54, 7, 132, 8, 1]
abbrev dktX2_jay_3 : List UInt8 := dkwX2_jay_3 ++ dktX2_jay_4
def dkwX2_jay_2 : List UInt8 := [180, 0, 19, 184, 0, 163, 54, 4, 16, 21, 8, 27, 104, 96, 6, 96, 54, 5, 3, 54, 6, 4, 54, 7]
abbrev dktX2_jay_2 : List UInt8 := dkwX2_jay_2 ++ dktX2_jay_3
def dkwX2_jay_1 : List UInt8 := [184, 0, 59, 154, 0, 6, 16, 253, 172, 42, 180, 0, 19, 27, 184, 0, 174, 153, 0, 6, 16, 252, 172, 42]
abbrev dktX2_jay_1 : List UInt8 := dkwX2_jay_1 ++ dktX2_jay_2
def dkwX2_jay_0 : List UInt8 := [42, 27, 182, 0, 194, 154, 0, 6, 16, 254, 172, 28, 3, 16, 10, 184, 0, 59, 153, 0, 12, 29, 3, 4]
abbrev dktX2_jay_0 : List UInt8 := dkwX2_jay_0 ++ dktX2_jay_1
theorem dksX2_jay_0 : cX2_jay.data.toList.drop 0 = dktX2_jay_0 := by decide +kernel
theorem dksX2_jay_1 : cX2_jay.data.toList.drop 24 = dktX2_jay_1 := dk_seg dksX2_jay_0 24 rfl rfl
theorem dksX2_jay_2 : cX2_jay.data.toList.drop 48 = dktX2_jay_2 := dk_seg dksX2_jay_1 24 rfl rfl
theorem dksX2_jay_3 : cX2_jay.data.toList.drop 72 = dktX2_jay_3 := dk_seg dksX2_jay_2 24 rfl rfl
theorem dksX2_jay_4 : cX2_jay.data.toList.drop 95 = dktX2_jay_4 := dk_seg dksX2_jay_3 23 rfl rfl
theorem dksX2_jay_5 : cX2_jay.data.toList.drop 119 = dktX2_jay_5 := dk_seg dksX2_jay_4 24 rfl rfl
theorem dksX2_jay_6 : cX2_jay.data.toList.drop 143 = dktX2_jay_6 := dk_seg dksX2_jay_5 24 rfl rfl
theorem dksX2_jay_7 : cX2_jay.data.toList.drop 166 = dktX2_jay_7 := dk_seg dksX2_jay_6 23 rfl rfl
theorem dksX2_jay_8 : cX2_jay.data.toList.drop 190 = dktX2_jay_8 := dk_seg dksX2_jay_7 24 rfl rfl
theorem dksX2_jay_9 : cX2_jay.data.toList.drop 212 = dktX2_jay_9 := dk_seg dksX2_jay_8 22 rfl rfl
theorem dksX2_jay_10 : cX2_jay.data.toList.drop 236 = dktX2_jay_10 := dk_seg dksX2_jay_9 24 rfl rfl
theorem dksX2_jay_11 : cX2_jay.data.toList.drop 260 = dktX2_jay_11 := dk_seg dksX2_jay_10 24 rfl rfl
theorem dksX2_jay_12 : cX2_jay.data.toList.drop 283 = dktX2_jay_12 := dk_seg dksX2_jay_11 23 rfl rfl
theorem dksX2_jay_13 : cX2_jay.data.toList.drop 305 = dktX2_jay_13 := dk_seg dksX2_jay_12 22 rfl rfl
theorem dX2_jay_0 : decode cX2_jay 0 = .ok (.aload_n 0, 1) := dk_42 (dk_at dksX2_jay_0 0 rfl rfl)
theorem dX2_jay_1 : decode cX2_jay 1 = .ok (.iload_n 1, 1) := dk_27 (dk_at dksX2_jay_0 1 rfl rfl)
theorem dX2_jay_2 : decode cX2_jay 2 = .ok (.invokevirtual 194, 3) := dk_182 0 194 (dk_at dksX2_jay_0 2 rfl rfl)
theorem dX2_jay_5 : decode cX2_jay 5 = .ok (.ifCond .ne 6, 3) := dk_154 0 6 (dk_at dksX2_jay_0 5 rfl rfl)
theorem dX2_jay_8 : decode cX2_jay 8 = .ok (.bipush (-2), 2) := dk_16 254 (dk_at dksX2_jay_0 8 rfl rfl)
theorem dX2_jay_10 : decode cX2_jay 10 = .ok (.ireturn, 1) := dk_172 (dk_at dksX2_jay_0 10 rfl rfl)
theorem dX2_jay_11 : decode cX2_jay 11 = .ok (.iload_n 2, 1) := dk_28 (dk_at dksX2_jay_0 11 rfl rfl)
theorem dX2_jay_12 : decode cX2_jay 12 = .ok (.iconst 0, 1) := dk_3 (dk_at dksX2_jay_0 12 rfl rfl)
theorem dX2_jay_13 : decode cX2_jay 13 = .ok (.bipush 10, 2) := dk_16 10 (dk_at dksX2_jay_0 13 rfl rfl)
theorem dX2_jay_15 : decode cX2_jay 15 = .ok (.invokestatic 59, 3) := dk_184 0 59 (dk_at dksX2_jay_0 15 rfl rfl)
theorem dX2_jay_18 : decode cX2_jay 18 = .ok (.ifCond .eq 12, 3) := dk_153 0 12 (dk_at dksX2_jay_0 18 rfl rfl)
theorem dX2_jay_21 : decode cX2_jay 21 = .ok (.iload_n 3, 1) := dk_29 (dk_at dksX2_jay_0 21 rfl rfl)
theorem dX2_jay_22 : decode cX2_jay 22 = .ok (.iconst 0, 1) := dk_3 (dk_at dksX2_jay_0 22 rfl rfl)
theorem dX2_jay_23 : decode cX2_jay 23 = .ok (.iconst 1, 1) := dk_4 (dk_at dksX2_jay_0 23 rfl rfl)
theorem dX2_jay_24 : decode cX2_jay 24 = .ok (.invokestatic 59, 3) := dk_184 0 59 (dk_at dksX2_jay_1 0 rfl rfl)
theorem dX2_jay_27 : decode cX2_jay 27 = .ok (.ifCond .ne 6, 3) := dk_154 0 6 (dk_at dksX2_jay_1 3 rfl rfl)
theorem dX2_jay_30 : decode cX2_jay 30 = .ok (.bipush (-3), 2) := dk_16 253 (dk_at dksX2_jay_1 6 rfl rfl)
theorem dX2_jay_32 : decode cX2_jay 32 = .ok (.ireturn, 1) := dk_172 (dk_at dksX2_jay_1 8 rfl rfl)
theorem dX2_jay_33 : decode cX2_jay 33 = .ok (.aload_n 0, 1) := dk_42 (dk_at dksX2_jay_1 9 rfl rfl)
theorem dX2_jay_34 : decode cX2_jay 34 = .ok (.getfield 19, 3) := dk_180 0 19 (dk_at dksX2_jay_1 10 rfl rfl)
theorem dX2_jay_37 : decode cX2_jay 37 = .ok (.iload_n 1, 1) := dk_27 (dk_at dksX2_jay_1 13 rfl rfl)
theorem dX2_jay_38 : decode cX2_jay 38 = .ok (.invokestatic 174, 3) := dk_184 0 174 (dk_at dksX2_jay_1 14 rfl rfl)
theorem dX2_jay_41 : decode cX2_jay 41 = .ok (.ifCond .eq 6, 3) := dk_153 0 6 (dk_at dksX2_jay_1 17 rfl rfl)
theorem dX2_jay_44 : decode cX2_jay 44 = .ok (.bipush (-4), 2) := dk_16 252 (dk_at dksX2_jay_1 20 rfl rfl)
theorem dX2_jay_46 : decode cX2_jay 46 = .ok (.ireturn, 1) := dk_172 (dk_at dksX2_jay_1 22 rfl rfl)
theorem dX2_jay_47 : decode cX2_jay 47 = .ok (.aload_n 0, 1) := dk_42 (dk_at dksX2_jay_1 23 rfl rfl)
theorem dX2_jay_48 : decode cX2_jay 48 = .ok (.getfield 19, 3) := dk_180 0 19 (dk_at dksX2_jay_2 0 rfl rfl)
theorem dX2_jay_51 : decode cX2_jay 51 = .ok (.invokestatic 163, 3) := dk_184 0 163 (dk_at dksX2_jay_2 3 rfl rfl)
theorem dX2_jay_54 : decode cX2_jay 54 = .ok (.istore 4, 2) := dk_54 4 (dk_at dksX2_jay_2 6 rfl rfl)
theorem dX2_jay_56 : decode cX2_jay 56 = .ok (.bipush 21, 2) := dk_16 21 (dk_at dksX2_jay_2 8 rfl rfl)
theorem dX2_jay_58 : decode cX2_jay 58 = .ok (.iconst 5, 1) := dk_8 (dk_at dksX2_jay_2 10 rfl rfl)
theorem dX2_jay_59 : decode cX2_jay 59 = .ok (.iload_n 1, 1) := dk_27 (dk_at dksX2_jay_2 11 rfl rfl)
theorem dX2_jay_60 : decode cX2_jay 60 = .ok (.imul, 1) := dk_104 (dk_at dksX2_jay_2 12 rfl rfl)
theorem dX2_jay_61 : decode cX2_jay 61 = .ok (.iadd, 1) := dk_96 (dk_at dksX2_jay_2 13 rfl rfl)
theorem dX2_jay_62 : decode cX2_jay 62 = .ok (.iconst 3, 1) := dk_6 (dk_at dksX2_jay_2 14 rfl rfl)
theorem dX2_jay_63 : decode cX2_jay 63 = .ok (.iadd, 1) := dk_96 (dk_at dksX2_jay_2 15 rfl rfl)
theorem dX2_jay_64 : decode cX2_jay 64 = .ok (.istore 5, 2) := dk_54 5 (dk_at dksX2_jay_2 16 rfl rfl)
theorem dX2_jay_66 : decode cX2_jay 66 = .ok (.iconst 0, 1) := dk_3 (dk_at dksX2_jay_2 18 rfl rfl)
theorem dX2_jay_67 : decode cX2_jay 67 = .ok (.istore 6, 2) := dk_54 6 (dk_at dksX2_jay_2 19 rfl rfl)
theorem dX2_jay_69 : decode cX2_jay 69 = .ok (.iconst 1, 1) := dk_4 (dk_at dksX2_jay_2 21 rfl rfl)
theorem dX2_jay_70 : decode cX2_jay 70 = .ok (.istore 7, 2) := dk_54 7 (dk_at dksX2_jay_2 22 rfl rfl)
theorem dX2_jay_72 : decode cX2_jay 72 = .ok (.iconst 0, 1) := dk_3 (dk_at dksX2_jay_3 0 rfl rfl)
theorem dX2_jay_73 : decode cX2_jay 73 = .ok (.istore 8, 2) := dk_54 8 (dk_at dksX2_jay_3 1 rfl rfl)
theorem dX2_jay_75 : decode cX2_jay 75 = .ok (.iload 8, 2) := dk_21 8 (dk_at dksX2_jay_3 3 rfl rfl)
theorem dX2_jay_77 : decode cX2_jay 77 = .ok (.iload 4, 2) := dk_21 4 (dk_at dksX2_jay_3 5 rfl rfl)
theorem dX2_jay_79 : decode cX2_jay 79 = .ok (.invokestatic 213, 3) := dk_184 0 213 (dk_at dksX2_jay_3 7 rfl rfl)
theorem dX2_jay_82 : decode cX2_jay 82 = .ok (.if_icmp .ge 16, 3) := dk_162 0 16 (dk_at dksX2_jay_3 10 rfl rfl)
theorem dX2_jay_85 : decode cX2_jay 85 = .ok (.iload 7, 2) := dk_21 7 (dk_at dksX2_jay_3 13 rfl rfl)
theorem dX2_jay_87 : decode cX2_jay 87 = .ok (.bipush 10, 2) := dk_16 10 (dk_at dksX2_jay_3 15 rfl rfl)
theorem dX2_jay_89 : decode cX2_jay 89 = .ok (.imul, 1) := dk_104 (dk_at dksX2_jay_3 17 rfl rfl)
theorem dX2_jay_90 : decode cX2_jay 90 = .ok (.istore 7, 2) := dk_54 7 (dk_at dksX2_jay_3 18 rfl rfl)
theorem dX2_jay_92 : decode cX2_jay 92 = .ok (.iinc 8 1, 3) := dk_132 8 1 (dk_at dksX2_jay_3 20 rfl rfl)
theorem dX2_jay_95 : decode cX2_jay 95 = .ok (.goto (-20), 3) := dk_167 255 236 (dk_at dksX2_jay_4 0 rfl rfl)
theorem dX2_jay_98 : decode cX2_jay 98 = .ok (.iconst 0, 1) := dk_3 (dk_at dksX2_jay_4 3 rfl rfl)
theorem dX2_jay_99 : decode cX2_jay 99 = .ok (.istore 8, 2) := dk_54 8 (dk_at dksX2_jay_4 4 rfl rfl)
theorem dX2_jay_101 : decode cX2_jay 101 = .ok (.iload 8, 2) := dk_21 8 (dk_at dksX2_jay_4 6 rfl rfl)
theorem dX2_jay_103 : decode cX2_jay 103 = .ok (.iload 4, 2) := dk_21 4 (dk_at dksX2_jay_4 8 rfl rfl)
theorem dX2_jay_105 : decode cX2_jay 105 = .ok (.if_icmp .gt 168, 3) := dk_163 0 168 (dk_at dksX2_jay_4 10 rfl rfl)
theorem dX2_jay_108 : decode cX2_jay 108 = .ok (.iload 8, 2) := dk_21 8 (dk_at dksX2_jay_4 13 rfl rfl)
theorem dX2_jay_110 : decode cX2_jay 110 = .ok (.iload 4, 2) := dk_21 4 (dk_at dksX2_jay_4 15 rfl rfl)
theorem dX2_jay_112 : decode cX2_jay 112 = .ok (.iconst (-1), 1) := dk_2 (dk_at dksX2_jay_4 17 rfl rfl)
theorem dX2_jay_113 : decode cX2_jay 113 = .ok (.ixor, 1) := dk_130 (dk_at dksX2_jay_4 18 rfl rfl)
theorem dX2_jay_114 : decode cX2_jay 114 = .ok (.iand, 1) := dk_126 (dk_at dksX2_jay_4 19 rfl rfl)
theorem dX2_jay_115 : decode cX2_jay 115 = .ok (.ifCond .ne 152, 3) := dk_154 0 152 (dk_at dksX2_jay_4 20 rfl rfl)
theorem dX2_jay_118 : decode cX2_jay 118 = .ok (.iconst 1, 1) := dk_4 (dk_at dksX2_jay_4 23 rfl rfl)
theorem dX2_jay_119 : decode cX2_jay 119 = .ok (.istore 9, 2) := dk_54 9 (dk_at dksX2_jay_5 0 rfl rfl)
theorem dX2_jay_121 : decode cX2_jay 121 = .ok (.aload_n 0, 1) := dk_42 (dk_at dksX2_jay_5 2 rfl rfl)
theorem dX2_jay_122 : decode cX2_jay 122 = .ok (.getfield 19, 3) := dk_180 0 19 (dk_at dksX2_jay_5 3 rfl rfl)
theorem dX2_jay_125 : decode cX2_jay 125 = .ok (.iconst 0, 1) := dk_3 (dk_at dksX2_jay_5 6 rfl rfl)
theorem dX2_jay_126 : decode cX2_jay 126 = .ok (.aload_n 0, 1) := dk_42 (dk_at dksX2_jay_5 7 rfl rfl)
theorem dX2_jay_127 : decode cX2_jay 127 = .ok (.getfield 22, 3) := dk_180 0 22 (dk_at dksX2_jay_5 8 rfl rfl)
theorem dX2_jay_130 : decode cX2_jay 130 = .ok (.iconst 0, 1) := dk_3 (dk_at dksX2_jay_5 11 rfl rfl)
theorem dX2_jay_131 : decode cX2_jay 131 = .ok (.invokestatic 130, 3) := dk_184 0 130 (dk_at dksX2_jay_5 12 rfl rfl)
theorem dX2_jay_134 : decode cX2_jay 134 = .ok (.iconst 0, 1) := dk_3 (dk_at dksX2_jay_5 15 rfl rfl)
theorem dX2_jay_135 : decode cX2_jay 135 = .ok (.istore 10, 2) := dk_54 10 (dk_at dksX2_jay_5 16 rfl rfl)
theorem dX2_jay_137 : decode cX2_jay 137 = .ok (.iload 10, 2) := dk_21 10 (dk_at dksX2_jay_5 18 rfl rfl)
theorem dX2_jay_139 : decode cX2_jay 139 = .ok (.aload_n 0, 1) := dk_42 (dk_at dksX2_jay_5 20 rfl rfl)
theorem dX2_jay_140 : decode cX2_jay 140 = .ok (.getfield 19, 3) := dk_180 0 19 (dk_at dksX2_jay_5 21 rfl rfl)
theorem dX2_jay_143 : decode cX2_jay 143 = .ok (.iconst 0, 1) := dk_3 (dk_at dksX2_jay_6 0 rfl rfl)
theorem dX2_jay_144 : decode cX2_jay 144 = .ok (.iaload, 1) := dk_46 (dk_at dksX2_jay_6 1 rfl rfl)
theorem dX2_jay_145 : decode cX2_jay 145 = .ok (.if_icmp .ge 86, 3) := dk_162 0 86 (dk_at dksX2_jay_6 2 rfl rfl)
theorem dX2_jay_148 : decode cX2_jay 148 = .ok (.iload 9, 2) := dk_21 9 (dk_at dksX2_jay_6 5 rfl rfl)
theorem dX2_jay_150 : decode cX2_jay 150 = .ok (.iload 4, 2) := dk_21 4 (dk_at dksX2_jay_6 7 rfl rfl)
theorem dX2_jay_152 : decode cX2_jay 152 = .ok (.iload 10, 2) := dk_21 10 (dk_at dksX2_jay_6 9 rfl rfl)
theorem dX2_jay_154 : decode cX2_jay 154 = .ok (.invokestatic 152, 3) := dk_184 0 152 (dk_at dksX2_jay_6 11 rfl rfl)
theorem dX2_jay_157 : decode cX2_jay 157 = .ok (.ifCond .ne 7, 3) := dk_154 0 7 (dk_at dksX2_jay_6 14 rfl rfl)
theorem dX2_jay_160 : decode cX2_jay 160 = .ok (.iconst 1, 1) := dk_4 (dk_at dksX2_jay_6 17 rfl rfl)
theorem dX2_jay_161 : decode cX2_jay 161 = .ok (.goto 21, 3) := dk_167 0 21 (dk_at dksX2_jay_6 18 rfl rfl)
theorem dX2_jay_164 : decode cX2_jay 164 = .ok (.iload 8, 2) := dk_21 8 (dk_at dksX2_jay_6 21 rfl rfl)
theorem dX2_jay_166 : decode cX2_jay 166 = .ok (.iload 10, 2) := dk_21 10 (dk_at dksX2_jay_7 0 rfl rfl)
theorem dX2_jay_168 : decode cX2_jay 168 = .ok (.invokestatic 152, 3) := dk_184 0 152 (dk_at dksX2_jay_7 2 rfl rfl)
theorem dX2_jay_171 : decode cX2_jay 171 = .ok (.ifCond .eq 7, 3) := dk_153 0 7 (dk_at dksX2_jay_7 5 rfl rfl)
theorem dX2_jay_174 : decode cX2_jay 174 = .ok (.iload_n 2, 1) := dk_28 (dk_at dksX2_jay_7 8 rfl rfl)
theorem dX2_jay_175 : decode cX2_jay 175 = .ok (.goto 7, 3) := dk_167 0 7 (dk_at dksX2_jay_7 9 rfl rfl)
theorem dX2_jay_178 : decode cX2_jay 178 = .ok (.bipush 10, 2) := dk_16 10 (dk_at dksX2_jay_7 12 rfl rfl)
theorem dX2_jay_180 : decode cX2_jay 180 = .ok (.iload_n 2, 1) := dk_28 (dk_at dksX2_jay_7 14 rfl rfl)
theorem dX2_jay_181 : decode cX2_jay 181 = .ok (.isub, 1) := dk_100 (dk_at dksX2_jay_7 15 rfl rfl)
theorem dX2_jay_182 : decode cX2_jay 182 = .ok (.imul, 1) := dk_104 (dk_at dksX2_jay_7 16 rfl rfl)
theorem dX2_jay_183 : decode cX2_jay 183 = .ok (.istore 9, 2) := dk_54 9 (dk_at dksX2_jay_7 17 rfl rfl)
theorem dX2_jay_185 : decode cX2_jay 185 = .ok (.aload_n 0, 1) := dk_42 (dk_at dksX2_jay_7 19 rfl rfl)
theorem dX2_jay_186 : decode cX2_jay 186 = .ok (.getfield 22, 3) := dk_180 0 22 (dk_at dksX2_jay_7 20 rfl rfl)
theorem dX2_jay_189 : decode cX2_jay 189 = .ok (.iconst 3, 1) := dk_6 (dk_at dksX2_jay_7 23 rfl rfl)
theorem dX2_jay_190 : decode cX2_jay 190 = .ok (.iconst 2, 1) := dk_5 (dk_at dksX2_jay_8 0 rfl rfl)
theorem dX2_jay_191 : decode cX2_jay 191 = .ok (.iload 10, 2) := dk_21 10 (dk_at dksX2_jay_8 1 rfl rfl)
theorem dX2_jay_193 : decode cX2_jay 193 = .ok (.imul, 1) := dk_104 (dk_at dksX2_jay_8 3 rfl rfl)
theorem dX2_jay_194 : decode cX2_jay 194 = .ok (.iadd, 1) := dk_96 (dk_at dksX2_jay_8 4 rfl rfl)
theorem dX2_jay_195 : decode cX2_jay 195 = .ok (.iconst 1, 1) := dk_4 (dk_at dksX2_jay_8 5 rfl rfl)
theorem dX2_jay_196 : decode cX2_jay 196 = .ok (.iadd, 1) := dk_96 (dk_at dksX2_jay_8 6 rfl rfl)
theorem dX2_jay_197 : decode cX2_jay 197 = .ok (.iload 8, 2) := dk_21 8 (dk_at dksX2_jay_8 7 rfl rfl)
theorem dX2_jay_199 : decode cX2_jay 199 = .ok (.iload 10, 2) := dk_21 10 (dk_at dksX2_jay_8 9 rfl rfl)
theorem dX2_jay_201 : decode cX2_jay 201 = .ok (.invokestatic 152, 3) := dk_184 0 152 (dk_at dksX2_jay_8 11 rfl rfl)
theorem dX2_jay_204 : decode cX2_jay 204 = .ok (.ifCond .eq 7, 3) := dk_153 0 7 (dk_at dksX2_jay_8 14 rfl rfl)
theorem dX2_jay_207 : decode cX2_jay 207 = .ok (.iconst 0, 1) := dk_3 (dk_at dksX2_jay_8 17 rfl rfl)
theorem dX2_jay_208 : decode cX2_jay 208 = .ok (.goto 16, 3) := dk_167 0 16 (dk_at dksX2_jay_8 18 rfl rfl)
theorem dX2_jay_211 : decode cX2_jay 211 = .ok (.aload_n 0, 1) := dk_42 (dk_at dksX2_jay_8 21 rfl rfl)
theorem dX2_jay_212 : decode cX2_jay 212 = .ok (.getfield 19, 3) := dk_180 0 19 (dk_at dksX2_jay_9 0 rfl rfl)
theorem dX2_jay_215 : decode cX2_jay 215 = .ok (.iconst 3, 1) := dk_6 (dk_at dksX2_jay_9 3 rfl rfl)
theorem dX2_jay_216 : decode cX2_jay 216 = .ok (.iconst 2, 1) := dk_5 (dk_at dksX2_jay_9 4 rfl rfl)
theorem dX2_jay_217 : decode cX2_jay 217 = .ok (.iload 10, 2) := dk_21 10 (dk_at dksX2_jay_9 5 rfl rfl)
theorem dX2_jay_219 : decode cX2_jay 219 = .ok (.imul, 1) := dk_104 (dk_at dksX2_jay_9 7 rfl rfl)
theorem dX2_jay_220 : decode cX2_jay 220 = .ok (.iadd, 1) := dk_96 (dk_at dksX2_jay_9 8 rfl rfl)
theorem dX2_jay_221 : decode cX2_jay 221 = .ok (.iconst 1, 1) := dk_4 (dk_at dksX2_jay_9 9 rfl rfl)
theorem dX2_jay_222 : decode cX2_jay 222 = .ok (.iadd, 1) := dk_96 (dk_at dksX2_jay_9 10 rfl rfl)
theorem dX2_jay_223 : decode cX2_jay 223 = .ok (.iaload, 1) := dk_46 (dk_at dksX2_jay_9 11 rfl rfl)
theorem dX2_jay_224 : decode cX2_jay 224 = .ok (.iastore, 1) := dk_79 (dk_at dksX2_jay_9 12 rfl rfl)
theorem dX2_jay_225 : decode cX2_jay 225 = .ok (.iinc 10 1, 3) := dk_132 10 1 (dk_at dksX2_jay_9 13 rfl rfl)
theorem dX2_jay_228 : decode cX2_jay 228 = .ok (.goto (-91), 3) := dk_167 255 165 (dk_at dksX2_jay_9 16 rfl rfl)
theorem dX2_jay_231 : decode cX2_jay 231 = .ok (.aload_n 0, 1) := dk_42 (dk_at dksX2_jay_9 19 rfl rfl)
theorem dX2_jay_232 : decode cX2_jay 232 = .ok (.aload_n 0, 1) := dk_42 (dk_at dksX2_jay_9 20 rfl rfl)
theorem dX2_jay_233 : decode cX2_jay 233 = .ok (.getfield 22, 3) := dk_180 0 22 (dk_at dksX2_jay_9 21 rfl rfl)
theorem dX2_jay_236 : decode cX2_jay 236 = .ok (.invokevirtual 203, 3) := dk_182 0 203 (dk_at dksX2_jay_10 0 rfl rfl)
theorem dX2_jay_239 : decode cX2_jay 239 = .ok (.iload 6, 2) := dk_21 6 (dk_at dksX2_jay_10 3 rfl rfl)
theorem dX2_jay_241 : decode cX2_jay 241 = .ok (.aload_n 0, 1) := dk_42 (dk_at dksX2_jay_10 5 rfl rfl)
theorem dX2_jay_242 : decode cX2_jay 242 = .ok (.getfield 22, 3) := dk_180 0 22 (dk_at dksX2_jay_10 6 rfl rfl)
theorem dX2_jay_245 : decode cX2_jay 245 = .ok (.iload 5, 2) := dk_21 5 (dk_at dksX2_jay_10 9 rfl rfl)
theorem dX2_jay_247 : decode cX2_jay 247 = .ok (.iaload, 1) := dk_46 (dk_at dksX2_jay_10 11 rfl rfl)
theorem dX2_jay_248 : decode cX2_jay 248 = .ok (.aload_n 0, 1) := dk_42 (dk_at dksX2_jay_10 12 rfl rfl)
theorem dX2_jay_249 : decode cX2_jay 249 = .ok (.getfield 19, 3) := dk_180 0 19 (dk_at dksX2_jay_10 13 rfl rfl)
theorem dX2_jay_252 : decode cX2_jay 252 = .ok (.iload 5, 2) := dk_21 5 (dk_at dksX2_jay_10 16 rfl rfl)
theorem dX2_jay_254 : decode cX2_jay 254 = .ok (.iaload, 1) := dk_46 (dk_at dksX2_jay_10 18 rfl rfl)
theorem dX2_jay_255 : decode cX2_jay 255 = .ok (.if_icmp .gt 8, 3) := dk_163 0 8 (dk_at dksX2_jay_10 19 rfl rfl)
theorem dX2_jay_258 : decode cX2_jay 258 = .ok (.iload 9, 2) := dk_21 9 (dk_at dksX2_jay_10 22 rfl rfl)
theorem dX2_jay_260 : decode cX2_jay 260 = .ok (.goto 4, 3) := dk_167 0 4 (dk_at dksX2_jay_11 0 rfl rfl)
theorem dX2_jay_263 : decode cX2_jay 263 = .ok (.iconst 0, 1) := dk_3 (dk_at dksX2_jay_11 3 rfl rfl)
theorem dX2_jay_264 : decode cX2_jay 264 = .ok (.iadd, 1) := dk_96 (dk_at dksX2_jay_11 4 rfl rfl)
theorem dX2_jay_265 : decode cX2_jay 265 = .ok (.istore 6, 2) := dk_54 6 (dk_at dksX2_jay_11 5 rfl rfl)
theorem dX2_jay_267 : decode cX2_jay 267 = .ok (.iinc 8 1, 3) := dk_132 8 1 (dk_at dksX2_jay_11 7 rfl rfl)
theorem dX2_jay_270 : decode cX2_jay 270 = .ok (.goto (-169), 3) := dk_167 255 87 (dk_at dksX2_jay_11 10 rfl rfl)
theorem dX2_jay_273 : decode cX2_jay 273 = .ok (.iload 6, 2) := dk_21 6 (dk_at dksX2_jay_11 13 rfl rfl)
theorem dX2_jay_275 : decode cX2_jay 275 = .ok (.istore 8, 2) := dk_54 8 (dk_at dksX2_jay_11 15 rfl rfl)
theorem dX2_jay_277 : decode cX2_jay 277 = .ok (.iload 7, 2) := dk_21 7 (dk_at dksX2_jay_11 17 rfl rfl)
theorem dX2_jay_279 : decode cX2_jay 279 = .ok (.istore 9, 2) := dk_54 9 (dk_at dksX2_jay_11 19 rfl rfl)
theorem dX2_jay_281 : decode cX2_jay 281 = .ok (.iload 9, 2) := dk_21 9 (dk_at dksX2_jay_11 21 rfl rfl)
theorem dX2_jay_283 : decode cX2_jay 283 = .ok (.ifCond .eq 21, 3) := dk_153 0 21 (dk_at dksX2_jay_12 0 rfl rfl)
theorem dX2_jay_286 : decode cX2_jay 286 = .ok (.iload 8, 2) := dk_21 8 (dk_at dksX2_jay_12 3 rfl rfl)
theorem dX2_jay_288 : decode cX2_jay 288 = .ok (.iload 9, 2) := dk_21 9 (dk_at dksX2_jay_12 5 rfl rfl)
theorem dX2_jay_290 : decode cX2_jay 290 = .ok (.irem, 1) := dk_112 (dk_at dksX2_jay_12 7 rfl rfl)
theorem dX2_jay_291 : decode cX2_jay 291 = .ok (.istore 10, 2) := dk_54 10 (dk_at dksX2_jay_12 8 rfl rfl)
theorem dX2_jay_293 : decode cX2_jay 293 = .ok (.iload 9, 2) := dk_21 9 (dk_at dksX2_jay_12 10 rfl rfl)
theorem dX2_jay_295 : decode cX2_jay 295 = .ok (.istore 8, 2) := dk_54 8 (dk_at dksX2_jay_12 12 rfl rfl)
theorem dX2_jay_297 : decode cX2_jay 297 = .ok (.iload 10, 2) := dk_21 10 (dk_at dksX2_jay_12 14 rfl rfl)
theorem dX2_jay_299 : decode cX2_jay 299 = .ok (.istore 9, 2) := dk_54 9 (dk_at dksX2_jay_12 16 rfl rfl)
theorem dX2_jay_301 : decode cX2_jay 301 = .ok (.goto (-20), 3) := dk_167 255 236 (dk_at dksX2_jay_12 18 rfl rfl)
theorem dX2_jay_304 : decode cX2_jay 304 = .ok (.iload_n 3, 1) := dk_29 (dk_at dksX2_jay_12 21 rfl rfl)
theorem dX2_jay_305 : decode cX2_jay 305 = .ok (.ifCond .ne 8, 3) := dk_154 0 8 (dk_at dksX2_jay_13 0 rfl rfl)
theorem dX2_jay_308 : decode cX2_jay 308 = .ok (.iload 6, 2) := dk_21 6 (dk_at dksX2_jay_13 3 rfl rfl)
theorem dX2_jay_310 : decode cX2_jay 310 = .ok (.goto 5, 3) := dk_167 0 5 (dk_at dksX2_jay_13 5 rfl rfl)
theorem dX2_jay_313 : decode cX2_jay 313 = .ok (.iload 7, 2) := dk_21 7 (dk_at dksX2_jay_13 8 rfl rfl)
theorem dX2_jay_315 : decode cX2_jay 315 = .ok (.iload 8, 2) := dk_21 8 (dk_at dksX2_jay_13 10 rfl rfl)
theorem dX2_jay_317 : decode cX2_jay 317 = .ok (.idiv, 1) := dk_108 (dk_at dksX2_jay_13 12 rfl rfl)
theorem dX2_jay_318 : decode cX2_jay 318 = .ok (.ireturn, 1) := dk_172 (dk_at dksX2_jay_13 13 rfl rfl)
abbrev cX2_seen : ByteArray := prog_14_method_65_code
def yX2_seen : MethodName := ⟨RX2, "seen", "(IIII)I"⟩
def dkwX2_seen_5 : List UInt8 := [181, 0, 143, 42, 180, 0, 143, 172]
abbrev dktX2_seen_5 : List UInt8 := dkwX2_seen_5 ++ []
def dkwX2_seen_4 : List UInt8 := [42, 180, 0, 38, 7, 42, 180, 0, 143, 104, 6, 96, 21, 4, 79, 42, 89, 180, 0, 143, 4, 96]
abbrev dktX2_seen_4 : List UInt8 := dkwX2_seen_4 ++ dktX2_seen_5
def dkwX2_seen_3 : List UInt8 := [7, 42, 180, 0, 143, 104, 4, 96, 28, 79, 42, 180, 0, 38, 7, 42, 180, 0, 143, 104, 5, 96, 29, 79]
abbrev dktX2_seen_3 : List UInt8 := dkwX2_seen_3 ++ dktX2_seen_4
def dkwX2_seen_2 : List UInt8 := [16, 6, 160, 0, 6, 16, 251, 172, 42, 180, 0, 38, 7, 42, 180, 0, 143, 104, 27, 79, 42, 180, 0, 38]
abbrev dktX2_seen_2 : List UInt8 := dkwX2_seen_2 ++ dktX2_seen_3
def dkwX2_seen_1 : List UInt8 := [184, 0, 59, 153, 0, 13, 21, 4, 3, 6, 184, 0, 59, 154, 0, 6, 16, 253, 172, 42, 180, 0, 143]
abbrev dktX2_seen_1 : List UInt8 := dkwX2_seen_1 ++ dktX2_seen_2
def dkwX2_seen_0 : List UInt8 := [27, 4, 16, 9, 184, 0, 59, 153, 0, 32, 28, 3, 4, 184, 0, 59, 153, 0, 23, 29, 3, 16, 19]
abbrev dktX2_seen_0 : List UInt8 := dkwX2_seen_0 ++ dktX2_seen_1
theorem dksX2_seen_0 : cX2_seen.data.toList.drop 0 = dktX2_seen_0 := by decide +kernel
theorem dksX2_seen_1 : cX2_seen.data.toList.drop 23 = dktX2_seen_1 := dk_seg dksX2_seen_0 23 rfl rfl
theorem dksX2_seen_2 : cX2_seen.data.toList.drop 46 = dktX2_seen_2 := dk_seg dksX2_seen_1 23 rfl rfl
theorem dksX2_seen_3 : cX2_seen.data.toList.drop 70 = dktX2_seen_3 := dk_seg dksX2_seen_2 24 rfl rfl
theorem dksX2_seen_4 : cX2_seen.data.toList.drop 94 = dktX2_seen_4 := dk_seg dksX2_seen_3 24 rfl rfl
theorem dksX2_seen_5 : cX2_seen.data.toList.drop 116 = dktX2_seen_5 := dk_seg dksX2_seen_4 22 rfl rfl
theorem dX2_seen_0 : decode cX2_seen 0 = .ok (.iload_n 1, 1) := dk_27 (dk_at dksX2_seen_0 0 rfl rfl)
theorem dX2_seen_1 : decode cX2_seen 1 = .ok (.iconst 1, 1) := dk_4 (dk_at dksX2_seen_0 1 rfl rfl)
theorem dX2_seen_2 : decode cX2_seen 2 = .ok (.bipush 9, 2) := dk_16 9 (dk_at dksX2_seen_0 2 rfl rfl)
theorem dX2_seen_4 : decode cX2_seen 4 = .ok (.invokestatic 59, 3) := dk_184 0 59 (dk_at dksX2_seen_0 4 rfl rfl)
theorem dX2_seen_7 : decode cX2_seen 7 = .ok (.ifCond .eq 32, 3) := dk_153 0 32 (dk_at dksX2_seen_0 7 rfl rfl)
theorem dX2_seen_10 : decode cX2_seen 10 = .ok (.iload_n 2, 1) := dk_28 (dk_at dksX2_seen_0 10 rfl rfl)
theorem dX2_seen_11 : decode cX2_seen 11 = .ok (.iconst 0, 1) := dk_3 (dk_at dksX2_seen_0 11 rfl rfl)
theorem dX2_seen_12 : decode cX2_seen 12 = .ok (.iconst 1, 1) := dk_4 (dk_at dksX2_seen_0 12 rfl rfl)
theorem dX2_seen_13 : decode cX2_seen 13 = .ok (.invokestatic 59, 3) := dk_184 0 59 (dk_at dksX2_seen_0 13 rfl rfl)
theorem dX2_seen_16 : decode cX2_seen 16 = .ok (.ifCond .eq 23, 3) := dk_153 0 23 (dk_at dksX2_seen_0 16 rfl rfl)
theorem dX2_seen_19 : decode cX2_seen 19 = .ok (.iload_n 3, 1) := dk_29 (dk_at dksX2_seen_0 19 rfl rfl)
theorem dX2_seen_20 : decode cX2_seen 20 = .ok (.iconst 0, 1) := dk_3 (dk_at dksX2_seen_0 20 rfl rfl)
theorem dX2_seen_21 : decode cX2_seen 21 = .ok (.bipush 19, 2) := dk_16 19 (dk_at dksX2_seen_0 21 rfl rfl)
theorem dX2_seen_23 : decode cX2_seen 23 = .ok (.invokestatic 59, 3) := dk_184 0 59 (dk_at dksX2_seen_1 0 rfl rfl)
theorem dX2_seen_26 : decode cX2_seen 26 = .ok (.ifCond .eq 13, 3) := dk_153 0 13 (dk_at dksX2_seen_1 3 rfl rfl)
theorem dX2_seen_29 : decode cX2_seen 29 = .ok (.iload 4, 2) := dk_21 4 (dk_at dksX2_seen_1 6 rfl rfl)
theorem dX2_seen_31 : decode cX2_seen 31 = .ok (.iconst 0, 1) := dk_3 (dk_at dksX2_seen_1 8 rfl rfl)
theorem dX2_seen_32 : decode cX2_seen 32 = .ok (.iconst 3, 1) := dk_6 (dk_at dksX2_seen_1 9 rfl rfl)
theorem dX2_seen_33 : decode cX2_seen 33 = .ok (.invokestatic 59, 3) := dk_184 0 59 (dk_at dksX2_seen_1 10 rfl rfl)
theorem dX2_seen_36 : decode cX2_seen 36 = .ok (.ifCond .ne 6, 3) := dk_154 0 6 (dk_at dksX2_seen_1 13 rfl rfl)
theorem dX2_seen_39 : decode cX2_seen 39 = .ok (.bipush (-3), 2) := dk_16 253 (dk_at dksX2_seen_1 16 rfl rfl)
theorem dX2_seen_41 : decode cX2_seen 41 = .ok (.ireturn, 1) := dk_172 (dk_at dksX2_seen_1 18 rfl rfl)
theorem dX2_seen_42 : decode cX2_seen 42 = .ok (.aload_n 0, 1) := dk_42 (dk_at dksX2_seen_1 19 rfl rfl)
theorem dX2_seen_43 : decode cX2_seen 43 = .ok (.getfield 143, 3) := dk_180 0 143 (dk_at dksX2_seen_1 20 rfl rfl)
theorem dX2_seen_46 : decode cX2_seen 46 = .ok (.bipush 6, 2) := dk_16 6 (dk_at dksX2_seen_2 0 rfl rfl)
theorem dX2_seen_48 : decode cX2_seen 48 = .ok (.if_icmp .ne 6, 3) := dk_160 0 6 (dk_at dksX2_seen_2 2 rfl rfl)
theorem dX2_seen_51 : decode cX2_seen 51 = .ok (.bipush (-5), 2) := dk_16 251 (dk_at dksX2_seen_2 5 rfl rfl)
theorem dX2_seen_53 : decode cX2_seen 53 = .ok (.ireturn, 1) := dk_172 (dk_at dksX2_seen_2 7 rfl rfl)
theorem dX2_seen_54 : decode cX2_seen 54 = .ok (.aload_n 0, 1) := dk_42 (dk_at dksX2_seen_2 8 rfl rfl)
theorem dX2_seen_55 : decode cX2_seen 55 = .ok (.getfield 38, 3) := dk_180 0 38 (dk_at dksX2_seen_2 9 rfl rfl)
theorem dX2_seen_58 : decode cX2_seen 58 = .ok (.iconst 4, 1) := dk_7 (dk_at dksX2_seen_2 12 rfl rfl)
theorem dX2_seen_59 : decode cX2_seen 59 = .ok (.aload_n 0, 1) := dk_42 (dk_at dksX2_seen_2 13 rfl rfl)
theorem dX2_seen_60 : decode cX2_seen 60 = .ok (.getfield 143, 3) := dk_180 0 143 (dk_at dksX2_seen_2 14 rfl rfl)
theorem dX2_seen_63 : decode cX2_seen 63 = .ok (.imul, 1) := dk_104 (dk_at dksX2_seen_2 17 rfl rfl)
theorem dX2_seen_64 : decode cX2_seen 64 = .ok (.iload_n 1, 1) := dk_27 (dk_at dksX2_seen_2 18 rfl rfl)
theorem dX2_seen_65 : decode cX2_seen 65 = .ok (.iastore, 1) := dk_79 (dk_at dksX2_seen_2 19 rfl rfl)
theorem dX2_seen_66 : decode cX2_seen 66 = .ok (.aload_n 0, 1) := dk_42 (dk_at dksX2_seen_2 20 rfl rfl)
theorem dX2_seen_67 : decode cX2_seen 67 = .ok (.getfield 38, 3) := dk_180 0 38 (dk_at dksX2_seen_2 21 rfl rfl)
theorem dX2_seen_70 : decode cX2_seen 70 = .ok (.iconst 4, 1) := dk_7 (dk_at dksX2_seen_3 0 rfl rfl)
theorem dX2_seen_71 : decode cX2_seen 71 = .ok (.aload_n 0, 1) := dk_42 (dk_at dksX2_seen_3 1 rfl rfl)
theorem dX2_seen_72 : decode cX2_seen 72 = .ok (.getfield 143, 3) := dk_180 0 143 (dk_at dksX2_seen_3 2 rfl rfl)
theorem dX2_seen_75 : decode cX2_seen 75 = .ok (.imul, 1) := dk_104 (dk_at dksX2_seen_3 5 rfl rfl)
theorem dX2_seen_76 : decode cX2_seen 76 = .ok (.iconst 1, 1) := dk_4 (dk_at dksX2_seen_3 6 rfl rfl)
theorem dX2_seen_77 : decode cX2_seen 77 = .ok (.iadd, 1) := dk_96 (dk_at dksX2_seen_3 7 rfl rfl)
theorem dX2_seen_78 : decode cX2_seen 78 = .ok (.iload_n 2, 1) := dk_28 (dk_at dksX2_seen_3 8 rfl rfl)
theorem dX2_seen_79 : decode cX2_seen 79 = .ok (.iastore, 1) := dk_79 (dk_at dksX2_seen_3 9 rfl rfl)
theorem dX2_seen_80 : decode cX2_seen 80 = .ok (.aload_n 0, 1) := dk_42 (dk_at dksX2_seen_3 10 rfl rfl)
theorem dX2_seen_81 : decode cX2_seen 81 = .ok (.getfield 38, 3) := dk_180 0 38 (dk_at dksX2_seen_3 11 rfl rfl)
theorem dX2_seen_84 : decode cX2_seen 84 = .ok (.iconst 4, 1) := dk_7 (dk_at dksX2_seen_3 14 rfl rfl)
theorem dX2_seen_85 : decode cX2_seen 85 = .ok (.aload_n 0, 1) := dk_42 (dk_at dksX2_seen_3 15 rfl rfl)
theorem dX2_seen_86 : decode cX2_seen 86 = .ok (.getfield 143, 3) := dk_180 0 143 (dk_at dksX2_seen_3 16 rfl rfl)
theorem dX2_seen_89 : decode cX2_seen 89 = .ok (.imul, 1) := dk_104 (dk_at dksX2_seen_3 19 rfl rfl)
theorem dX2_seen_90 : decode cX2_seen 90 = .ok (.iconst 2, 1) := dk_5 (dk_at dksX2_seen_3 20 rfl rfl)
theorem dX2_seen_91 : decode cX2_seen 91 = .ok (.iadd, 1) := dk_96 (dk_at dksX2_seen_3 21 rfl rfl)
theorem dX2_seen_92 : decode cX2_seen 92 = .ok (.iload_n 3, 1) := dk_29 (dk_at dksX2_seen_3 22 rfl rfl)
theorem dX2_seen_93 : decode cX2_seen 93 = .ok (.iastore, 1) := dk_79 (dk_at dksX2_seen_3 23 rfl rfl)
theorem dX2_seen_94 : decode cX2_seen 94 = .ok (.aload_n 0, 1) := dk_42 (dk_at dksX2_seen_4 0 rfl rfl)
theorem dX2_seen_95 : decode cX2_seen 95 = .ok (.getfield 38, 3) := dk_180 0 38 (dk_at dksX2_seen_4 1 rfl rfl)
theorem dX2_seen_98 : decode cX2_seen 98 = .ok (.iconst 4, 1) := dk_7 (dk_at dksX2_seen_4 4 rfl rfl)
theorem dX2_seen_99 : decode cX2_seen 99 = .ok (.aload_n 0, 1) := dk_42 (dk_at dksX2_seen_4 5 rfl rfl)
theorem dX2_seen_100 : decode cX2_seen 100 = .ok (.getfield 143, 3) := dk_180 0 143 (dk_at dksX2_seen_4 6 rfl rfl)
theorem dX2_seen_103 : decode cX2_seen 103 = .ok (.imul, 1) := dk_104 (dk_at dksX2_seen_4 9 rfl rfl)
theorem dX2_seen_104 : decode cX2_seen 104 = .ok (.iconst 3, 1) := dk_6 (dk_at dksX2_seen_4 10 rfl rfl)
theorem dX2_seen_105 : decode cX2_seen 105 = .ok (.iadd, 1) := dk_96 (dk_at dksX2_seen_4 11 rfl rfl)
theorem dX2_seen_106 : decode cX2_seen 106 = .ok (.iload 4, 2) := dk_21 4 (dk_at dksX2_seen_4 12 rfl rfl)
theorem dX2_seen_108 : decode cX2_seen 108 = .ok (.iastore, 1) := dk_79 (dk_at dksX2_seen_4 14 rfl rfl)
theorem dX2_seen_109 : decode cX2_seen 109 = .ok (.aload_n 0, 1) := dk_42 (dk_at dksX2_seen_4 15 rfl rfl)
theorem dX2_seen_110 : decode cX2_seen 110 = .ok (.dup, 1) := dk_89 (dk_at dksX2_seen_4 16 rfl rfl)
theorem dX2_seen_111 : decode cX2_seen 111 = .ok (.getfield 143, 3) := dk_180 0 143 (dk_at dksX2_seen_4 17 rfl rfl)
theorem dX2_seen_114 : decode cX2_seen 114 = .ok (.iconst 1, 1) := dk_4 (dk_at dksX2_seen_4 20 rfl rfl)
theorem dX2_seen_115 : decode cX2_seen 115 = .ok (.iadd, 1) := dk_96 (dk_at dksX2_seen_4 21 rfl rfl)
theorem dX2_seen_116 : decode cX2_seen 116 = .ok (.putfield 143, 3) := dk_181 0 143 (dk_at dksX2_seen_5 0 rfl rfl)
theorem dX2_seen_119 : decode cX2_seen 119 = .ok (.aload_n 0, 1) := dk_42 (dk_at dksX2_seen_5 3 rfl rfl)
theorem dX2_seen_120 : decode cX2_seen 120 = .ok (.getfield 143, 3) := dk_180 0 143 (dk_at dksX2_seen_5 4 rfl rfl)
theorem dX2_seen_123 : decode cX2_seen 123 = .ok (.ireturn, 1) := dk_172 (dk_at dksX2_seen_5 7 rfl rfl)
abbrev cX2_forget : ByteArray := prog_14_method_66_code
def yX2_forget : MethodName := ⟨RX2, "forget", "()I"⟩
def dkwX2_forget_0 : List UInt8 := [42, 180, 0, 143, 60, 42, 3, 181, 0, 143, 27, 172]
abbrev dktX2_forget_0 : List UInt8 := dkwX2_forget_0 ++ []
theorem dksX2_forget_0 : cX2_forget.data.toList.drop 0 = dktX2_forget_0 := by decide +kernel
theorem dX2_forget_0 : decode cX2_forget 0 = .ok (.aload_n 0, 1) := dk_42 (dk_at dksX2_forget_0 0 rfl rfl)
theorem dX2_forget_1 : decode cX2_forget 1 = .ok (.getfield 143, 3) := dk_180 0 143 (dk_at dksX2_forget_0 1 rfl rfl)
theorem dX2_forget_4 : decode cX2_forget 4 = .ok (.istore_n 1, 1) := dk_60 (dk_at dksX2_forget_0 4 rfl rfl)
theorem dX2_forget_5 : decode cX2_forget 5 = .ok (.aload_n 0, 1) := dk_42 (dk_at dksX2_forget_0 5 rfl rfl)
theorem dX2_forget_6 : decode cX2_forget 6 = .ok (.iconst 0, 1) := dk_3 (dk_at dksX2_forget_0 6 rfl rfl)
theorem dX2_forget_7 : decode cX2_forget 7 = .ok (.putfield 143, 3) := dk_181 0 143 (dk_at dksX2_forget_0 7 rfl rfl)
theorem dX2_forget_10 : decode cX2_forget 10 = .ok (.iload_n 1, 1) := dk_27 (dk_at dksX2_forget_0 10 rfl rfl)
theorem dX2_forget_11 : decode cX2_forget 11 = .ok (.ireturn, 1) := dk_172 (dk_at dksX2_forget_0 11 rfl rfl)
abbrev cX2_kinds : ByteArray := prog_14_method_68_code
def yX2_kinds : MethodName := ⟨RX2, "kinds", "()I"⟩
def dkwX2_kinds_4 : List UInt8 := [4, 28, 120, 167, 0, 4, 3, 128, 60, 132, 2, 1, 167, 255, 152, 27, 172]
abbrev dktX2_kinds_4 : List UInt8 := dkwX2_kinds_4 ++ []
def dkwX2_kinds_3 : List UInt8 := [6, 96, 46, 96, 160, 0, 7, 4, 167, 0, 4, 3, 62, 132, 4, 1, 167, 255, 182, 27, 29, 153, 0, 9]
abbrev dktX2_kinds_3 : List UInt8 := dkwX2_kinds_3 ++ dktX2_kinds_4
def dkwX2_kinds_2 : List UInt8 := [184, 0, 219, 7, 42, 180, 0, 38, 7, 21, 4, 104, 5, 96, 46, 104, 42, 180, 0, 38, 7, 21, 4, 104]
abbrev dktX2_kinds_2 : List UInt8 := dkwX2_kinds_2 ++ dktX2_kinds_3
def dkwX2_kinds_1 : List UInt8 := [153, 0, 59, 28, 42, 180, 0, 38, 7, 21, 4, 104, 46, 42, 180, 0, 38, 7, 21, 4, 104, 4, 96, 46]
abbrev dktX2_kinds_1 : List UInt8 := dkwX2_kinds_1 ++ dktX2_kinds_2
def dkwX2_kinds_0 : List UInt8 := [3, 60, 3, 61, 28, 8, 162, 0, 105, 4, 62, 3, 54, 4, 21, 4, 42, 180, 0, 143, 162, 0, 71, 29]
abbrev dktX2_kinds_0 : List UInt8 := dkwX2_kinds_0 ++ dktX2_kinds_1
theorem dksX2_kinds_0 : cX2_kinds.data.toList.drop 0 = dktX2_kinds_0 := by decide +kernel
theorem dksX2_kinds_1 : cX2_kinds.data.toList.drop 24 = dktX2_kinds_1 := dk_seg dksX2_kinds_0 24 rfl rfl
theorem dksX2_kinds_2 : cX2_kinds.data.toList.drop 48 = dktX2_kinds_2 := dk_seg dksX2_kinds_1 24 rfl rfl
theorem dksX2_kinds_3 : cX2_kinds.data.toList.drop 72 = dktX2_kinds_3 := dk_seg dksX2_kinds_2 24 rfl rfl
theorem dksX2_kinds_4 : cX2_kinds.data.toList.drop 96 = dktX2_kinds_4 := dk_seg dksX2_kinds_3 24 rfl rfl
theorem dX2_kinds_0 : decode cX2_kinds 0 = .ok (.iconst 0, 1) := dk_3 (dk_at dksX2_kinds_0 0 rfl rfl)
theorem dX2_kinds_1 : decode cX2_kinds 1 = .ok (.istore_n 1, 1) := dk_60 (dk_at dksX2_kinds_0 1 rfl rfl)
theorem dX2_kinds_2 : decode cX2_kinds 2 = .ok (.iconst 0, 1) := dk_3 (dk_at dksX2_kinds_0 2 rfl rfl)
theorem dX2_kinds_3 : decode cX2_kinds 3 = .ok (.istore_n 2, 1) := dk_61 (dk_at dksX2_kinds_0 3 rfl rfl)
theorem dX2_kinds_4 : decode cX2_kinds 4 = .ok (.iload_n 2, 1) := dk_28 (dk_at dksX2_kinds_0 4 rfl rfl)
theorem dX2_kinds_5 : decode cX2_kinds 5 = .ok (.iconst 5, 1) := dk_8 (dk_at dksX2_kinds_0 5 rfl rfl)
theorem dX2_kinds_6 : decode cX2_kinds 6 = .ok (.if_icmp .ge 105, 3) := dk_162 0 105 (dk_at dksX2_kinds_0 6 rfl rfl)
theorem dX2_kinds_9 : decode cX2_kinds 9 = .ok (.iconst 1, 1) := dk_4 (dk_at dksX2_kinds_0 9 rfl rfl)
theorem dX2_kinds_10 : decode cX2_kinds 10 = .ok (.istore_n 3, 1) := dk_62 (dk_at dksX2_kinds_0 10 rfl rfl)
theorem dX2_kinds_11 : decode cX2_kinds 11 = .ok (.iconst 0, 1) := dk_3 (dk_at dksX2_kinds_0 11 rfl rfl)
theorem dX2_kinds_12 : decode cX2_kinds 12 = .ok (.istore 4, 2) := dk_54 4 (dk_at dksX2_kinds_0 12 rfl rfl)
theorem dX2_kinds_14 : decode cX2_kinds 14 = .ok (.iload 4, 2) := dk_21 4 (dk_at dksX2_kinds_0 14 rfl rfl)
theorem dX2_kinds_16 : decode cX2_kinds 16 = .ok (.aload_n 0, 1) := dk_42 (dk_at dksX2_kinds_0 16 rfl rfl)
theorem dX2_kinds_17 : decode cX2_kinds 17 = .ok (.getfield 143, 3) := dk_180 0 143 (dk_at dksX2_kinds_0 17 rfl rfl)
theorem dX2_kinds_20 : decode cX2_kinds 20 = .ok (.if_icmp .ge 71, 3) := dk_162 0 71 (dk_at dksX2_kinds_0 20 rfl rfl)
theorem dX2_kinds_23 : decode cX2_kinds 23 = .ok (.iload_n 3, 1) := dk_29 (dk_at dksX2_kinds_0 23 rfl rfl)
theorem dX2_kinds_24 : decode cX2_kinds 24 = .ok (.ifCond .eq 59, 3) := dk_153 0 59 (dk_at dksX2_kinds_1 0 rfl rfl)
theorem dX2_kinds_27 : decode cX2_kinds 27 = .ok (.iload_n 2, 1) := dk_28 (dk_at dksX2_kinds_1 3 rfl rfl)
theorem dX2_kinds_28 : decode cX2_kinds 28 = .ok (.aload_n 0, 1) := dk_42 (dk_at dksX2_kinds_1 4 rfl rfl)
theorem dX2_kinds_29 : decode cX2_kinds 29 = .ok (.getfield 38, 3) := dk_180 0 38 (dk_at dksX2_kinds_1 5 rfl rfl)
theorem dX2_kinds_32 : decode cX2_kinds 32 = .ok (.iconst 4, 1) := dk_7 (dk_at dksX2_kinds_1 8 rfl rfl)
theorem dX2_kinds_33 : decode cX2_kinds 33 = .ok (.iload 4, 2) := dk_21 4 (dk_at dksX2_kinds_1 9 rfl rfl)
theorem dX2_kinds_35 : decode cX2_kinds 35 = .ok (.imul, 1) := dk_104 (dk_at dksX2_kinds_1 11 rfl rfl)
theorem dX2_kinds_36 : decode cX2_kinds 36 = .ok (.iaload, 1) := dk_46 (dk_at dksX2_kinds_1 12 rfl rfl)
theorem dX2_kinds_37 : decode cX2_kinds 37 = .ok (.aload_n 0, 1) := dk_42 (dk_at dksX2_kinds_1 13 rfl rfl)
theorem dX2_kinds_38 : decode cX2_kinds 38 = .ok (.getfield 38, 3) := dk_180 0 38 (dk_at dksX2_kinds_1 14 rfl rfl)
theorem dX2_kinds_41 : decode cX2_kinds 41 = .ok (.iconst 4, 1) := dk_7 (dk_at dksX2_kinds_1 17 rfl rfl)
theorem dX2_kinds_42 : decode cX2_kinds 42 = .ok (.iload 4, 2) := dk_21 4 (dk_at dksX2_kinds_1 18 rfl rfl)
theorem dX2_kinds_44 : decode cX2_kinds 44 = .ok (.imul, 1) := dk_104 (dk_at dksX2_kinds_1 20 rfl rfl)
theorem dX2_kinds_45 : decode cX2_kinds 45 = .ok (.iconst 1, 1) := dk_4 (dk_at dksX2_kinds_1 21 rfl rfl)
theorem dX2_kinds_46 : decode cX2_kinds 46 = .ok (.iadd, 1) := dk_96 (dk_at dksX2_kinds_1 22 rfl rfl)
theorem dX2_kinds_47 : decode cX2_kinds 47 = .ok (.iaload, 1) := dk_46 (dk_at dksX2_kinds_1 23 rfl rfl)
theorem dX2_kinds_48 : decode cX2_kinds 48 = .ok (.invokestatic 219, 3) := dk_184 0 219 (dk_at dksX2_kinds_2 0 rfl rfl)
theorem dX2_kinds_51 : decode cX2_kinds 51 = .ok (.iconst 4, 1) := dk_7 (dk_at dksX2_kinds_2 3 rfl rfl)
theorem dX2_kinds_52 : decode cX2_kinds 52 = .ok (.aload_n 0, 1) := dk_42 (dk_at dksX2_kinds_2 4 rfl rfl)
theorem dX2_kinds_53 : decode cX2_kinds 53 = .ok (.getfield 38, 3) := dk_180 0 38 (dk_at dksX2_kinds_2 5 rfl rfl)
theorem dX2_kinds_56 : decode cX2_kinds 56 = .ok (.iconst 4, 1) := dk_7 (dk_at dksX2_kinds_2 8 rfl rfl)
theorem dX2_kinds_57 : decode cX2_kinds 57 = .ok (.iload 4, 2) := dk_21 4 (dk_at dksX2_kinds_2 9 rfl rfl)
theorem dX2_kinds_59 : decode cX2_kinds 59 = .ok (.imul, 1) := dk_104 (dk_at dksX2_kinds_2 11 rfl rfl)
theorem dX2_kinds_60 : decode cX2_kinds 60 = .ok (.iconst 2, 1) := dk_5 (dk_at dksX2_kinds_2 12 rfl rfl)
theorem dX2_kinds_61 : decode cX2_kinds 61 = .ok (.iadd, 1) := dk_96 (dk_at dksX2_kinds_2 13 rfl rfl)
theorem dX2_kinds_62 : decode cX2_kinds 62 = .ok (.iaload, 1) := dk_46 (dk_at dksX2_kinds_2 14 rfl rfl)
theorem dX2_kinds_63 : decode cX2_kinds 63 = .ok (.imul, 1) := dk_104 (dk_at dksX2_kinds_2 15 rfl rfl)
theorem dX2_kinds_64 : decode cX2_kinds 64 = .ok (.aload_n 0, 1) := dk_42 (dk_at dksX2_kinds_2 16 rfl rfl)
theorem dX2_kinds_65 : decode cX2_kinds 65 = .ok (.getfield 38, 3) := dk_180 0 38 (dk_at dksX2_kinds_2 17 rfl rfl)
theorem dX2_kinds_68 : decode cX2_kinds 68 = .ok (.iconst 4, 1) := dk_7 (dk_at dksX2_kinds_2 20 rfl rfl)
theorem dX2_kinds_69 : decode cX2_kinds 69 = .ok (.iload 4, 2) := dk_21 4 (dk_at dksX2_kinds_2 21 rfl rfl)
theorem dX2_kinds_71 : decode cX2_kinds 71 = .ok (.imul, 1) := dk_104 (dk_at dksX2_kinds_2 23 rfl rfl)
theorem dX2_kinds_72 : decode cX2_kinds 72 = .ok (.iconst 3, 1) := dk_6 (dk_at dksX2_kinds_3 0 rfl rfl)
theorem dX2_kinds_73 : decode cX2_kinds 73 = .ok (.iadd, 1) := dk_96 (dk_at dksX2_kinds_3 1 rfl rfl)
theorem dX2_kinds_74 : decode cX2_kinds 74 = .ok (.iaload, 1) := dk_46 (dk_at dksX2_kinds_3 2 rfl rfl)
theorem dX2_kinds_75 : decode cX2_kinds 75 = .ok (.iadd, 1) := dk_96 (dk_at dksX2_kinds_3 3 rfl rfl)
theorem dX2_kinds_76 : decode cX2_kinds 76 = .ok (.if_icmp .ne 7, 3) := dk_160 0 7 (dk_at dksX2_kinds_3 4 rfl rfl)
theorem dX2_kinds_79 : decode cX2_kinds 79 = .ok (.iconst 1, 1) := dk_4 (dk_at dksX2_kinds_3 7 rfl rfl)
theorem dX2_kinds_80 : decode cX2_kinds 80 = .ok (.goto 4, 3) := dk_167 0 4 (dk_at dksX2_kinds_3 8 rfl rfl)
theorem dX2_kinds_83 : decode cX2_kinds 83 = .ok (.iconst 0, 1) := dk_3 (dk_at dksX2_kinds_3 11 rfl rfl)
theorem dX2_kinds_84 : decode cX2_kinds 84 = .ok (.istore_n 3, 1) := dk_62 (dk_at dksX2_kinds_3 12 rfl rfl)
theorem dX2_kinds_85 : decode cX2_kinds 85 = .ok (.iinc 4 1, 3) := dk_132 4 1 (dk_at dksX2_kinds_3 13 rfl rfl)
theorem dX2_kinds_88 : decode cX2_kinds 88 = .ok (.goto (-74), 3) := dk_167 255 182 (dk_at dksX2_kinds_3 16 rfl rfl)
theorem dX2_kinds_91 : decode cX2_kinds 91 = .ok (.iload_n 1, 1) := dk_27 (dk_at dksX2_kinds_3 19 rfl rfl)
theorem dX2_kinds_92 : decode cX2_kinds 92 = .ok (.iload_n 3, 1) := dk_29 (dk_at dksX2_kinds_3 20 rfl rfl)
theorem dX2_kinds_93 : decode cX2_kinds 93 = .ok (.ifCond .eq 9, 3) := dk_153 0 9 (dk_at dksX2_kinds_3 21 rfl rfl)
theorem dX2_kinds_96 : decode cX2_kinds 96 = .ok (.iconst 1, 1) := dk_4 (dk_at dksX2_kinds_4 0 rfl rfl)
theorem dX2_kinds_97 : decode cX2_kinds 97 = .ok (.iload_n 2, 1) := dk_28 (dk_at dksX2_kinds_4 1 rfl rfl)
theorem dX2_kinds_98 : decode cX2_kinds 98 = .ok (.ishl, 1) := dk_120 (dk_at dksX2_kinds_4 2 rfl rfl)
theorem dX2_kinds_99 : decode cX2_kinds 99 = .ok (.goto 4, 3) := dk_167 0 4 (dk_at dksX2_kinds_4 3 rfl rfl)
theorem dX2_kinds_102 : decode cX2_kinds 102 = .ok (.iconst 0, 1) := dk_3 (dk_at dksX2_kinds_4 6 rfl rfl)
theorem dX2_kinds_103 : decode cX2_kinds 103 = .ok (.ior, 1) := dk_128 (dk_at dksX2_kinds_4 7 rfl rfl)
theorem dX2_kinds_104 : decode cX2_kinds 104 = .ok (.istore_n 1, 1) := dk_60 (dk_at dksX2_kinds_4 8 rfl rfl)
theorem dX2_kinds_105 : decode cX2_kinds 105 = .ok (.iinc 2 1, 3) := dk_132 2 1 (dk_at dksX2_kinds_4 9 rfl rfl)
theorem dX2_kinds_108 : decode cX2_kinds 108 = .ok (.goto (-104), 3) := dk_167 255 152 (dk_at dksX2_kinds_4 12 rfl rfl)
theorem dX2_kinds_111 : decode cX2_kinds 111 = .ok (.iload_n 1, 1) := dk_27 (dk_at dksX2_kinds_4 15 rfl rfl)
theorem dX2_kinds_112 : decode cX2_kinds 112 = .ok (.ireturn, 1) := dk_172 (dk_at dksX2_kinds_4 16 rfl rfl)
abbrev cX2_sightOf : ByteArray := prog_14_method_67_code
def yX2_sightOf : MethodName := ⟨RX2, "sightOf", "(III)I"⟩
def dkwX2_sightOf_1 : List UInt8 := [184, 0, 182, 153, 0, 15, 7, 26, 27, 184, 0, 160, 104, 29, 96, 167, 0, 4, 6, 172]
abbrev dktX2_sightOf_1 : List UInt8 := dkwX2_sightOf_1 ++ []
def dkwX2_sightOf_0 : List UInt8 := [26, 5, 162, 0, 7, 3, 167, 0, 13, 26, 5, 160, 0, 7, 4, 167, 0, 4, 5, 62, 26, 28, 4, 96]
abbrev dktX2_sightOf_0 : List UInt8 := dkwX2_sightOf_0 ++ dktX2_sightOf_1
theorem dksX2_sightOf_0 : cX2_sightOf.data.toList.drop 0 = dktX2_sightOf_0 := by decide +kernel
theorem dksX2_sightOf_1 : cX2_sightOf.data.toList.drop 24 = dktX2_sightOf_1 := dk_seg dksX2_sightOf_0 24 rfl rfl
theorem dX2_sightOf_0 : decode cX2_sightOf 0 = .ok (.iload_n 0, 1) := dk_26 (dk_at dksX2_sightOf_0 0 rfl rfl)
theorem dX2_sightOf_1 : decode cX2_sightOf 1 = .ok (.iconst 2, 1) := dk_5 (dk_at dksX2_sightOf_0 1 rfl rfl)
theorem dX2_sightOf_2 : decode cX2_sightOf 2 = .ok (.if_icmp .ge 7, 3) := dk_162 0 7 (dk_at dksX2_sightOf_0 2 rfl rfl)
theorem dX2_sightOf_5 : decode cX2_sightOf 5 = .ok (.iconst 0, 1) := dk_3 (dk_at dksX2_sightOf_0 5 rfl rfl)
theorem dX2_sightOf_6 : decode cX2_sightOf 6 = .ok (.goto 13, 3) := dk_167 0 13 (dk_at dksX2_sightOf_0 6 rfl rfl)
theorem dX2_sightOf_9 : decode cX2_sightOf 9 = .ok (.iload_n 0, 1) := dk_26 (dk_at dksX2_sightOf_0 9 rfl rfl)
theorem dX2_sightOf_10 : decode cX2_sightOf 10 = .ok (.iconst 2, 1) := dk_5 (dk_at dksX2_sightOf_0 10 rfl rfl)
theorem dX2_sightOf_11 : decode cX2_sightOf 11 = .ok (.if_icmp .ne 7, 3) := dk_160 0 7 (dk_at dksX2_sightOf_0 11 rfl rfl)
theorem dX2_sightOf_14 : decode cX2_sightOf 14 = .ok (.iconst 1, 1) := dk_4 (dk_at dksX2_sightOf_0 14 rfl rfl)
theorem dX2_sightOf_15 : decode cX2_sightOf 15 = .ok (.goto 4, 3) := dk_167 0 4 (dk_at dksX2_sightOf_0 15 rfl rfl)
theorem dX2_sightOf_18 : decode cX2_sightOf 18 = .ok (.iconst 2, 1) := dk_5 (dk_at dksX2_sightOf_0 18 rfl rfl)
theorem dX2_sightOf_19 : decode cX2_sightOf 19 = .ok (.istore_n 3, 1) := dk_62 (dk_at dksX2_sightOf_0 19 rfl rfl)
theorem dX2_sightOf_20 : decode cX2_sightOf 20 = .ok (.iload_n 0, 1) := dk_26 (dk_at dksX2_sightOf_0 20 rfl rfl)
theorem dX2_sightOf_21 : decode cX2_sightOf 21 = .ok (.iload_n 2, 1) := dk_28 (dk_at dksX2_sightOf_0 21 rfl rfl)
theorem dX2_sightOf_22 : decode cX2_sightOf 22 = .ok (.iconst 1, 1) := dk_4 (dk_at dksX2_sightOf_0 22 rfl rfl)
theorem dX2_sightOf_23 : decode cX2_sightOf 23 = .ok (.iadd, 1) := dk_96 (dk_at dksX2_sightOf_0 23 rfl rfl)
theorem dX2_sightOf_24 : decode cX2_sightOf 24 = .ok (.invokestatic 182, 3) := dk_184 0 182 (dk_at dksX2_sightOf_1 0 rfl rfl)
theorem dX2_sightOf_27 : decode cX2_sightOf 27 = .ok (.ifCond .eq 15, 3) := dk_153 0 15 (dk_at dksX2_sightOf_1 3 rfl rfl)
theorem dX2_sightOf_30 : decode cX2_sightOf 30 = .ok (.iconst 4, 1) := dk_7 (dk_at dksX2_sightOf_1 6 rfl rfl)
theorem dX2_sightOf_31 : decode cX2_sightOf 31 = .ok (.iload_n 0, 1) := dk_26 (dk_at dksX2_sightOf_1 7 rfl rfl)
theorem dX2_sightOf_32 : decode cX2_sightOf 32 = .ok (.iload_n 1, 1) := dk_27 (dk_at dksX2_sightOf_1 8 rfl rfl)
theorem dX2_sightOf_33 : decode cX2_sightOf 33 = .ok (.invokestatic 160, 3) := dk_184 0 160 (dk_at dksX2_sightOf_1 9 rfl rfl)
theorem dX2_sightOf_36 : decode cX2_sightOf 36 = .ok (.imul, 1) := dk_104 (dk_at dksX2_sightOf_1 12 rfl rfl)
theorem dX2_sightOf_37 : decode cX2_sightOf 37 = .ok (.iload_n 3, 1) := dk_29 (dk_at dksX2_sightOf_1 13 rfl rfl)
theorem dX2_sightOf_38 : decode cX2_sightOf 38 = .ok (.iadd, 1) := dk_96 (dk_at dksX2_sightOf_1 14 rfl rfl)
theorem dX2_sightOf_39 : decode cX2_sightOf 39 = .ok (.goto 4, 3) := dk_167 0 4 (dk_at dksX2_sightOf_1 15 rfl rfl)
theorem dX2_sightOf_42 : decode cX2_sightOf 42 = .ok (.iconst 3, 1) := dk_6 (dk_at dksX2_sightOf_1 18 rfl rfl)
theorem dX2_sightOf_43 : decode cX2_sightOf 43 = .ok (.ireturn, 1) := dk_172 (dk_at dksX2_sightOf_1 19 rfl rfl)
abbrev cX2_ask : ByteArray := prog_14_method_70_code
def yX2_ask : MethodName := ⟨RX2, "ask", "()I"⟩
def dkwX2_ask_2 : List UInt8 := [28, 61, 21, 5, 29, 184, 0, 171, 62, 132, 4, 1, 167, 255, 212, 28, 172]
abbrev dktX2_ask_2 : List UInt8 := dkwX2_ask_2 ++ []
def dkwX2_ask_1 : List UInt8 := [21, 4, 5, 108, 21, 4, 5, 112, 184, 0, 226, 54, 5, 21, 5, 29, 162, 0, 8, 21, 4, 167, 0, 4]
abbrev dktX2_ask_1 : List UInt8 := dkwX2_ask_1 ++ dktX2_ask_2
def dkwX2_ask_0 : List UInt8 := [42, 182, 0, 222, 60, 2, 61, 27, 184, 0, 213, 62, 5, 54, 4, 21, 4, 16, 20, 162, 0, 43, 27]
abbrev dktX2_ask_0 : List UInt8 := dkwX2_ask_0 ++ dktX2_ask_1
theorem dksX2_ask_0 : cX2_ask.data.toList.drop 0 = dktX2_ask_0 := by decide +kernel
theorem dksX2_ask_1 : cX2_ask.data.toList.drop 23 = dktX2_ask_1 := dk_seg dksX2_ask_0 23 rfl rfl
theorem dksX2_ask_2 : cX2_ask.data.toList.drop 47 = dktX2_ask_2 := dk_seg dksX2_ask_1 24 rfl rfl
theorem dX2_ask_0 : decode cX2_ask 0 = .ok (.aload_n 0, 1) := dk_42 (dk_at dksX2_ask_0 0 rfl rfl)
theorem dX2_ask_1 : decode cX2_ask 1 = .ok (.invokevirtual 222, 3) := dk_182 0 222 (dk_at dksX2_ask_0 1 rfl rfl)
theorem dX2_ask_4 : decode cX2_ask 4 = .ok (.istore_n 1, 1) := dk_60 (dk_at dksX2_ask_0 4 rfl rfl)
theorem dX2_ask_5 : decode cX2_ask 5 = .ok (.iconst (-1), 1) := dk_2 (dk_at dksX2_ask_0 5 rfl rfl)
theorem dX2_ask_6 : decode cX2_ask 6 = .ok (.istore_n 2, 1) := dk_61 (dk_at dksX2_ask_0 6 rfl rfl)
theorem dX2_ask_7 : decode cX2_ask 7 = .ok (.iload_n 1, 1) := dk_27 (dk_at dksX2_ask_0 7 rfl rfl)
theorem dX2_ask_8 : decode cX2_ask 8 = .ok (.invokestatic 213, 3) := dk_184 0 213 (dk_at dksX2_ask_0 8 rfl rfl)
theorem dX2_ask_11 : decode cX2_ask 11 = .ok (.istore_n 3, 1) := dk_62 (dk_at dksX2_ask_0 11 rfl rfl)
theorem dX2_ask_12 : decode cX2_ask 12 = .ok (.iconst 2, 1) := dk_5 (dk_at dksX2_ask_0 12 rfl rfl)
theorem dX2_ask_13 : decode cX2_ask 13 = .ok (.istore 4, 2) := dk_54 4 (dk_at dksX2_ask_0 13 rfl rfl)
theorem dX2_ask_15 : decode cX2_ask 15 = .ok (.iload 4, 2) := dk_21 4 (dk_at dksX2_ask_0 15 rfl rfl)
theorem dX2_ask_17 : decode cX2_ask 17 = .ok (.bipush 20, 2) := dk_16 20 (dk_at dksX2_ask_0 17 rfl rfl)
theorem dX2_ask_19 : decode cX2_ask 19 = .ok (.if_icmp .ge 43, 3) := dk_162 0 43 (dk_at dksX2_ask_0 19 rfl rfl)
theorem dX2_ask_22 : decode cX2_ask 22 = .ok (.iload_n 1, 1) := dk_27 (dk_at dksX2_ask_0 22 rfl rfl)
theorem dX2_ask_23 : decode cX2_ask 23 = .ok (.iload 4, 2) := dk_21 4 (dk_at dksX2_ask_1 0 rfl rfl)
theorem dX2_ask_25 : decode cX2_ask 25 = .ok (.iconst 2, 1) := dk_5 (dk_at dksX2_ask_1 2 rfl rfl)
theorem dX2_ask_26 : decode cX2_ask 26 = .ok (.idiv, 1) := dk_108 (dk_at dksX2_ask_1 3 rfl rfl)
theorem dX2_ask_27 : decode cX2_ask 27 = .ok (.iload 4, 2) := dk_21 4 (dk_at dksX2_ask_1 4 rfl rfl)
theorem dX2_ask_29 : decode cX2_ask 29 = .ok (.iconst 2, 1) := dk_5 (dk_at dksX2_ask_1 6 rfl rfl)
theorem dX2_ask_30 : decode cX2_ask 30 = .ok (.irem, 1) := dk_112 (dk_at dksX2_ask_1 7 rfl rfl)
theorem dX2_ask_31 : decode cX2_ask 31 = .ok (.invokestatic 226, 3) := dk_184 0 226 (dk_at dksX2_ask_1 8 rfl rfl)
theorem dX2_ask_34 : decode cX2_ask 34 = .ok (.istore 5, 2) := dk_54 5 (dk_at dksX2_ask_1 11 rfl rfl)
theorem dX2_ask_36 : decode cX2_ask 36 = .ok (.iload 5, 2) := dk_21 5 (dk_at dksX2_ask_1 13 rfl rfl)
theorem dX2_ask_38 : decode cX2_ask 38 = .ok (.iload_n 3, 1) := dk_29 (dk_at dksX2_ask_1 15 rfl rfl)
theorem dX2_ask_39 : decode cX2_ask 39 = .ok (.if_icmp .ge 8, 3) := dk_162 0 8 (dk_at dksX2_ask_1 16 rfl rfl)
theorem dX2_ask_42 : decode cX2_ask 42 = .ok (.iload 4, 2) := dk_21 4 (dk_at dksX2_ask_1 19 rfl rfl)
theorem dX2_ask_44 : decode cX2_ask 44 = .ok (.goto 4, 3) := dk_167 0 4 (dk_at dksX2_ask_1 21 rfl rfl)
theorem dX2_ask_47 : decode cX2_ask 47 = .ok (.iload_n 2, 1) := dk_28 (dk_at dksX2_ask_2 0 rfl rfl)
theorem dX2_ask_48 : decode cX2_ask 48 = .ok (.istore_n 2, 1) := dk_61 (dk_at dksX2_ask_2 1 rfl rfl)
theorem dX2_ask_49 : decode cX2_ask 49 = .ok (.iload 5, 2) := dk_21 5 (dk_at dksX2_ask_2 2 rfl rfl)
theorem dX2_ask_51 : decode cX2_ask 51 = .ok (.iload_n 3, 1) := dk_29 (dk_at dksX2_ask_2 4 rfl rfl)
theorem dX2_ask_52 : decode cX2_ask 52 = .ok (.invokestatic 171, 3) := dk_184 0 171 (dk_at dksX2_ask_2 5 rfl rfl)
theorem dX2_ask_55 : decode cX2_ask 55 = .ok (.istore_n 3, 1) := dk_62 (dk_at dksX2_ask_2 8 rfl rfl)
theorem dX2_ask_56 : decode cX2_ask 56 = .ok (.iinc 4 1, 3) := dk_132 4 1 (dk_at dksX2_ask_2 9 rfl rfl)
theorem dX2_ask_59 : decode cX2_ask 59 = .ok (.goto (-44), 3) := dk_167 255 212 (dk_at dksX2_ask_2 12 rfl rfl)
theorem dX2_ask_62 : decode cX2_ask 62 = .ok (.iload_n 2, 1) := dk_28 (dk_at dksX2_ask_2 15 rfl rfl)
theorem dX2_ask_63 : decode cX2_ask 63 = .ok (.ireturn, 1) := dk_172 (dk_at dksX2_ask_2 16 rfl rfl)
abbrev cX2_alike : ByteArray := prog_14_method_69_code
def yX2_alike : MethodName := ⟨RX2, "alike", "(III)I"⟩
def dkwX2_alike_3 : List UInt8 := [167, 255, 202, 21, 5, 29, 164, 0, 8, 21, 5, 167, 0, 4, 29, 62, 132, 4, 1, 167, 255, 171, 29, 172]
abbrev dktX2_alike_3 : List UInt8 := dkwX2_alike_3 ++ []
def dkwX2_alike_2 : List UInt8 := [184, 0, 219, 21, 6, 27, 28, 184, 0, 219, 160, 0, 7, 4, 167, 0, 4, 3, 96, 54, 5, 132, 6, 1]
abbrev dktX2_alike_2 : List UInt8 := dkwX2_alike_2 ++ dktX2_alike_3
def dkwX2_alike_1 : List UInt8 := [21, 5, 26, 21, 4, 184, 0, 152, 153, 0, 33, 26, 21, 6, 184, 0, 152, 153, 0, 24, 21, 4, 27, 28]
abbrev dktX2_alike_1 : List UInt8 := dkwX2_alike_1 ++ dktX2_alike_2
def dkwX2_alike_0 : List UInt8 := [3, 62, 3, 54, 4, 21, 4, 8, 162, 0, 85, 3, 54, 5, 3, 54, 6, 21, 6, 8, 162, 0, 54]
abbrev dktX2_alike_0 : List UInt8 := dkwX2_alike_0 ++ dktX2_alike_1
theorem dksX2_alike_0 : cX2_alike.data.toList.drop 0 = dktX2_alike_0 := by decide +kernel
theorem dksX2_alike_1 : cX2_alike.data.toList.drop 23 = dktX2_alike_1 := dk_seg dksX2_alike_0 23 rfl rfl
theorem dksX2_alike_2 : cX2_alike.data.toList.drop 47 = dktX2_alike_2 := dk_seg dksX2_alike_1 24 rfl rfl
theorem dksX2_alike_3 : cX2_alike.data.toList.drop 71 = dktX2_alike_3 := dk_seg dksX2_alike_2 24 rfl rfl
theorem dX2_alike_0 : decode cX2_alike 0 = .ok (.iconst 0, 1) := dk_3 (dk_at dksX2_alike_0 0 rfl rfl)
theorem dX2_alike_1 : decode cX2_alike 1 = .ok (.istore_n 3, 1) := dk_62 (dk_at dksX2_alike_0 1 rfl rfl)
theorem dX2_alike_2 : decode cX2_alike 2 = .ok (.iconst 0, 1) := dk_3 (dk_at dksX2_alike_0 2 rfl rfl)
theorem dX2_alike_3 : decode cX2_alike 3 = .ok (.istore 4, 2) := dk_54 4 (dk_at dksX2_alike_0 3 rfl rfl)
theorem dX2_alike_5 : decode cX2_alike 5 = .ok (.iload 4, 2) := dk_21 4 (dk_at dksX2_alike_0 5 rfl rfl)
theorem dX2_alike_7 : decode cX2_alike 7 = .ok (.iconst 5, 1) := dk_8 (dk_at dksX2_alike_0 7 rfl rfl)
theorem dX2_alike_8 : decode cX2_alike 8 = .ok (.if_icmp .ge 85, 3) := dk_162 0 85 (dk_at dksX2_alike_0 8 rfl rfl)
theorem dX2_alike_11 : decode cX2_alike 11 = .ok (.iconst 0, 1) := dk_3 (dk_at dksX2_alike_0 11 rfl rfl)
theorem dX2_alike_12 : decode cX2_alike 12 = .ok (.istore 5, 2) := dk_54 5 (dk_at dksX2_alike_0 12 rfl rfl)
theorem dX2_alike_14 : decode cX2_alike 14 = .ok (.iconst 0, 1) := dk_3 (dk_at dksX2_alike_0 14 rfl rfl)
theorem dX2_alike_15 : decode cX2_alike 15 = .ok (.istore 6, 2) := dk_54 6 (dk_at dksX2_alike_0 15 rfl rfl)
theorem dX2_alike_17 : decode cX2_alike 17 = .ok (.iload 6, 2) := dk_21 6 (dk_at dksX2_alike_0 17 rfl rfl)
theorem dX2_alike_19 : decode cX2_alike 19 = .ok (.iconst 5, 1) := dk_8 (dk_at dksX2_alike_0 19 rfl rfl)
theorem dX2_alike_20 : decode cX2_alike 20 = .ok (.if_icmp .ge 54, 3) := dk_162 0 54 (dk_at dksX2_alike_0 20 rfl rfl)
theorem dX2_alike_23 : decode cX2_alike 23 = .ok (.iload 5, 2) := dk_21 5 (dk_at dksX2_alike_1 0 rfl rfl)
theorem dX2_alike_25 : decode cX2_alike 25 = .ok (.iload_n 0, 1) := dk_26 (dk_at dksX2_alike_1 2 rfl rfl)
theorem dX2_alike_26 : decode cX2_alike 26 = .ok (.iload 4, 2) := dk_21 4 (dk_at dksX2_alike_1 3 rfl rfl)
theorem dX2_alike_28 : decode cX2_alike 28 = .ok (.invokestatic 152, 3) := dk_184 0 152 (dk_at dksX2_alike_1 5 rfl rfl)
theorem dX2_alike_31 : decode cX2_alike 31 = .ok (.ifCond .eq 33, 3) := dk_153 0 33 (dk_at dksX2_alike_1 8 rfl rfl)
theorem dX2_alike_34 : decode cX2_alike 34 = .ok (.iload_n 0, 1) := dk_26 (dk_at dksX2_alike_1 11 rfl rfl)
theorem dX2_alike_35 : decode cX2_alike 35 = .ok (.iload 6, 2) := dk_21 6 (dk_at dksX2_alike_1 12 rfl rfl)
theorem dX2_alike_37 : decode cX2_alike 37 = .ok (.invokestatic 152, 3) := dk_184 0 152 (dk_at dksX2_alike_1 14 rfl rfl)
theorem dX2_alike_40 : decode cX2_alike 40 = .ok (.ifCond .eq 24, 3) := dk_153 0 24 (dk_at dksX2_alike_1 17 rfl rfl)
theorem dX2_alike_43 : decode cX2_alike 43 = .ok (.iload 4, 2) := dk_21 4 (dk_at dksX2_alike_1 20 rfl rfl)
theorem dX2_alike_45 : decode cX2_alike 45 = .ok (.iload_n 1, 1) := dk_27 (dk_at dksX2_alike_1 22 rfl rfl)
theorem dX2_alike_46 : decode cX2_alike 46 = .ok (.iload_n 2, 1) := dk_28 (dk_at dksX2_alike_1 23 rfl rfl)
theorem dX2_alike_47 : decode cX2_alike 47 = .ok (.invokestatic 219, 3) := dk_184 0 219 (dk_at dksX2_alike_2 0 rfl rfl)
theorem dX2_alike_50 : decode cX2_alike 50 = .ok (.iload 6, 2) := dk_21 6 (dk_at dksX2_alike_2 3 rfl rfl)
theorem dX2_alike_52 : decode cX2_alike 52 = .ok (.iload_n 1, 1) := dk_27 (dk_at dksX2_alike_2 5 rfl rfl)
theorem dX2_alike_53 : decode cX2_alike 53 = .ok (.iload_n 2, 1) := dk_28 (dk_at dksX2_alike_2 6 rfl rfl)
theorem dX2_alike_54 : decode cX2_alike 54 = .ok (.invokestatic 219, 3) := dk_184 0 219 (dk_at dksX2_alike_2 7 rfl rfl)
theorem dX2_alike_57 : decode cX2_alike 57 = .ok (.if_icmp .ne 7, 3) := dk_160 0 7 (dk_at dksX2_alike_2 10 rfl rfl)
theorem dX2_alike_60 : decode cX2_alike 60 = .ok (.iconst 1, 1) := dk_4 (dk_at dksX2_alike_2 13 rfl rfl)
theorem dX2_alike_61 : decode cX2_alike 61 = .ok (.goto 4, 3) := dk_167 0 4 (dk_at dksX2_alike_2 14 rfl rfl)
theorem dX2_alike_64 : decode cX2_alike 64 = .ok (.iconst 0, 1) := dk_3 (dk_at dksX2_alike_2 17 rfl rfl)
theorem dX2_alike_65 : decode cX2_alike 65 = .ok (.iadd, 1) := dk_96 (dk_at dksX2_alike_2 18 rfl rfl)
theorem dX2_alike_66 : decode cX2_alike 66 = .ok (.istore 5, 2) := dk_54 5 (dk_at dksX2_alike_2 19 rfl rfl)
theorem dX2_alike_68 : decode cX2_alike 68 = .ok (.iinc 6 1, 3) := dk_132 6 1 (dk_at dksX2_alike_2 21 rfl rfl)
theorem dX2_alike_71 : decode cX2_alike 71 = .ok (.goto (-54), 3) := dk_167 255 202 (dk_at dksX2_alike_3 0 rfl rfl)
theorem dX2_alike_74 : decode cX2_alike 74 = .ok (.iload 5, 2) := dk_21 5 (dk_at dksX2_alike_3 3 rfl rfl)
theorem dX2_alike_76 : decode cX2_alike 76 = .ok (.iload_n 3, 1) := dk_29 (dk_at dksX2_alike_3 5 rfl rfl)
theorem dX2_alike_77 : decode cX2_alike 77 = .ok (.if_icmp .le 8, 3) := dk_164 0 8 (dk_at dksX2_alike_3 6 rfl rfl)
theorem dX2_alike_80 : decode cX2_alike 80 = .ok (.iload 5, 2) := dk_21 5 (dk_at dksX2_alike_3 9 rfl rfl)
theorem dX2_alike_82 : decode cX2_alike 82 = .ok (.goto 4, 3) := dk_167 0 4 (dk_at dksX2_alike_3 11 rfl rfl)
theorem dX2_alike_85 : decode cX2_alike 85 = .ok (.iload_n 3, 1) := dk_29 (dk_at dksX2_alike_3 14 rfl rfl)
theorem dX2_alike_86 : decode cX2_alike 86 = .ok (.istore_n 3, 1) := dk_62 (dk_at dksX2_alike_3 15 rfl rfl)
theorem dX2_alike_87 : decode cX2_alike 87 = .ok (.iinc 4 1, 3) := dk_132 4 1 (dk_at dksX2_alike_3 16 rfl rfl)
theorem dX2_alike_90 : decode cX2_alike 90 = .ok (.goto (-85), 3) := dk_167 255 171 (dk_at dksX2_alike_3 19 rfl rfl)
theorem dX2_alike_93 : decode cX2_alike 93 = .ok (.iload_n 3, 1) := dk_29 (dk_at dksX2_alike_3 22 rfl rfl)
theorem dX2_alike_94 : decode cX2_alike 94 = .ok (.ireturn, 1) := dk_172 (dk_at dksX2_alike_3 23 rfl rfl)
abbrev cX2_trail : ByteArray := prog_14_method_73_code
def yX2_trail : MethodName := ⟨RX2, "trail", "(I)I"⟩
def dkwX2_trail_1 : List UInt8 := [42, 180, 0, 47, 27, 2, 79, 3, 172]
abbrev dktX2_trail_1 : List UInt8 := dkwX2_trail_1 ++ []
def dkwX2_trail_0 : List UInt8 := [27, 184, 0, 229, 154, 0, 6, 16, 254, 172, 42, 180, 0, 41, 27, 3, 79, 42, 180, 0, 44, 27, 3, 79]
abbrev dktX2_trail_0 : List UInt8 := dkwX2_trail_0 ++ dktX2_trail_1
theorem dksX2_trail_0 : cX2_trail.data.toList.drop 0 = dktX2_trail_0 := by decide +kernel
theorem dksX2_trail_1 : cX2_trail.data.toList.drop 24 = dktX2_trail_1 := dk_seg dksX2_trail_0 24 rfl rfl
theorem dX2_trail_0 : decode cX2_trail 0 = .ok (.iload_n 1, 1) := dk_27 (dk_at dksX2_trail_0 0 rfl rfl)
theorem dX2_trail_1 : decode cX2_trail 1 = .ok (.invokestatic 229, 3) := dk_184 0 229 (dk_at dksX2_trail_0 1 rfl rfl)
theorem dX2_trail_4 : decode cX2_trail 4 = .ok (.ifCond .ne 6, 3) := dk_154 0 6 (dk_at dksX2_trail_0 4 rfl rfl)
theorem dX2_trail_7 : decode cX2_trail 7 = .ok (.bipush (-2), 2) := dk_16 254 (dk_at dksX2_trail_0 7 rfl rfl)
theorem dX2_trail_9 : decode cX2_trail 9 = .ok (.ireturn, 1) := dk_172 (dk_at dksX2_trail_0 9 rfl rfl)
theorem dX2_trail_10 : decode cX2_trail 10 = .ok (.aload_n 0, 1) := dk_42 (dk_at dksX2_trail_0 10 rfl rfl)
theorem dX2_trail_11 : decode cX2_trail 11 = .ok (.getfield 41, 3) := dk_180 0 41 (dk_at dksX2_trail_0 11 rfl rfl)
theorem dX2_trail_14 : decode cX2_trail 14 = .ok (.iload_n 1, 1) := dk_27 (dk_at dksX2_trail_0 14 rfl rfl)
theorem dX2_trail_15 : decode cX2_trail 15 = .ok (.iconst 0, 1) := dk_3 (dk_at dksX2_trail_0 15 rfl rfl)
theorem dX2_trail_16 : decode cX2_trail 16 = .ok (.iastore, 1) := dk_79 (dk_at dksX2_trail_0 16 rfl rfl)
theorem dX2_trail_17 : decode cX2_trail 17 = .ok (.aload_n 0, 1) := dk_42 (dk_at dksX2_trail_0 17 rfl rfl)
theorem dX2_trail_18 : decode cX2_trail 18 = .ok (.getfield 44, 3) := dk_180 0 44 (dk_at dksX2_trail_0 18 rfl rfl)
theorem dX2_trail_21 : decode cX2_trail 21 = .ok (.iload_n 1, 1) := dk_27 (dk_at dksX2_trail_0 21 rfl rfl)
theorem dX2_trail_22 : decode cX2_trail 22 = .ok (.iconst 0, 1) := dk_3 (dk_at dksX2_trail_0 22 rfl rfl)
theorem dX2_trail_23 : decode cX2_trail 23 = .ok (.iastore, 1) := dk_79 (dk_at dksX2_trail_0 23 rfl rfl)
theorem dX2_trail_24 : decode cX2_trail 24 = .ok (.aload_n 0, 1) := dk_42 (dk_at dksX2_trail_1 0 rfl rfl)
theorem dX2_trail_25 : decode cX2_trail 25 = .ok (.getfield 47, 3) := dk_180 0 47 (dk_at dksX2_trail_1 1 rfl rfl)
theorem dX2_trail_28 : decode cX2_trail 28 = .ok (.iload_n 1, 1) := dk_27 (dk_at dksX2_trail_1 4 rfl rfl)
theorem dX2_trail_29 : decode cX2_trail 29 = .ok (.iconst (-1), 1) := dk_2 (dk_at dksX2_trail_1 5 rfl rfl)
theorem dX2_trail_30 : decode cX2_trail 30 = .ok (.iastore, 1) := dk_79 (dk_at dksX2_trail_1 6 rfl rfl)
theorem dX2_trail_31 : decode cX2_trail 31 = .ok (.iconst 0, 1) := dk_3 (dk_at dksX2_trail_1 7 rfl rfl)
theorem dX2_trail_32 : decode cX2_trail 32 = .ok (.ireturn, 1) := dk_172 (dk_at dksX2_trail_1 8 rfl rfl)
abbrev cX2_isTrail : ByteArray := prog_14_method_71_code
def yX2_isTrail : MethodName := ⟨RX2, "isTrail", "(I)Z"⟩
def dkwX2_isTrail_0 : List UInt8 := [26, 3, 5, 184, 0, 59, 172]
abbrev dktX2_isTrail_0 : List UInt8 := dkwX2_isTrail_0 ++ []
theorem dksX2_isTrail_0 : cX2_isTrail.data.toList.drop 0 = dktX2_isTrail_0 := by decide +kernel
theorem dX2_isTrail_0 : decode cX2_isTrail 0 = .ok (.iload_n 0, 1) := dk_26 (dk_at dksX2_isTrail_0 0 rfl rfl)
theorem dX2_isTrail_1 : decode cX2_isTrail 1 = .ok (.iconst 0, 1) := dk_3 (dk_at dksX2_isTrail_0 1 rfl rfl)
theorem dX2_isTrail_2 : decode cX2_isTrail 2 = .ok (.iconst 2, 1) := dk_5 (dk_at dksX2_isTrail_0 2 rfl rfl)
theorem dX2_isTrail_3 : decode cX2_isTrail 3 = .ok (.invokestatic 59, 3) := dk_184 0 59 (dk_at dksX2_isTrail_0 3 rfl rfl)
theorem dX2_isTrail_6 : decode cX2_isTrail 6 = .ok (.ireturn, 1) := dk_172 (dk_at dksX2_isTrail_0 6 rfl rfl)
abbrev cX2_step : ByteArray := prog_14_method_74_code
def yX2_step : MethodName := ⟨RX2, "step", "(III)I"⟩
def dkwX2_step_6 : List UInt8 := [18, 232, 96, 167, 0, 5, 21, 5, 172]
abbrev dktX2_step_6 : List UInt8 := dkwX2_step_6 ++ []
def dkwX2_step_5 : List UInt8 := [21, 4, 79, 42, 180, 0, 53, 16, 12, 27, 104, 21, 4, 96, 46, 54, 5, 29, 154, 0, 11, 21, 5]
abbrev dktX2_step_5 : List UInt8 := dkwX2_step_5 ++ dktX2_step_6
def dkwX2_step_4 : List UInt8 := [172, 42, 180, 0, 44, 27, 92, 46, 28, 154, 0, 7, 4, 167, 0, 4, 2, 96, 79, 42, 180, 0, 47, 27]
abbrev dktX2_step_4 : List UInt8 := dkwX2_step_4 ++ dktX2_step_5
def dkwX2_step_3 : List UInt8 := [154, 0, 6, 16, 244, 172, 42, 180, 0, 50, 16, 12, 27, 104, 21, 4, 96, 46, 29, 159, 0, 6, 16, 242]
abbrev dktX2_step_3 : List UInt8 := dkwX2_step_3 ++ dktX2_step_4
def dkwX2_step_2 : List UInt8 := [180, 0, 44, 27, 46, 28, 100, 54, 4, 21, 4, 3, 42, 180, 0, 41, 27, 46, 4, 100, 184, 0, 59]
abbrev dktX2_step_2 : List UInt8 := dkwX2_step_2 ++ dktX2_step_3
def dkwX2_step_1 : List UInt8 := [184, 0, 59, 154, 0, 6, 16, 253, 172, 42, 180, 0, 41, 27, 46, 2, 160, 0, 6, 16, 245, 172, 42]
abbrev dktX2_step_1 : List UInt8 := dkwX2_step_1 ++ dktX2_step_2
def dkwX2_step_0 : List UInt8 := [27, 184, 0, 229, 154, 0, 6, 16, 254, 172, 28, 3, 4, 184, 0, 59, 153, 0, 12, 29, 3, 5]
abbrev dktX2_step_0 : List UInt8 := dkwX2_step_0 ++ dktX2_step_1
theorem dksX2_step_0 : cX2_step.data.toList.drop 0 = dktX2_step_0 := by decide +kernel
theorem dksX2_step_1 : cX2_step.data.toList.drop 22 = dktX2_step_1 := dk_seg dksX2_step_0 22 rfl rfl
theorem dksX2_step_2 : cX2_step.data.toList.drop 45 = dktX2_step_2 := dk_seg dksX2_step_1 23 rfl rfl
theorem dksX2_step_3 : cX2_step.data.toList.drop 68 = dktX2_step_3 := dk_seg dksX2_step_2 23 rfl rfl
theorem dksX2_step_4 : cX2_step.data.toList.drop 92 = dktX2_step_4 := dk_seg dksX2_step_3 24 rfl rfl
theorem dksX2_step_5 : cX2_step.data.toList.drop 116 = dktX2_step_5 := dk_seg dksX2_step_4 24 rfl rfl
theorem dksX2_step_6 : cX2_step.data.toList.drop 139 = dktX2_step_6 := dk_seg dksX2_step_5 23 rfl rfl
theorem dX2_step_0 : decode cX2_step 0 = .ok (.iload_n 1, 1) := dk_27 (dk_at dksX2_step_0 0 rfl rfl)
theorem dX2_step_1 : decode cX2_step 1 = .ok (.invokestatic 229, 3) := dk_184 0 229 (dk_at dksX2_step_0 1 rfl rfl)
theorem dX2_step_4 : decode cX2_step 4 = .ok (.ifCond .ne 6, 3) := dk_154 0 6 (dk_at dksX2_step_0 4 rfl rfl)
theorem dX2_step_7 : decode cX2_step 7 = .ok (.bipush (-2), 2) := dk_16 254 (dk_at dksX2_step_0 7 rfl rfl)
theorem dX2_step_9 : decode cX2_step 9 = .ok (.ireturn, 1) := dk_172 (dk_at dksX2_step_0 9 rfl rfl)
theorem dX2_step_10 : decode cX2_step 10 = .ok (.iload_n 2, 1) := dk_28 (dk_at dksX2_step_0 10 rfl rfl)
theorem dX2_step_11 : decode cX2_step 11 = .ok (.iconst 0, 1) := dk_3 (dk_at dksX2_step_0 11 rfl rfl)
theorem dX2_step_12 : decode cX2_step 12 = .ok (.iconst 1, 1) := dk_4 (dk_at dksX2_step_0 12 rfl rfl)
theorem dX2_step_13 : decode cX2_step 13 = .ok (.invokestatic 59, 3) := dk_184 0 59 (dk_at dksX2_step_0 13 rfl rfl)
theorem dX2_step_16 : decode cX2_step 16 = .ok (.ifCond .eq 12, 3) := dk_153 0 12 (dk_at dksX2_step_0 16 rfl rfl)
theorem dX2_step_19 : decode cX2_step 19 = .ok (.iload_n 3, 1) := dk_29 (dk_at dksX2_step_0 19 rfl rfl)
theorem dX2_step_20 : decode cX2_step 20 = .ok (.iconst 0, 1) := dk_3 (dk_at dksX2_step_0 20 rfl rfl)
theorem dX2_step_21 : decode cX2_step 21 = .ok (.iconst 2, 1) := dk_5 (dk_at dksX2_step_0 21 rfl rfl)
theorem dX2_step_22 : decode cX2_step 22 = .ok (.invokestatic 59, 3) := dk_184 0 59 (dk_at dksX2_step_1 0 rfl rfl)
theorem dX2_step_25 : decode cX2_step 25 = .ok (.ifCond .ne 6, 3) := dk_154 0 6 (dk_at dksX2_step_1 3 rfl rfl)
theorem dX2_step_28 : decode cX2_step 28 = .ok (.bipush (-3), 2) := dk_16 253 (dk_at dksX2_step_1 6 rfl rfl)
theorem dX2_step_30 : decode cX2_step 30 = .ok (.ireturn, 1) := dk_172 (dk_at dksX2_step_1 8 rfl rfl)
theorem dX2_step_31 : decode cX2_step 31 = .ok (.aload_n 0, 1) := dk_42 (dk_at dksX2_step_1 9 rfl rfl)
theorem dX2_step_32 : decode cX2_step 32 = .ok (.getfield 41, 3) := dk_180 0 41 (dk_at dksX2_step_1 10 rfl rfl)
theorem dX2_step_35 : decode cX2_step 35 = .ok (.iload_n 1, 1) := dk_27 (dk_at dksX2_step_1 13 rfl rfl)
theorem dX2_step_36 : decode cX2_step 36 = .ok (.iaload, 1) := dk_46 (dk_at dksX2_step_1 14 rfl rfl)
theorem dX2_step_37 : decode cX2_step 37 = .ok (.iconst (-1), 1) := dk_2 (dk_at dksX2_step_1 15 rfl rfl)
theorem dX2_step_38 : decode cX2_step 38 = .ok (.if_icmp .ne 6, 3) := dk_160 0 6 (dk_at dksX2_step_1 16 rfl rfl)
theorem dX2_step_41 : decode cX2_step 41 = .ok (.bipush (-11), 2) := dk_16 245 (dk_at dksX2_step_1 19 rfl rfl)
theorem dX2_step_43 : decode cX2_step 43 = .ok (.ireturn, 1) := dk_172 (dk_at dksX2_step_1 21 rfl rfl)
theorem dX2_step_44 : decode cX2_step 44 = .ok (.aload_n 0, 1) := dk_42 (dk_at dksX2_step_1 22 rfl rfl)
theorem dX2_step_45 : decode cX2_step 45 = .ok (.getfield 44, 3) := dk_180 0 44 (dk_at dksX2_step_2 0 rfl rfl)
theorem dX2_step_48 : decode cX2_step 48 = .ok (.iload_n 1, 1) := dk_27 (dk_at dksX2_step_2 3 rfl rfl)
theorem dX2_step_49 : decode cX2_step 49 = .ok (.iaload, 1) := dk_46 (dk_at dksX2_step_2 4 rfl rfl)
theorem dX2_step_50 : decode cX2_step 50 = .ok (.iload_n 2, 1) := dk_28 (dk_at dksX2_step_2 5 rfl rfl)
theorem dX2_step_51 : decode cX2_step 51 = .ok (.isub, 1) := dk_100 (dk_at dksX2_step_2 6 rfl rfl)
theorem dX2_step_52 : decode cX2_step 52 = .ok (.istore 4, 2) := dk_54 4 (dk_at dksX2_step_2 7 rfl rfl)
theorem dX2_step_54 : decode cX2_step 54 = .ok (.iload 4, 2) := dk_21 4 (dk_at dksX2_step_2 9 rfl rfl)
theorem dX2_step_56 : decode cX2_step 56 = .ok (.iconst 0, 1) := dk_3 (dk_at dksX2_step_2 11 rfl rfl)
theorem dX2_step_57 : decode cX2_step 57 = .ok (.aload_n 0, 1) := dk_42 (dk_at dksX2_step_2 12 rfl rfl)
theorem dX2_step_58 : decode cX2_step 58 = .ok (.getfield 41, 3) := dk_180 0 41 (dk_at dksX2_step_2 13 rfl rfl)
theorem dX2_step_61 : decode cX2_step 61 = .ok (.iload_n 1, 1) := dk_27 (dk_at dksX2_step_2 16 rfl rfl)
theorem dX2_step_62 : decode cX2_step 62 = .ok (.iaload, 1) := dk_46 (dk_at dksX2_step_2 17 rfl rfl)
theorem dX2_step_63 : decode cX2_step 63 = .ok (.iconst 1, 1) := dk_4 (dk_at dksX2_step_2 18 rfl rfl)
theorem dX2_step_64 : decode cX2_step 64 = .ok (.isub, 1) := dk_100 (dk_at dksX2_step_2 19 rfl rfl)
theorem dX2_step_65 : decode cX2_step 65 = .ok (.invokestatic 59, 3) := dk_184 0 59 (dk_at dksX2_step_2 20 rfl rfl)
theorem dX2_step_68 : decode cX2_step 68 = .ok (.ifCond .ne 6, 3) := dk_154 0 6 (dk_at dksX2_step_3 0 rfl rfl)
theorem dX2_step_71 : decode cX2_step 71 = .ok (.bipush (-12), 2) := dk_16 244 (dk_at dksX2_step_3 3 rfl rfl)
theorem dX2_step_73 : decode cX2_step 73 = .ok (.ireturn, 1) := dk_172 (dk_at dksX2_step_3 5 rfl rfl)
theorem dX2_step_74 : decode cX2_step 74 = .ok (.aload_n 0, 1) := dk_42 (dk_at dksX2_step_3 6 rfl rfl)
theorem dX2_step_75 : decode cX2_step 75 = .ok (.getfield 50, 3) := dk_180 0 50 (dk_at dksX2_step_3 7 rfl rfl)
theorem dX2_step_78 : decode cX2_step 78 = .ok (.bipush 12, 2) := dk_16 12 (dk_at dksX2_step_3 10 rfl rfl)
theorem dX2_step_80 : decode cX2_step 80 = .ok (.iload_n 1, 1) := dk_27 (dk_at dksX2_step_3 12 rfl rfl)
theorem dX2_step_81 : decode cX2_step 81 = .ok (.imul, 1) := dk_104 (dk_at dksX2_step_3 13 rfl rfl)
theorem dX2_step_82 : decode cX2_step 82 = .ok (.iload 4, 2) := dk_21 4 (dk_at dksX2_step_3 14 rfl rfl)
theorem dX2_step_84 : decode cX2_step 84 = .ok (.iadd, 1) := dk_96 (dk_at dksX2_step_3 16 rfl rfl)
theorem dX2_step_85 : decode cX2_step 85 = .ok (.iaload, 1) := dk_46 (dk_at dksX2_step_3 17 rfl rfl)
theorem dX2_step_86 : decode cX2_step 86 = .ok (.iload_n 3, 1) := dk_29 (dk_at dksX2_step_3 18 rfl rfl)
theorem dX2_step_87 : decode cX2_step 87 = .ok (.if_icmp .eq 6, 3) := dk_159 0 6 (dk_at dksX2_step_3 19 rfl rfl)
theorem dX2_step_90 : decode cX2_step 90 = .ok (.bipush (-14), 2) := dk_16 242 (dk_at dksX2_step_3 22 rfl rfl)
theorem dX2_step_92 : decode cX2_step 92 = .ok (.ireturn, 1) := dk_172 (dk_at dksX2_step_4 0 rfl rfl)
theorem dX2_step_93 : decode cX2_step 93 = .ok (.aload_n 0, 1) := dk_42 (dk_at dksX2_step_4 1 rfl rfl)
theorem dX2_step_94 : decode cX2_step 94 = .ok (.getfield 44, 3) := dk_180 0 44 (dk_at dksX2_step_4 2 rfl rfl)
theorem dX2_step_97 : decode cX2_step 97 = .ok (.iload_n 1, 1) := dk_27 (dk_at dksX2_step_4 5 rfl rfl)
theorem dX2_step_98 : decode cX2_step 98 = .ok (.dup2, 1) := dk_92 (dk_at dksX2_step_4 6 rfl rfl)
theorem dX2_step_99 : decode cX2_step 99 = .ok (.iaload, 1) := dk_46 (dk_at dksX2_step_4 7 rfl rfl)
theorem dX2_step_100 : decode cX2_step 100 = .ok (.iload_n 2, 1) := dk_28 (dk_at dksX2_step_4 8 rfl rfl)
theorem dX2_step_101 : decode cX2_step 101 = .ok (.ifCond .ne 7, 3) := dk_154 0 7 (dk_at dksX2_step_4 9 rfl rfl)
theorem dX2_step_104 : decode cX2_step 104 = .ok (.iconst 1, 1) := dk_4 (dk_at dksX2_step_4 12 rfl rfl)
theorem dX2_step_105 : decode cX2_step 105 = .ok (.goto 4, 3) := dk_167 0 4 (dk_at dksX2_step_4 13 rfl rfl)
theorem dX2_step_108 : decode cX2_step 108 = .ok (.iconst (-1), 1) := dk_2 (dk_at dksX2_step_4 16 rfl rfl)
theorem dX2_step_109 : decode cX2_step 109 = .ok (.iadd, 1) := dk_96 (dk_at dksX2_step_4 17 rfl rfl)
theorem dX2_step_110 : decode cX2_step 110 = .ok (.iastore, 1) := dk_79 (dk_at dksX2_step_4 18 rfl rfl)
theorem dX2_step_111 : decode cX2_step 111 = .ok (.aload_n 0, 1) := dk_42 (dk_at dksX2_step_4 19 rfl rfl)
theorem dX2_step_112 : decode cX2_step 112 = .ok (.getfield 47, 3) := dk_180 0 47 (dk_at dksX2_step_4 20 rfl rfl)
theorem dX2_step_115 : decode cX2_step 115 = .ok (.iload_n 1, 1) := dk_27 (dk_at dksX2_step_4 23 rfl rfl)
theorem dX2_step_116 : decode cX2_step 116 = .ok (.iload 4, 2) := dk_21 4 (dk_at dksX2_step_5 0 rfl rfl)
theorem dX2_step_118 : decode cX2_step 118 = .ok (.iastore, 1) := dk_79 (dk_at dksX2_step_5 2 rfl rfl)
theorem dX2_step_119 : decode cX2_step 119 = .ok (.aload_n 0, 1) := dk_42 (dk_at dksX2_step_5 3 rfl rfl)
theorem dX2_step_120 : decode cX2_step 120 = .ok (.getfield 53, 3) := dk_180 0 53 (dk_at dksX2_step_5 4 rfl rfl)
theorem dX2_step_123 : decode cX2_step 123 = .ok (.bipush 12, 2) := dk_16 12 (dk_at dksX2_step_5 7 rfl rfl)
theorem dX2_step_125 : decode cX2_step 125 = .ok (.iload_n 1, 1) := dk_27 (dk_at dksX2_step_5 9 rfl rfl)
theorem dX2_step_126 : decode cX2_step 126 = .ok (.imul, 1) := dk_104 (dk_at dksX2_step_5 10 rfl rfl)
theorem dX2_step_127 : decode cX2_step 127 = .ok (.iload 4, 2) := dk_21 4 (dk_at dksX2_step_5 11 rfl rfl)
theorem dX2_step_129 : decode cX2_step 129 = .ok (.iadd, 1) := dk_96 (dk_at dksX2_step_5 13 rfl rfl)
theorem dX2_step_130 : decode cX2_step 130 = .ok (.iaload, 1) := dk_46 (dk_at dksX2_step_5 14 rfl rfl)
theorem dX2_step_131 : decode cX2_step 131 = .ok (.istore 5, 2) := dk_54 5 (dk_at dksX2_step_5 15 rfl rfl)
theorem dX2_step_133 : decode cX2_step 133 = .ok (.iload_n 3, 1) := dk_29 (dk_at dksX2_step_5 17 rfl rfl)
theorem dX2_step_134 : decode cX2_step 134 = .ok (.ifCond .ne 11, 3) := dk_154 0 11 (dk_at dksX2_step_5 18 rfl rfl)
theorem dX2_step_137 : decode cX2_step 137 = .ok (.iload 5, 2) := dk_21 5 (dk_at dksX2_step_5 21 rfl rfl)
theorem dX2_step_139 : decode cX2_step 139 = .ok (.ldc 232, 2) := dk_18 232 (dk_at dksX2_step_6 0 rfl rfl)
theorem dX2_step_141 : decode cX2_step 141 = .ok (.iadd, 1) := dk_96 (dk_at dksX2_step_6 2 rfl rfl)
theorem dX2_step_142 : decode cX2_step 142 = .ok (.goto 5, 3) := dk_167 0 5 (dk_at dksX2_step_6 3 rfl rfl)
theorem dX2_step_145 : decode cX2_step 145 = .ok (.iload 5, 2) := dk_21 5 (dk_at dksX2_step_6 6 rfl rfl)
theorem dX2_step_147 : decode cX2_step 147 = .ok (.ireturn, 1) := dk_172 (dk_at dksX2_step_6 8 rfl rfl)
abbrev cX2_add : ByteArray := prog_14_method_76_code
def yX2_add : MethodName := ⟨RX2, "add", "(III)I"⟩
def dkwX2_add_7 : List UInt8 := [46, 172]
abbrev dktX2_add_7 : List UInt8 := dkwX2_add_7 ++ []
def dkwX2_add_6 : List UInt8 := [96, 79, 42, 180, 0, 41, 27, 92, 46, 4, 96, 79, 42, 180, 0, 47, 27, 2, 79, 42, 180, 0, 41, 27]
abbrev dktX2_add_6 : List UInt8 := dkwX2_add_6 ++ dktX2_add_7
def dkwX2_add_5 : List UInt8 := [167, 255, 207, 42, 27, 42, 180, 0, 44, 27, 46, 28, 29, 182, 0, 236, 42, 180, 0, 44, 27, 92, 46, 4]
abbrev dktX2_add_5 : List UInt8 := dkwX2_add_5 ++ dktX2_add_6
def dkwX2_add_4 : List UInt8 := [100, 46, 42, 180, 0, 53, 16, 12, 27, 104, 21, 4, 96, 4, 100, 46, 182, 0, 236, 132, 4, 255]
abbrev dktX2_add_4 : List UInt8 := dkwX2_add_4 ++ dktX2_add_5
def dkwX2_add_3 : List UInt8 := [180, 0, 44, 27, 46, 164, 0, 44, 42, 27, 21, 4, 42, 180, 0, 50, 16, 12, 27, 104, 21, 4, 96, 4]
abbrev dktX2_add_3 : List UInt8 := dkwX2_add_3 ++ dktX2_add_4
def dkwX2_add_2 : List UInt8 := [180, 0, 41, 27, 46, 16, 12, 160, 0, 6, 16, 241, 172, 42, 180, 0, 41, 27, 46, 54, 4, 21, 4, 42]
abbrev dktX2_add_2 : List UInt8 := dkwX2_add_2 ++ dktX2_add_3
def dkwX2_add_1 : List UInt8 := [29, 184, 0, 233, 154, 0, 6, 16, 253, 172, 42, 180, 0, 41, 27, 46, 2, 160, 0, 6, 16, 245, 172, 42]
abbrev dktX2_add_1 : List UInt8 := dkwX2_add_1 ++ dktX2_add_2
def dkwX2_add_0 : List UInt8 := [27, 184, 0, 229, 153, 0, 16, 28, 4, 160, 0, 14, 42, 29, 182, 0, 194, 154, 0, 6, 16, 254, 172, 28]
abbrev dktX2_add_0 : List UInt8 := dkwX2_add_0 ++ dktX2_add_1
theorem dksX2_add_0 : cX2_add.data.toList.drop 0 = dktX2_add_0 := by decide +kernel
theorem dksX2_add_1 : cX2_add.data.toList.drop 24 = dktX2_add_1 := dk_seg dksX2_add_0 24 rfl rfl
theorem dksX2_add_2 : cX2_add.data.toList.drop 48 = dktX2_add_2 := dk_seg dksX2_add_1 24 rfl rfl
theorem dksX2_add_3 : cX2_add.data.toList.drop 72 = dktX2_add_3 := dk_seg dksX2_add_2 24 rfl rfl
theorem dksX2_add_4 : cX2_add.data.toList.drop 96 = dktX2_add_4 := dk_seg dksX2_add_3 24 rfl rfl
theorem dksX2_add_5 : cX2_add.data.toList.drop 118 = dktX2_add_5 := dk_seg dksX2_add_4 22 rfl rfl
theorem dksX2_add_6 : cX2_add.data.toList.drop 142 = dktX2_add_6 := dk_seg dksX2_add_5 24 rfl rfl
theorem dksX2_add_7 : cX2_add.data.toList.drop 166 = dktX2_add_7 := dk_seg dksX2_add_6 24 rfl rfl
theorem dX2_add_0 : decode cX2_add 0 = .ok (.iload_n 1, 1) := dk_27 (dk_at dksX2_add_0 0 rfl rfl)
theorem dX2_add_1 : decode cX2_add 1 = .ok (.invokestatic 229, 3) := dk_184 0 229 (dk_at dksX2_add_0 1 rfl rfl)
theorem dX2_add_4 : decode cX2_add 4 = .ok (.ifCond .eq 16, 3) := dk_153 0 16 (dk_at dksX2_add_0 4 rfl rfl)
theorem dX2_add_7 : decode cX2_add 7 = .ok (.iload_n 2, 1) := dk_28 (dk_at dksX2_add_0 7 rfl rfl)
theorem dX2_add_8 : decode cX2_add 8 = .ok (.iconst 1, 1) := dk_4 (dk_at dksX2_add_0 8 rfl rfl)
theorem dX2_add_9 : decode cX2_add 9 = .ok (.if_icmp .ne 14, 3) := dk_160 0 14 (dk_at dksX2_add_0 9 rfl rfl)
theorem dX2_add_12 : decode cX2_add 12 = .ok (.aload_n 0, 1) := dk_42 (dk_at dksX2_add_0 12 rfl rfl)
theorem dX2_add_13 : decode cX2_add 13 = .ok (.iload_n 3, 1) := dk_29 (dk_at dksX2_add_0 13 rfl rfl)
theorem dX2_add_14 : decode cX2_add 14 = .ok (.invokevirtual 194, 3) := dk_182 0 194 (dk_at dksX2_add_0 14 rfl rfl)
theorem dX2_add_17 : decode cX2_add 17 = .ok (.ifCond .ne 6, 3) := dk_154 0 6 (dk_at dksX2_add_0 17 rfl rfl)
theorem dX2_add_20 : decode cX2_add 20 = .ok (.bipush (-2), 2) := dk_16 254 (dk_at dksX2_add_0 20 rfl rfl)
theorem dX2_add_22 : decode cX2_add 22 = .ok (.ireturn, 1) := dk_172 (dk_at dksX2_add_0 22 rfl rfl)
theorem dX2_add_23 : decode cX2_add 23 = .ok (.iload_n 2, 1) := dk_28 (dk_at dksX2_add_0 23 rfl rfl)
theorem dX2_add_24 : decode cX2_add 24 = .ok (.iload_n 3, 1) := dk_29 (dk_at dksX2_add_1 0 rfl rfl)
theorem dX2_add_25 : decode cX2_add 25 = .ok (.invokestatic 233, 3) := dk_184 0 233 (dk_at dksX2_add_1 1 rfl rfl)
theorem dX2_add_28 : decode cX2_add 28 = .ok (.ifCond .ne 6, 3) := dk_154 0 6 (dk_at dksX2_add_1 4 rfl rfl)
theorem dX2_add_31 : decode cX2_add 31 = .ok (.bipush (-3), 2) := dk_16 253 (dk_at dksX2_add_1 7 rfl rfl)
theorem dX2_add_33 : decode cX2_add 33 = .ok (.ireturn, 1) := dk_172 (dk_at dksX2_add_1 9 rfl rfl)
theorem dX2_add_34 : decode cX2_add 34 = .ok (.aload_n 0, 1) := dk_42 (dk_at dksX2_add_1 10 rfl rfl)
theorem dX2_add_35 : decode cX2_add 35 = .ok (.getfield 41, 3) := dk_180 0 41 (dk_at dksX2_add_1 11 rfl rfl)
theorem dX2_add_38 : decode cX2_add 38 = .ok (.iload_n 1, 1) := dk_27 (dk_at dksX2_add_1 14 rfl rfl)
theorem dX2_add_39 : decode cX2_add 39 = .ok (.iaload, 1) := dk_46 (dk_at dksX2_add_1 15 rfl rfl)
theorem dX2_add_40 : decode cX2_add 40 = .ok (.iconst (-1), 1) := dk_2 (dk_at dksX2_add_1 16 rfl rfl)
theorem dX2_add_41 : decode cX2_add 41 = .ok (.if_icmp .ne 6, 3) := dk_160 0 6 (dk_at dksX2_add_1 17 rfl rfl)
theorem dX2_add_44 : decode cX2_add 44 = .ok (.bipush (-11), 2) := dk_16 245 (dk_at dksX2_add_1 20 rfl rfl)
theorem dX2_add_46 : decode cX2_add 46 = .ok (.ireturn, 1) := dk_172 (dk_at dksX2_add_1 22 rfl rfl)
theorem dX2_add_47 : decode cX2_add 47 = .ok (.aload_n 0, 1) := dk_42 (dk_at dksX2_add_1 23 rfl rfl)
theorem dX2_add_48 : decode cX2_add 48 = .ok (.getfield 41, 3) := dk_180 0 41 (dk_at dksX2_add_2 0 rfl rfl)
theorem dX2_add_51 : decode cX2_add 51 = .ok (.iload_n 1, 1) := dk_27 (dk_at dksX2_add_2 3 rfl rfl)
theorem dX2_add_52 : decode cX2_add 52 = .ok (.iaload, 1) := dk_46 (dk_at dksX2_add_2 4 rfl rfl)
theorem dX2_add_53 : decode cX2_add 53 = .ok (.bipush 12, 2) := dk_16 12 (dk_at dksX2_add_2 5 rfl rfl)
theorem dX2_add_55 : decode cX2_add 55 = .ok (.if_icmp .ne 6, 3) := dk_160 0 6 (dk_at dksX2_add_2 7 rfl rfl)
theorem dX2_add_58 : decode cX2_add 58 = .ok (.bipush (-15), 2) := dk_16 241 (dk_at dksX2_add_2 10 rfl rfl)
theorem dX2_add_60 : decode cX2_add 60 = .ok (.ireturn, 1) := dk_172 (dk_at dksX2_add_2 12 rfl rfl)
theorem dX2_add_61 : decode cX2_add 61 = .ok (.aload_n 0, 1) := dk_42 (dk_at dksX2_add_2 13 rfl rfl)
theorem dX2_add_62 : decode cX2_add 62 = .ok (.getfield 41, 3) := dk_180 0 41 (dk_at dksX2_add_2 14 rfl rfl)
theorem dX2_add_65 : decode cX2_add 65 = .ok (.iload_n 1, 1) := dk_27 (dk_at dksX2_add_2 17 rfl rfl)
theorem dX2_add_66 : decode cX2_add 66 = .ok (.iaload, 1) := dk_46 (dk_at dksX2_add_2 18 rfl rfl)
theorem dX2_add_67 : decode cX2_add 67 = .ok (.istore 4, 2) := dk_54 4 (dk_at dksX2_add_2 19 rfl rfl)
theorem dX2_add_69 : decode cX2_add 69 = .ok (.iload 4, 2) := dk_21 4 (dk_at dksX2_add_2 21 rfl rfl)
theorem dX2_add_71 : decode cX2_add 71 = .ok (.aload_n 0, 1) := dk_42 (dk_at dksX2_add_2 23 rfl rfl)
theorem dX2_add_72 : decode cX2_add 72 = .ok (.getfield 44, 3) := dk_180 0 44 (dk_at dksX2_add_3 0 rfl rfl)
theorem dX2_add_75 : decode cX2_add 75 = .ok (.iload_n 1, 1) := dk_27 (dk_at dksX2_add_3 3 rfl rfl)
theorem dX2_add_76 : decode cX2_add 76 = .ok (.iaload, 1) := dk_46 (dk_at dksX2_add_3 4 rfl rfl)
theorem dX2_add_77 : decode cX2_add 77 = .ok (.if_icmp .le 44, 3) := dk_164 0 44 (dk_at dksX2_add_3 5 rfl rfl)
theorem dX2_add_80 : decode cX2_add 80 = .ok (.aload_n 0, 1) := dk_42 (dk_at dksX2_add_3 8 rfl rfl)
theorem dX2_add_81 : decode cX2_add 81 = .ok (.iload_n 1, 1) := dk_27 (dk_at dksX2_add_3 9 rfl rfl)
theorem dX2_add_82 : decode cX2_add 82 = .ok (.iload 4, 2) := dk_21 4 (dk_at dksX2_add_3 10 rfl rfl)
theorem dX2_add_84 : decode cX2_add 84 = .ok (.aload_n 0, 1) := dk_42 (dk_at dksX2_add_3 12 rfl rfl)
theorem dX2_add_85 : decode cX2_add 85 = .ok (.getfield 50, 3) := dk_180 0 50 (dk_at dksX2_add_3 13 rfl rfl)
theorem dX2_add_88 : decode cX2_add 88 = .ok (.bipush 12, 2) := dk_16 12 (dk_at dksX2_add_3 16 rfl rfl)
theorem dX2_add_90 : decode cX2_add 90 = .ok (.iload_n 1, 1) := dk_27 (dk_at dksX2_add_3 18 rfl rfl)
theorem dX2_add_91 : decode cX2_add 91 = .ok (.imul, 1) := dk_104 (dk_at dksX2_add_3 19 rfl rfl)
theorem dX2_add_92 : decode cX2_add 92 = .ok (.iload 4, 2) := dk_21 4 (dk_at dksX2_add_3 20 rfl rfl)
theorem dX2_add_94 : decode cX2_add 94 = .ok (.iadd, 1) := dk_96 (dk_at dksX2_add_3 22 rfl rfl)
theorem dX2_add_95 : decode cX2_add 95 = .ok (.iconst 1, 1) := dk_4 (dk_at dksX2_add_3 23 rfl rfl)
theorem dX2_add_96 : decode cX2_add 96 = .ok (.isub, 1) := dk_100 (dk_at dksX2_add_4 0 rfl rfl)
theorem dX2_add_97 : decode cX2_add 97 = .ok (.iaload, 1) := dk_46 (dk_at dksX2_add_4 1 rfl rfl)
theorem dX2_add_98 : decode cX2_add 98 = .ok (.aload_n 0, 1) := dk_42 (dk_at dksX2_add_4 2 rfl rfl)
theorem dX2_add_99 : decode cX2_add 99 = .ok (.getfield 53, 3) := dk_180 0 53 (dk_at dksX2_add_4 3 rfl rfl)
theorem dX2_add_102 : decode cX2_add 102 = .ok (.bipush 12, 2) := dk_16 12 (dk_at dksX2_add_4 6 rfl rfl)
theorem dX2_add_104 : decode cX2_add 104 = .ok (.iload_n 1, 1) := dk_27 (dk_at dksX2_add_4 8 rfl rfl)
theorem dX2_add_105 : decode cX2_add 105 = .ok (.imul, 1) := dk_104 (dk_at dksX2_add_4 9 rfl rfl)
theorem dX2_add_106 : decode cX2_add 106 = .ok (.iload 4, 2) := dk_21 4 (dk_at dksX2_add_4 10 rfl rfl)
theorem dX2_add_108 : decode cX2_add 108 = .ok (.iadd, 1) := dk_96 (dk_at dksX2_add_4 12 rfl rfl)
theorem dX2_add_109 : decode cX2_add 109 = .ok (.iconst 1, 1) := dk_4 (dk_at dksX2_add_4 13 rfl rfl)
theorem dX2_add_110 : decode cX2_add 110 = .ok (.isub, 1) := dk_100 (dk_at dksX2_add_4 14 rfl rfl)
theorem dX2_add_111 : decode cX2_add 111 = .ok (.iaload, 1) := dk_46 (dk_at dksX2_add_4 15 rfl rfl)
theorem dX2_add_112 : decode cX2_add 112 = .ok (.invokevirtual 236, 3) := dk_182 0 236 (dk_at dksX2_add_4 16 rfl rfl)
theorem dX2_add_115 : decode cX2_add 115 = .ok (.iinc 4 (-1), 3) := dk_132 4 255 (dk_at dksX2_add_4 19 rfl rfl)
theorem dX2_add_118 : decode cX2_add 118 = .ok (.goto (-49), 3) := dk_167 255 207 (dk_at dksX2_add_5 0 rfl rfl)
theorem dX2_add_121 : decode cX2_add 121 = .ok (.aload_n 0, 1) := dk_42 (dk_at dksX2_add_5 3 rfl rfl)
theorem dX2_add_122 : decode cX2_add 122 = .ok (.iload_n 1, 1) := dk_27 (dk_at dksX2_add_5 4 rfl rfl)
theorem dX2_add_123 : decode cX2_add 123 = .ok (.aload_n 0, 1) := dk_42 (dk_at dksX2_add_5 5 rfl rfl)
theorem dX2_add_124 : decode cX2_add 124 = .ok (.getfield 44, 3) := dk_180 0 44 (dk_at dksX2_add_5 6 rfl rfl)
theorem dX2_add_127 : decode cX2_add 127 = .ok (.iload_n 1, 1) := dk_27 (dk_at dksX2_add_5 9 rfl rfl)
theorem dX2_add_128 : decode cX2_add 128 = .ok (.iaload, 1) := dk_46 (dk_at dksX2_add_5 10 rfl rfl)
theorem dX2_add_129 : decode cX2_add 129 = .ok (.iload_n 2, 1) := dk_28 (dk_at dksX2_add_5 11 rfl rfl)
theorem dX2_add_130 : decode cX2_add 130 = .ok (.iload_n 3, 1) := dk_29 (dk_at dksX2_add_5 12 rfl rfl)
theorem dX2_add_131 : decode cX2_add 131 = .ok (.invokevirtual 236, 3) := dk_182 0 236 (dk_at dksX2_add_5 13 rfl rfl)
theorem dX2_add_134 : decode cX2_add 134 = .ok (.aload_n 0, 1) := dk_42 (dk_at dksX2_add_5 16 rfl rfl)
theorem dX2_add_135 : decode cX2_add 135 = .ok (.getfield 44, 3) := dk_180 0 44 (dk_at dksX2_add_5 17 rfl rfl)
theorem dX2_add_138 : decode cX2_add 138 = .ok (.iload_n 1, 1) := dk_27 (dk_at dksX2_add_5 20 rfl rfl)
theorem dX2_add_139 : decode cX2_add 139 = .ok (.dup2, 1) := dk_92 (dk_at dksX2_add_5 21 rfl rfl)
theorem dX2_add_140 : decode cX2_add 140 = .ok (.iaload, 1) := dk_46 (dk_at dksX2_add_5 22 rfl rfl)
theorem dX2_add_141 : decode cX2_add 141 = .ok (.iconst 1, 1) := dk_4 (dk_at dksX2_add_5 23 rfl rfl)
theorem dX2_add_142 : decode cX2_add 142 = .ok (.iadd, 1) := dk_96 (dk_at dksX2_add_6 0 rfl rfl)
theorem dX2_add_143 : decode cX2_add 143 = .ok (.iastore, 1) := dk_79 (dk_at dksX2_add_6 1 rfl rfl)
theorem dX2_add_144 : decode cX2_add 144 = .ok (.aload_n 0, 1) := dk_42 (dk_at dksX2_add_6 2 rfl rfl)
theorem dX2_add_145 : decode cX2_add 145 = .ok (.getfield 41, 3) := dk_180 0 41 (dk_at dksX2_add_6 3 rfl rfl)
theorem dX2_add_148 : decode cX2_add 148 = .ok (.iload_n 1, 1) := dk_27 (dk_at dksX2_add_6 6 rfl rfl)
theorem dX2_add_149 : decode cX2_add 149 = .ok (.dup2, 1) := dk_92 (dk_at dksX2_add_6 7 rfl rfl)
theorem dX2_add_150 : decode cX2_add 150 = .ok (.iaload, 1) := dk_46 (dk_at dksX2_add_6 8 rfl rfl)
theorem dX2_add_151 : decode cX2_add 151 = .ok (.iconst 1, 1) := dk_4 (dk_at dksX2_add_6 9 rfl rfl)
theorem dX2_add_152 : decode cX2_add 152 = .ok (.iadd, 1) := dk_96 (dk_at dksX2_add_6 10 rfl rfl)
theorem dX2_add_153 : decode cX2_add 153 = .ok (.iastore, 1) := dk_79 (dk_at dksX2_add_6 11 rfl rfl)
theorem dX2_add_154 : decode cX2_add 154 = .ok (.aload_n 0, 1) := dk_42 (dk_at dksX2_add_6 12 rfl rfl)
theorem dX2_add_155 : decode cX2_add 155 = .ok (.getfield 47, 3) := dk_180 0 47 (dk_at dksX2_add_6 13 rfl rfl)
theorem dX2_add_158 : decode cX2_add 158 = .ok (.iload_n 1, 1) := dk_27 (dk_at dksX2_add_6 16 rfl rfl)
theorem dX2_add_159 : decode cX2_add 159 = .ok (.iconst (-1), 1) := dk_2 (dk_at dksX2_add_6 17 rfl rfl)
theorem dX2_add_160 : decode cX2_add 160 = .ok (.iastore, 1) := dk_79 (dk_at dksX2_add_6 18 rfl rfl)
theorem dX2_add_161 : decode cX2_add 161 = .ok (.aload_n 0, 1) := dk_42 (dk_at dksX2_add_6 19 rfl rfl)
theorem dX2_add_162 : decode cX2_add 162 = .ok (.getfield 41, 3) := dk_180 0 41 (dk_at dksX2_add_6 20 rfl rfl)
theorem dX2_add_165 : decode cX2_add 165 = .ok (.iload_n 1, 1) := dk_27 (dk_at dksX2_add_6 23 rfl rfl)
theorem dX2_add_166 : decode cX2_add 166 = .ok (.iaload, 1) := dk_46 (dk_at dksX2_add_7 0 rfl rfl)
theorem dX2_add_167 : decode cX2_add 167 = .ok (.ireturn, 1) := dk_172 (dk_at dksX2_add_7 1 rfl rfl)
abbrev cX2_isWell : ByteArray := prog_14_method_72_code
def yX2_isWell : MethodName := ⟨RX2, "isWell", "(II)Z"⟩
def dkwX2_isWell_1 : List UInt8 := [16, 9, 184, 0, 59, 167, 0, 13, 26, 4, 160, 0, 7, 4, 167, 0, 4, 3, 172]
abbrev dktX2_isWell_1 : List UInt8 := dkwX2_isWell_1 ++ []
def dkwX2_isWell_0 : List UInt8 := [26, 154, 0, 16, 27, 17, 216, 241, 17, 39, 15, 184, 0, 59, 167, 0, 28, 26, 5, 160, 0, 13, 27, 3]
abbrev dktX2_isWell_0 : List UInt8 := dkwX2_isWell_0 ++ dktX2_isWell_1
theorem dksX2_isWell_0 : cX2_isWell.data.toList.drop 0 = dktX2_isWell_0 := by decide +kernel
theorem dksX2_isWell_1 : cX2_isWell.data.toList.drop 24 = dktX2_isWell_1 := dk_seg dksX2_isWell_0 24 rfl rfl
theorem dX2_isWell_0 : decode cX2_isWell 0 = .ok (.iload_n 0, 1) := dk_26 (dk_at dksX2_isWell_0 0 rfl rfl)
theorem dX2_isWell_1 : decode cX2_isWell 1 = .ok (.ifCond .ne 16, 3) := dk_154 0 16 (dk_at dksX2_isWell_0 1 rfl rfl)
theorem dX2_isWell_4 : decode cX2_isWell 4 = .ok (.iload_n 1, 1) := dk_27 (dk_at dksX2_isWell_0 4 rfl rfl)
theorem dX2_isWell_5 : decode cX2_isWell 5 = .ok (.sipush (-9999), 3) := dk_17 216 241 (dk_at dksX2_isWell_0 5 rfl rfl)
theorem dX2_isWell_8 : decode cX2_isWell 8 = .ok (.sipush 9999, 3) := dk_17 39 15 (dk_at dksX2_isWell_0 8 rfl rfl)
theorem dX2_isWell_11 : decode cX2_isWell 11 = .ok (.invokestatic 59, 3) := dk_184 0 59 (dk_at dksX2_isWell_0 11 rfl rfl)
theorem dX2_isWell_14 : decode cX2_isWell 14 = .ok (.goto 28, 3) := dk_167 0 28 (dk_at dksX2_isWell_0 14 rfl rfl)
theorem dX2_isWell_17 : decode cX2_isWell 17 = .ok (.iload_n 0, 1) := dk_26 (dk_at dksX2_isWell_0 17 rfl rfl)
theorem dX2_isWell_18 : decode cX2_isWell 18 = .ok (.iconst 2, 1) := dk_5 (dk_at dksX2_isWell_0 18 rfl rfl)
theorem dX2_isWell_19 : decode cX2_isWell 19 = .ok (.if_icmp .ne 13, 3) := dk_160 0 13 (dk_at dksX2_isWell_0 19 rfl rfl)
theorem dX2_isWell_22 : decode cX2_isWell 22 = .ok (.iload_n 1, 1) := dk_27 (dk_at dksX2_isWell_0 22 rfl rfl)
theorem dX2_isWell_23 : decode cX2_isWell 23 = .ok (.iconst 0, 1) := dk_3 (dk_at dksX2_isWell_0 23 rfl rfl)
theorem dX2_isWell_24 : decode cX2_isWell 24 = .ok (.bipush 9, 2) := dk_16 9 (dk_at dksX2_isWell_1 0 rfl rfl)
theorem dX2_isWell_26 : decode cX2_isWell 26 = .ok (.invokestatic 59, 3) := dk_184 0 59 (dk_at dksX2_isWell_1 2 rfl rfl)
theorem dX2_isWell_29 : decode cX2_isWell 29 = .ok (.goto 13, 3) := dk_167 0 13 (dk_at dksX2_isWell_1 5 rfl rfl)
theorem dX2_isWell_32 : decode cX2_isWell 32 = .ok (.iload_n 0, 1) := dk_26 (dk_at dksX2_isWell_1 8 rfl rfl)
theorem dX2_isWell_33 : decode cX2_isWell 33 = .ok (.iconst 1, 1) := dk_4 (dk_at dksX2_isWell_1 9 rfl rfl)
theorem dX2_isWell_34 : decode cX2_isWell 34 = .ok (.if_icmp .ne 7, 3) := dk_160 0 7 (dk_at dksX2_isWell_1 10 rfl rfl)
theorem dX2_isWell_37 : decode cX2_isWell 37 = .ok (.iconst 1, 1) := dk_4 (dk_at dksX2_isWell_1 13 rfl rfl)
theorem dX2_isWell_38 : decode cX2_isWell 38 = .ok (.goto 4, 3) := dk_167 0 4 (dk_at dksX2_isWell_1 14 rfl rfl)
theorem dX2_isWell_41 : decode cX2_isWell 41 = .ok (.iconst 0, 1) := dk_3 (dk_at dksX2_isWell_1 17 rfl rfl)
theorem dX2_isWell_42 : decode cX2_isWell 42 = .ok (.ireturn, 1) := dk_172 (dk_at dksX2_isWell_1 18 rfl rfl)
abbrev cX2_lays : ByteArray := prog_14_method_75_code
def yX2_lays : MethodName := ⟨RX2, "lays", "(IIII)V"⟩
def dkwX2_lays_1 : List UInt8 := [79, 177]
abbrev dktX2_lays_1 : List UInt8 := dkwX2_lays_1 ++ []
def dkwX2_lays_0 : List UInt8 := [42, 180, 0, 50, 16, 12, 27, 104, 28, 96, 29, 79, 42, 180, 0, 53, 16, 12, 27, 104, 28, 96, 21, 4]
abbrev dktX2_lays_0 : List UInt8 := dkwX2_lays_0 ++ dktX2_lays_1
theorem dksX2_lays_0 : cX2_lays.data.toList.drop 0 = dktX2_lays_0 := by decide +kernel
theorem dksX2_lays_1 : cX2_lays.data.toList.drop 24 = dktX2_lays_1 := dk_seg dksX2_lays_0 24 rfl rfl
theorem dX2_lays_0 : decode cX2_lays 0 = .ok (.aload_n 0, 1) := dk_42 (dk_at dksX2_lays_0 0 rfl rfl)
theorem dX2_lays_1 : decode cX2_lays 1 = .ok (.getfield 50, 3) := dk_180 0 50 (dk_at dksX2_lays_0 1 rfl rfl)
theorem dX2_lays_4 : decode cX2_lays 4 = .ok (.bipush 12, 2) := dk_16 12 (dk_at dksX2_lays_0 4 rfl rfl)
theorem dX2_lays_6 : decode cX2_lays 6 = .ok (.iload_n 1, 1) := dk_27 (dk_at dksX2_lays_0 6 rfl rfl)
theorem dX2_lays_7 : decode cX2_lays 7 = .ok (.imul, 1) := dk_104 (dk_at dksX2_lays_0 7 rfl rfl)
theorem dX2_lays_8 : decode cX2_lays 8 = .ok (.iload_n 2, 1) := dk_28 (dk_at dksX2_lays_0 8 rfl rfl)
theorem dX2_lays_9 : decode cX2_lays 9 = .ok (.iadd, 1) := dk_96 (dk_at dksX2_lays_0 9 rfl rfl)
theorem dX2_lays_10 : decode cX2_lays 10 = .ok (.iload_n 3, 1) := dk_29 (dk_at dksX2_lays_0 10 rfl rfl)
theorem dX2_lays_11 : decode cX2_lays 11 = .ok (.iastore, 1) := dk_79 (dk_at dksX2_lays_0 11 rfl rfl)
theorem dX2_lays_12 : decode cX2_lays 12 = .ok (.aload_n 0, 1) := dk_42 (dk_at dksX2_lays_0 12 rfl rfl)
theorem dX2_lays_13 : decode cX2_lays 13 = .ok (.getfield 53, 3) := dk_180 0 53 (dk_at dksX2_lays_0 13 rfl rfl)
theorem dX2_lays_16 : decode cX2_lays 16 = .ok (.bipush 12, 2) := dk_16 12 (dk_at dksX2_lays_0 16 rfl rfl)
theorem dX2_lays_18 : decode cX2_lays 18 = .ok (.iload_n 1, 1) := dk_27 (dk_at dksX2_lays_0 18 rfl rfl)
theorem dX2_lays_19 : decode cX2_lays 19 = .ok (.imul, 1) := dk_104 (dk_at dksX2_lays_0 19 rfl rfl)
theorem dX2_lays_20 : decode cX2_lays 20 = .ok (.iload_n 2, 1) := dk_28 (dk_at dksX2_lays_0 20 rfl rfl)
theorem dX2_lays_21 : decode cX2_lays 21 = .ok (.iadd, 1) := dk_96 (dk_at dksX2_lays_0 21 rfl rfl)
theorem dX2_lays_22 : decode cX2_lays 22 = .ok (.iload 4, 2) := dk_21 4 (dk_at dksX2_lays_0 22 rfl rfl)
theorem dX2_lays_24 : decode cX2_lays 24 = .ok (.iastore, 1) := dk_79 (dk_at dksX2_lays_1 0 rfl rfl)
theorem dX2_lays_25 : decode cX2_lays 25 = .ok (.return_, 1) := dk_177 (dk_at dksX2_lays_1 1 rfl rfl)
abbrev cX2_set : ByteArray := prog_14_method_77_code
def yX2_set : MethodName := ⟨RX2, "set", "(III)I"⟩
def dkwX2_set_3 : List UInt8 := [182, 0, 236, 42, 180, 0, 47, 27, 46, 172]
abbrev dktX2_set_3 : List UInt8 := dkwX2_set_3 ++ []
def dkwX2_set_2 : List UInt8 := [180, 0, 47, 27, 46, 2, 160, 0, 6, 16, 243, 172, 42, 27, 42, 180, 0, 47, 27, 46, 28, 29]
abbrev dktX2_set_2 : List UInt8 := dkwX2_set_2 ++ dktX2_set_3
def dkwX2_set_1 : List UInt8 := [29, 184, 0, 233, 154, 0, 6, 16, 253, 172, 42, 180, 0, 41, 27, 46, 2, 160, 0, 6, 16, 245, 172, 42]
abbrev dktX2_set_1 : List UInt8 := dkwX2_set_1 ++ dktX2_set_2
def dkwX2_set_0 : List UInt8 := [27, 184, 0, 229, 153, 0, 16, 28, 4, 160, 0, 14, 42, 29, 182, 0, 194, 154, 0, 6, 16, 254, 172, 28]
abbrev dktX2_set_0 : List UInt8 := dkwX2_set_0 ++ dktX2_set_1
theorem dksX2_set_0 : cX2_set.data.toList.drop 0 = dktX2_set_0 := by decide +kernel
theorem dksX2_set_1 : cX2_set.data.toList.drop 24 = dktX2_set_1 := dk_seg dksX2_set_0 24 rfl rfl
theorem dksX2_set_2 : cX2_set.data.toList.drop 48 = dktX2_set_2 := dk_seg dksX2_set_1 24 rfl rfl
theorem dksX2_set_3 : cX2_set.data.toList.drop 70 = dktX2_set_3 := dk_seg dksX2_set_2 22 rfl rfl
theorem dX2_set_0 : decode cX2_set 0 = .ok (.iload_n 1, 1) := dk_27 (dk_at dksX2_set_0 0 rfl rfl)
theorem dX2_set_1 : decode cX2_set 1 = .ok (.invokestatic 229, 3) := dk_184 0 229 (dk_at dksX2_set_0 1 rfl rfl)
theorem dX2_set_4 : decode cX2_set 4 = .ok (.ifCond .eq 16, 3) := dk_153 0 16 (dk_at dksX2_set_0 4 rfl rfl)
theorem dX2_set_7 : decode cX2_set 7 = .ok (.iload_n 2, 1) := dk_28 (dk_at dksX2_set_0 7 rfl rfl)
theorem dX2_set_8 : decode cX2_set 8 = .ok (.iconst 1, 1) := dk_4 (dk_at dksX2_set_0 8 rfl rfl)
theorem dX2_set_9 : decode cX2_set 9 = .ok (.if_icmp .ne 14, 3) := dk_160 0 14 (dk_at dksX2_set_0 9 rfl rfl)
theorem dX2_set_12 : decode cX2_set 12 = .ok (.aload_n 0, 1) := dk_42 (dk_at dksX2_set_0 12 rfl rfl)
theorem dX2_set_13 : decode cX2_set 13 = .ok (.iload_n 3, 1) := dk_29 (dk_at dksX2_set_0 13 rfl rfl)
theorem dX2_set_14 : decode cX2_set 14 = .ok (.invokevirtual 194, 3) := dk_182 0 194 (dk_at dksX2_set_0 14 rfl rfl)
theorem dX2_set_17 : decode cX2_set 17 = .ok (.ifCond .ne 6, 3) := dk_154 0 6 (dk_at dksX2_set_0 17 rfl rfl)
theorem dX2_set_20 : decode cX2_set 20 = .ok (.bipush (-2), 2) := dk_16 254 (dk_at dksX2_set_0 20 rfl rfl)
theorem dX2_set_22 : decode cX2_set 22 = .ok (.ireturn, 1) := dk_172 (dk_at dksX2_set_0 22 rfl rfl)
theorem dX2_set_23 : decode cX2_set 23 = .ok (.iload_n 2, 1) := dk_28 (dk_at dksX2_set_0 23 rfl rfl)
theorem dX2_set_24 : decode cX2_set 24 = .ok (.iload_n 3, 1) := dk_29 (dk_at dksX2_set_1 0 rfl rfl)
theorem dX2_set_25 : decode cX2_set 25 = .ok (.invokestatic 233, 3) := dk_184 0 233 (dk_at dksX2_set_1 1 rfl rfl)
theorem dX2_set_28 : decode cX2_set 28 = .ok (.ifCond .ne 6, 3) := dk_154 0 6 (dk_at dksX2_set_1 4 rfl rfl)
theorem dX2_set_31 : decode cX2_set 31 = .ok (.bipush (-3), 2) := dk_16 253 (dk_at dksX2_set_1 7 rfl rfl)
theorem dX2_set_33 : decode cX2_set 33 = .ok (.ireturn, 1) := dk_172 (dk_at dksX2_set_1 9 rfl rfl)
theorem dX2_set_34 : decode cX2_set 34 = .ok (.aload_n 0, 1) := dk_42 (dk_at dksX2_set_1 10 rfl rfl)
theorem dX2_set_35 : decode cX2_set 35 = .ok (.getfield 41, 3) := dk_180 0 41 (dk_at dksX2_set_1 11 rfl rfl)
theorem dX2_set_38 : decode cX2_set 38 = .ok (.iload_n 1, 1) := dk_27 (dk_at dksX2_set_1 14 rfl rfl)
theorem dX2_set_39 : decode cX2_set 39 = .ok (.iaload, 1) := dk_46 (dk_at dksX2_set_1 15 rfl rfl)
theorem dX2_set_40 : decode cX2_set 40 = .ok (.iconst (-1), 1) := dk_2 (dk_at dksX2_set_1 16 rfl rfl)
theorem dX2_set_41 : decode cX2_set 41 = .ok (.if_icmp .ne 6, 3) := dk_160 0 6 (dk_at dksX2_set_1 17 rfl rfl)
theorem dX2_set_44 : decode cX2_set 44 = .ok (.bipush (-11), 2) := dk_16 245 (dk_at dksX2_set_1 20 rfl rfl)
theorem dX2_set_46 : decode cX2_set 46 = .ok (.ireturn, 1) := dk_172 (dk_at dksX2_set_1 22 rfl rfl)
theorem dX2_set_47 : decode cX2_set 47 = .ok (.aload_n 0, 1) := dk_42 (dk_at dksX2_set_1 23 rfl rfl)
theorem dX2_set_48 : decode cX2_set 48 = .ok (.getfield 47, 3) := dk_180 0 47 (dk_at dksX2_set_2 0 rfl rfl)
theorem dX2_set_51 : decode cX2_set 51 = .ok (.iload_n 1, 1) := dk_27 (dk_at dksX2_set_2 3 rfl rfl)
theorem dX2_set_52 : decode cX2_set 52 = .ok (.iaload, 1) := dk_46 (dk_at dksX2_set_2 4 rfl rfl)
theorem dX2_set_53 : decode cX2_set 53 = .ok (.iconst (-1), 1) := dk_2 (dk_at dksX2_set_2 5 rfl rfl)
theorem dX2_set_54 : decode cX2_set 54 = .ok (.if_icmp .ne 6, 3) := dk_160 0 6 (dk_at dksX2_set_2 6 rfl rfl)
theorem dX2_set_57 : decode cX2_set 57 = .ok (.bipush (-13), 2) := dk_16 243 (dk_at dksX2_set_2 9 rfl rfl)
theorem dX2_set_59 : decode cX2_set 59 = .ok (.ireturn, 1) := dk_172 (dk_at dksX2_set_2 11 rfl rfl)
theorem dX2_set_60 : decode cX2_set 60 = .ok (.aload_n 0, 1) := dk_42 (dk_at dksX2_set_2 12 rfl rfl)
theorem dX2_set_61 : decode cX2_set 61 = .ok (.iload_n 1, 1) := dk_27 (dk_at dksX2_set_2 13 rfl rfl)
theorem dX2_set_62 : decode cX2_set 62 = .ok (.aload_n 0, 1) := dk_42 (dk_at dksX2_set_2 14 rfl rfl)
theorem dX2_set_63 : decode cX2_set 63 = .ok (.getfield 47, 3) := dk_180 0 47 (dk_at dksX2_set_2 15 rfl rfl)
theorem dX2_set_66 : decode cX2_set 66 = .ok (.iload_n 1, 1) := dk_27 (dk_at dksX2_set_2 18 rfl rfl)
theorem dX2_set_67 : decode cX2_set 67 = .ok (.iaload, 1) := dk_46 (dk_at dksX2_set_2 19 rfl rfl)
theorem dX2_set_68 : decode cX2_set 68 = .ok (.iload_n 2, 1) := dk_28 (dk_at dksX2_set_2 20 rfl rfl)
theorem dX2_set_69 : decode cX2_set 69 = .ok (.iload_n 3, 1) := dk_29 (dk_at dksX2_set_2 21 rfl rfl)
theorem dX2_set_70 : decode cX2_set 70 = .ok (.invokevirtual 236, 3) := dk_182 0 236 (dk_at dksX2_set_3 0 rfl rfl)
theorem dX2_set_73 : decode cX2_set 73 = .ok (.aload_n 0, 1) := dk_42 (dk_at dksX2_set_3 3 rfl rfl)
theorem dX2_set_74 : decode cX2_set 74 = .ok (.getfield 47, 3) := dk_180 0 47 (dk_at dksX2_set_3 4 rfl rfl)
theorem dX2_set_77 : decode cX2_set 77 = .ok (.iload_n 1, 1) := dk_27 (dk_at dksX2_set_3 7 rfl rfl)
theorem dX2_set_78 : decode cX2_set 78 = .ok (.iaload, 1) := dk_46 (dk_at dksX2_set_3 8 rfl rfl)
theorem dX2_set_79 : decode cX2_set 79 = .ok (.ireturn, 1) := dk_172 (dk_at dksX2_set_3 9 rfl rfl)
abbrev cX2_cut : ByteArray := prog_14_method_78_code
def yX2_cut : MethodName := ⟨RX2, "cut", "(I)I"⟩
def dkwX2_cut_5 : List UInt8 := [180, 0, 41, 27, 92, 46, 4, 100, 79, 42, 180, 0, 47, 27, 2, 79, 42, 180, 0, 41, 27, 46, 172]
abbrev dktX2_cut_5 : List UInt8 := dkwX2_cut_5 ++ []
def dkwX2_cut_4 : List UInt8 := [180, 0, 44, 27, 92, 46, 28, 42, 180, 0, 44, 27, 46, 162, 0, 7, 4, 167, 0, 4, 3, 100, 79, 42]
abbrev dktX2_cut_4 : List UInt8 := dkwX2_cut_4 ++ dktX2_cut_5
def dkwX2_cut_3 : List UInt8 := [46, 42, 180, 0, 53, 16, 12, 27, 104, 29, 96, 4, 96, 46, 182, 0, 236, 132, 3, 1, 167, 255, 209, 42]
abbrev dktX2_cut_3 : List UInt8 := dkwX2_cut_3 ++ dktX2_cut_4
def dkwX2_cut_2 : List UInt8 := [42, 180, 0, 41, 27, 46, 162, 0, 41, 42, 27, 29, 42, 180, 0, 50, 16, 12, 27, 104, 29, 96, 4, 96]
abbrev dktX2_cut_2 : List UInt8 := dkwX2_cut_2 ++ dktX2_cut_3
def dkwX2_cut_1 : List UInt8 := [180, 0, 47, 27, 46, 2, 160, 0, 6, 16, 243, 172, 42, 180, 0, 47, 27, 46, 61, 28, 62, 29, 4, 96]
abbrev dktX2_cut_1 : List UInt8 := dkwX2_cut_1 ++ dktX2_cut_2
def dkwX2_cut_0 : List UInt8 := [27, 184, 0, 229, 154, 0, 6, 16, 254, 172, 42, 180, 0, 41, 27, 46, 2, 160, 0, 6, 16, 245, 172, 42]
abbrev dktX2_cut_0 : List UInt8 := dkwX2_cut_0 ++ dktX2_cut_1
theorem dksX2_cut_0 : cX2_cut.data.toList.drop 0 = dktX2_cut_0 := by decide +kernel
theorem dksX2_cut_1 : cX2_cut.data.toList.drop 24 = dktX2_cut_1 := dk_seg dksX2_cut_0 24 rfl rfl
theorem dksX2_cut_2 : cX2_cut.data.toList.drop 48 = dktX2_cut_2 := dk_seg dksX2_cut_1 24 rfl rfl
theorem dksX2_cut_3 : cX2_cut.data.toList.drop 72 = dktX2_cut_3 := dk_seg dksX2_cut_2 24 rfl rfl
theorem dksX2_cut_4 : cX2_cut.data.toList.drop 96 = dktX2_cut_4 := dk_seg dksX2_cut_3 24 rfl rfl
theorem dksX2_cut_5 : cX2_cut.data.toList.drop 120 = dktX2_cut_5 := dk_seg dksX2_cut_4 24 rfl rfl
theorem dX2_cut_0 : decode cX2_cut 0 = .ok (.iload_n 1, 1) := dk_27 (dk_at dksX2_cut_0 0 rfl rfl)
theorem dX2_cut_1 : decode cX2_cut 1 = .ok (.invokestatic 229, 3) := dk_184 0 229 (dk_at dksX2_cut_0 1 rfl rfl)
theorem dX2_cut_4 : decode cX2_cut 4 = .ok (.ifCond .ne 6, 3) := dk_154 0 6 (dk_at dksX2_cut_0 4 rfl rfl)
theorem dX2_cut_7 : decode cX2_cut 7 = .ok (.bipush (-2), 2) := dk_16 254 (dk_at dksX2_cut_0 7 rfl rfl)
theorem dX2_cut_9 : decode cX2_cut 9 = .ok (.ireturn, 1) := dk_172 (dk_at dksX2_cut_0 9 rfl rfl)
theorem dX2_cut_10 : decode cX2_cut 10 = .ok (.aload_n 0, 1) := dk_42 (dk_at dksX2_cut_0 10 rfl rfl)
theorem dX2_cut_11 : decode cX2_cut 11 = .ok (.getfield 41, 3) := dk_180 0 41 (dk_at dksX2_cut_0 11 rfl rfl)
theorem dX2_cut_14 : decode cX2_cut 14 = .ok (.iload_n 1, 1) := dk_27 (dk_at dksX2_cut_0 14 rfl rfl)
theorem dX2_cut_15 : decode cX2_cut 15 = .ok (.iaload, 1) := dk_46 (dk_at dksX2_cut_0 15 rfl rfl)
theorem dX2_cut_16 : decode cX2_cut 16 = .ok (.iconst (-1), 1) := dk_2 (dk_at dksX2_cut_0 16 rfl rfl)
theorem dX2_cut_17 : decode cX2_cut 17 = .ok (.if_icmp .ne 6, 3) := dk_160 0 6 (dk_at dksX2_cut_0 17 rfl rfl)
theorem dX2_cut_20 : decode cX2_cut 20 = .ok (.bipush (-11), 2) := dk_16 245 (dk_at dksX2_cut_0 20 rfl rfl)
theorem dX2_cut_22 : decode cX2_cut 22 = .ok (.ireturn, 1) := dk_172 (dk_at dksX2_cut_0 22 rfl rfl)
theorem dX2_cut_23 : decode cX2_cut 23 = .ok (.aload_n 0, 1) := dk_42 (dk_at dksX2_cut_0 23 rfl rfl)
theorem dX2_cut_24 : decode cX2_cut 24 = .ok (.getfield 47, 3) := dk_180 0 47 (dk_at dksX2_cut_1 0 rfl rfl)
theorem dX2_cut_27 : decode cX2_cut 27 = .ok (.iload_n 1, 1) := dk_27 (dk_at dksX2_cut_1 3 rfl rfl)
theorem dX2_cut_28 : decode cX2_cut 28 = .ok (.iaload, 1) := dk_46 (dk_at dksX2_cut_1 4 rfl rfl)
theorem dX2_cut_29 : decode cX2_cut 29 = .ok (.iconst (-1), 1) := dk_2 (dk_at dksX2_cut_1 5 rfl rfl)
theorem dX2_cut_30 : decode cX2_cut 30 = .ok (.if_icmp .ne 6, 3) := dk_160 0 6 (dk_at dksX2_cut_1 6 rfl rfl)
theorem dX2_cut_33 : decode cX2_cut 33 = .ok (.bipush (-13), 2) := dk_16 243 (dk_at dksX2_cut_1 9 rfl rfl)
theorem dX2_cut_35 : decode cX2_cut 35 = .ok (.ireturn, 1) := dk_172 (dk_at dksX2_cut_1 11 rfl rfl)
theorem dX2_cut_36 : decode cX2_cut 36 = .ok (.aload_n 0, 1) := dk_42 (dk_at dksX2_cut_1 12 rfl rfl)
theorem dX2_cut_37 : decode cX2_cut 37 = .ok (.getfield 47, 3) := dk_180 0 47 (dk_at dksX2_cut_1 13 rfl rfl)
theorem dX2_cut_40 : decode cX2_cut 40 = .ok (.iload_n 1, 1) := dk_27 (dk_at dksX2_cut_1 16 rfl rfl)
theorem dX2_cut_41 : decode cX2_cut 41 = .ok (.iaload, 1) := dk_46 (dk_at dksX2_cut_1 17 rfl rfl)
theorem dX2_cut_42 : decode cX2_cut 42 = .ok (.istore_n 2, 1) := dk_61 (dk_at dksX2_cut_1 18 rfl rfl)
theorem dX2_cut_43 : decode cX2_cut 43 = .ok (.iload_n 2, 1) := dk_28 (dk_at dksX2_cut_1 19 rfl rfl)
theorem dX2_cut_44 : decode cX2_cut 44 = .ok (.istore_n 3, 1) := dk_62 (dk_at dksX2_cut_1 20 rfl rfl)
theorem dX2_cut_45 : decode cX2_cut 45 = .ok (.iload_n 3, 1) := dk_29 (dk_at dksX2_cut_1 21 rfl rfl)
theorem dX2_cut_46 : decode cX2_cut 46 = .ok (.iconst 1, 1) := dk_4 (dk_at dksX2_cut_1 22 rfl rfl)
theorem dX2_cut_47 : decode cX2_cut 47 = .ok (.iadd, 1) := dk_96 (dk_at dksX2_cut_1 23 rfl rfl)
theorem dX2_cut_48 : decode cX2_cut 48 = .ok (.aload_n 0, 1) := dk_42 (dk_at dksX2_cut_2 0 rfl rfl)
theorem dX2_cut_49 : decode cX2_cut 49 = .ok (.getfield 41, 3) := dk_180 0 41 (dk_at dksX2_cut_2 1 rfl rfl)
theorem dX2_cut_52 : decode cX2_cut 52 = .ok (.iload_n 1, 1) := dk_27 (dk_at dksX2_cut_2 4 rfl rfl)
theorem dX2_cut_53 : decode cX2_cut 53 = .ok (.iaload, 1) := dk_46 (dk_at dksX2_cut_2 5 rfl rfl)
theorem dX2_cut_54 : decode cX2_cut 54 = .ok (.if_icmp .ge 41, 3) := dk_162 0 41 (dk_at dksX2_cut_2 6 rfl rfl)
theorem dX2_cut_57 : decode cX2_cut 57 = .ok (.aload_n 0, 1) := dk_42 (dk_at dksX2_cut_2 9 rfl rfl)
theorem dX2_cut_58 : decode cX2_cut 58 = .ok (.iload_n 1, 1) := dk_27 (dk_at dksX2_cut_2 10 rfl rfl)
theorem dX2_cut_59 : decode cX2_cut 59 = .ok (.iload_n 3, 1) := dk_29 (dk_at dksX2_cut_2 11 rfl rfl)
theorem dX2_cut_60 : decode cX2_cut 60 = .ok (.aload_n 0, 1) := dk_42 (dk_at dksX2_cut_2 12 rfl rfl)
theorem dX2_cut_61 : decode cX2_cut 61 = .ok (.getfield 50, 3) := dk_180 0 50 (dk_at dksX2_cut_2 13 rfl rfl)
theorem dX2_cut_64 : decode cX2_cut 64 = .ok (.bipush 12, 2) := dk_16 12 (dk_at dksX2_cut_2 16 rfl rfl)
theorem dX2_cut_66 : decode cX2_cut 66 = .ok (.iload_n 1, 1) := dk_27 (dk_at dksX2_cut_2 18 rfl rfl)
theorem dX2_cut_67 : decode cX2_cut 67 = .ok (.imul, 1) := dk_104 (dk_at dksX2_cut_2 19 rfl rfl)
theorem dX2_cut_68 : decode cX2_cut 68 = .ok (.iload_n 3, 1) := dk_29 (dk_at dksX2_cut_2 20 rfl rfl)
theorem dX2_cut_69 : decode cX2_cut 69 = .ok (.iadd, 1) := dk_96 (dk_at dksX2_cut_2 21 rfl rfl)
theorem dX2_cut_70 : decode cX2_cut 70 = .ok (.iconst 1, 1) := dk_4 (dk_at dksX2_cut_2 22 rfl rfl)
theorem dX2_cut_71 : decode cX2_cut 71 = .ok (.iadd, 1) := dk_96 (dk_at dksX2_cut_2 23 rfl rfl)
theorem dX2_cut_72 : decode cX2_cut 72 = .ok (.iaload, 1) := dk_46 (dk_at dksX2_cut_3 0 rfl rfl)
theorem dX2_cut_73 : decode cX2_cut 73 = .ok (.aload_n 0, 1) := dk_42 (dk_at dksX2_cut_3 1 rfl rfl)
theorem dX2_cut_74 : decode cX2_cut 74 = .ok (.getfield 53, 3) := dk_180 0 53 (dk_at dksX2_cut_3 2 rfl rfl)
theorem dX2_cut_77 : decode cX2_cut 77 = .ok (.bipush 12, 2) := dk_16 12 (dk_at dksX2_cut_3 5 rfl rfl)
theorem dX2_cut_79 : decode cX2_cut 79 = .ok (.iload_n 1, 1) := dk_27 (dk_at dksX2_cut_3 7 rfl rfl)
theorem dX2_cut_80 : decode cX2_cut 80 = .ok (.imul, 1) := dk_104 (dk_at dksX2_cut_3 8 rfl rfl)
theorem dX2_cut_81 : decode cX2_cut 81 = .ok (.iload_n 3, 1) := dk_29 (dk_at dksX2_cut_3 9 rfl rfl)
theorem dX2_cut_82 : decode cX2_cut 82 = .ok (.iadd, 1) := dk_96 (dk_at dksX2_cut_3 10 rfl rfl)
theorem dX2_cut_83 : decode cX2_cut 83 = .ok (.iconst 1, 1) := dk_4 (dk_at dksX2_cut_3 11 rfl rfl)
theorem dX2_cut_84 : decode cX2_cut 84 = .ok (.iadd, 1) := dk_96 (dk_at dksX2_cut_3 12 rfl rfl)
theorem dX2_cut_85 : decode cX2_cut 85 = .ok (.iaload, 1) := dk_46 (dk_at dksX2_cut_3 13 rfl rfl)
theorem dX2_cut_86 : decode cX2_cut 86 = .ok (.invokevirtual 236, 3) := dk_182 0 236 (dk_at dksX2_cut_3 14 rfl rfl)
theorem dX2_cut_89 : decode cX2_cut 89 = .ok (.iinc 3 1, 3) := dk_132 3 1 (dk_at dksX2_cut_3 17 rfl rfl)
theorem dX2_cut_92 : decode cX2_cut 92 = .ok (.goto (-47), 3) := dk_167 255 209 (dk_at dksX2_cut_3 20 rfl rfl)
theorem dX2_cut_95 : decode cX2_cut 95 = .ok (.aload_n 0, 1) := dk_42 (dk_at dksX2_cut_3 23 rfl rfl)
theorem dX2_cut_96 : decode cX2_cut 96 = .ok (.getfield 44, 3) := dk_180 0 44 (dk_at dksX2_cut_4 0 rfl rfl)
theorem dX2_cut_99 : decode cX2_cut 99 = .ok (.iload_n 1, 1) := dk_27 (dk_at dksX2_cut_4 3 rfl rfl)
theorem dX2_cut_100 : decode cX2_cut 100 = .ok (.dup2, 1) := dk_92 (dk_at dksX2_cut_4 4 rfl rfl)
theorem dX2_cut_101 : decode cX2_cut 101 = .ok (.iaload, 1) := dk_46 (dk_at dksX2_cut_4 5 rfl rfl)
theorem dX2_cut_102 : decode cX2_cut 102 = .ok (.iload_n 2, 1) := dk_28 (dk_at dksX2_cut_4 6 rfl rfl)
theorem dX2_cut_103 : decode cX2_cut 103 = .ok (.aload_n 0, 1) := dk_42 (dk_at dksX2_cut_4 7 rfl rfl)
theorem dX2_cut_104 : decode cX2_cut 104 = .ok (.getfield 44, 3) := dk_180 0 44 (dk_at dksX2_cut_4 8 rfl rfl)
theorem dX2_cut_107 : decode cX2_cut 107 = .ok (.iload_n 1, 1) := dk_27 (dk_at dksX2_cut_4 11 rfl rfl)
theorem dX2_cut_108 : decode cX2_cut 108 = .ok (.iaload, 1) := dk_46 (dk_at dksX2_cut_4 12 rfl rfl)
theorem dX2_cut_109 : decode cX2_cut 109 = .ok (.if_icmp .ge 7, 3) := dk_162 0 7 (dk_at dksX2_cut_4 13 rfl rfl)
theorem dX2_cut_112 : decode cX2_cut 112 = .ok (.iconst 1, 1) := dk_4 (dk_at dksX2_cut_4 16 rfl rfl)
theorem dX2_cut_113 : decode cX2_cut 113 = .ok (.goto 4, 3) := dk_167 0 4 (dk_at dksX2_cut_4 17 rfl rfl)
theorem dX2_cut_116 : decode cX2_cut 116 = .ok (.iconst 0, 1) := dk_3 (dk_at dksX2_cut_4 20 rfl rfl)
theorem dX2_cut_117 : decode cX2_cut 117 = .ok (.isub, 1) := dk_100 (dk_at dksX2_cut_4 21 rfl rfl)
theorem dX2_cut_118 : decode cX2_cut 118 = .ok (.iastore, 1) := dk_79 (dk_at dksX2_cut_4 22 rfl rfl)
theorem dX2_cut_119 : decode cX2_cut 119 = .ok (.aload_n 0, 1) := dk_42 (dk_at dksX2_cut_4 23 rfl rfl)
theorem dX2_cut_120 : decode cX2_cut 120 = .ok (.getfield 41, 3) := dk_180 0 41 (dk_at dksX2_cut_5 0 rfl rfl)
theorem dX2_cut_123 : decode cX2_cut 123 = .ok (.iload_n 1, 1) := dk_27 (dk_at dksX2_cut_5 3 rfl rfl)
theorem dX2_cut_124 : decode cX2_cut 124 = .ok (.dup2, 1) := dk_92 (dk_at dksX2_cut_5 4 rfl rfl)
theorem dX2_cut_125 : decode cX2_cut 125 = .ok (.iaload, 1) := dk_46 (dk_at dksX2_cut_5 5 rfl rfl)
theorem dX2_cut_126 : decode cX2_cut 126 = .ok (.iconst 1, 1) := dk_4 (dk_at dksX2_cut_5 6 rfl rfl)
theorem dX2_cut_127 : decode cX2_cut 127 = .ok (.isub, 1) := dk_100 (dk_at dksX2_cut_5 7 rfl rfl)
theorem dX2_cut_128 : decode cX2_cut 128 = .ok (.iastore, 1) := dk_79 (dk_at dksX2_cut_5 8 rfl rfl)
theorem dX2_cut_129 : decode cX2_cut 129 = .ok (.aload_n 0, 1) := dk_42 (dk_at dksX2_cut_5 9 rfl rfl)
theorem dX2_cut_130 : decode cX2_cut 130 = .ok (.getfield 47, 3) := dk_180 0 47 (dk_at dksX2_cut_5 10 rfl rfl)
theorem dX2_cut_133 : decode cX2_cut 133 = .ok (.iload_n 1, 1) := dk_27 (dk_at dksX2_cut_5 13 rfl rfl)
theorem dX2_cut_134 : decode cX2_cut 134 = .ok (.iconst (-1), 1) := dk_2 (dk_at dksX2_cut_5 14 rfl rfl)
theorem dX2_cut_135 : decode cX2_cut 135 = .ok (.iastore, 1) := dk_79 (dk_at dksX2_cut_5 15 rfl rfl)
theorem dX2_cut_136 : decode cX2_cut 136 = .ok (.aload_n 0, 1) := dk_42 (dk_at dksX2_cut_5 16 rfl rfl)
theorem dX2_cut_137 : decode cX2_cut 137 = .ok (.getfield 41, 3) := dk_180 0 41 (dk_at dksX2_cut_5 17 rfl rfl)
theorem dX2_cut_140 : decode cX2_cut 140 = .ok (.iload_n 1, 1) := dk_27 (dk_at dksX2_cut_5 20 rfl rfl)
theorem dX2_cut_141 : decode cX2_cut 141 = .ok (.iaload, 1) := dk_46 (dk_at dksX2_cut_5 21 rfl rfl)
theorem dX2_cut_142 : decode cX2_cut 142 = .ok (.ireturn, 1) := dk_172 (dk_at dksX2_cut_5 22 rfl rfl)
abbrev cX2_rewind : ByteArray := prog_14_method_79_code
def yX2_rewind : MethodName := ⟨RX2, "rewind", "(I)I"⟩
def dkwX2_rewind_1 : List UInt8 := [180, 0, 44, 27, 46, 61, 42, 180, 0, 44, 27, 3, 79, 42, 180, 0, 47, 27, 2, 79, 28, 172]
abbrev dktX2_rewind_1 : List UInt8 := dkwX2_rewind_1 ++ []
def dkwX2_rewind_0 : List UInt8 := [27, 184, 0, 229, 154, 0, 6, 16, 254, 172, 42, 180, 0, 41, 27, 46, 2, 160, 0, 6, 16, 245, 172, 42]
abbrev dktX2_rewind_0 : List UInt8 := dkwX2_rewind_0 ++ dktX2_rewind_1
theorem dksX2_rewind_0 : cX2_rewind.data.toList.drop 0 = dktX2_rewind_0 := by decide +kernel
theorem dksX2_rewind_1 : cX2_rewind.data.toList.drop 24 = dktX2_rewind_1 := dk_seg dksX2_rewind_0 24 rfl rfl
theorem dX2_rewind_0 : decode cX2_rewind 0 = .ok (.iload_n 1, 1) := dk_27 (dk_at dksX2_rewind_0 0 rfl rfl)
theorem dX2_rewind_1 : decode cX2_rewind 1 = .ok (.invokestatic 229, 3) := dk_184 0 229 (dk_at dksX2_rewind_0 1 rfl rfl)
theorem dX2_rewind_4 : decode cX2_rewind 4 = .ok (.ifCond .ne 6, 3) := dk_154 0 6 (dk_at dksX2_rewind_0 4 rfl rfl)
theorem dX2_rewind_7 : decode cX2_rewind 7 = .ok (.bipush (-2), 2) := dk_16 254 (dk_at dksX2_rewind_0 7 rfl rfl)
theorem dX2_rewind_9 : decode cX2_rewind 9 = .ok (.ireturn, 1) := dk_172 (dk_at dksX2_rewind_0 9 rfl rfl)
theorem dX2_rewind_10 : decode cX2_rewind 10 = .ok (.aload_n 0, 1) := dk_42 (dk_at dksX2_rewind_0 10 rfl rfl)
theorem dX2_rewind_11 : decode cX2_rewind 11 = .ok (.getfield 41, 3) := dk_180 0 41 (dk_at dksX2_rewind_0 11 rfl rfl)
theorem dX2_rewind_14 : decode cX2_rewind 14 = .ok (.iload_n 1, 1) := dk_27 (dk_at dksX2_rewind_0 14 rfl rfl)
theorem dX2_rewind_15 : decode cX2_rewind 15 = .ok (.iaload, 1) := dk_46 (dk_at dksX2_rewind_0 15 rfl rfl)
theorem dX2_rewind_16 : decode cX2_rewind 16 = .ok (.iconst (-1), 1) := dk_2 (dk_at dksX2_rewind_0 16 rfl rfl)
theorem dX2_rewind_17 : decode cX2_rewind 17 = .ok (.if_icmp .ne 6, 3) := dk_160 0 6 (dk_at dksX2_rewind_0 17 rfl rfl)
theorem dX2_rewind_20 : decode cX2_rewind 20 = .ok (.bipush (-11), 2) := dk_16 245 (dk_at dksX2_rewind_0 20 rfl rfl)
theorem dX2_rewind_22 : decode cX2_rewind 22 = .ok (.ireturn, 1) := dk_172 (dk_at dksX2_rewind_0 22 rfl rfl)
theorem dX2_rewind_23 : decode cX2_rewind 23 = .ok (.aload_n 0, 1) := dk_42 (dk_at dksX2_rewind_0 23 rfl rfl)
theorem dX2_rewind_24 : decode cX2_rewind 24 = .ok (.getfield 44, 3) := dk_180 0 44 (dk_at dksX2_rewind_1 0 rfl rfl)
theorem dX2_rewind_27 : decode cX2_rewind 27 = .ok (.iload_n 1, 1) := dk_27 (dk_at dksX2_rewind_1 3 rfl rfl)
theorem dX2_rewind_28 : decode cX2_rewind 28 = .ok (.iaload, 1) := dk_46 (dk_at dksX2_rewind_1 4 rfl rfl)
theorem dX2_rewind_29 : decode cX2_rewind 29 = .ok (.istore_n 2, 1) := dk_61 (dk_at dksX2_rewind_1 5 rfl rfl)
theorem dX2_rewind_30 : decode cX2_rewind 30 = .ok (.aload_n 0, 1) := dk_42 (dk_at dksX2_rewind_1 6 rfl rfl)
theorem dX2_rewind_31 : decode cX2_rewind 31 = .ok (.getfield 44, 3) := dk_180 0 44 (dk_at dksX2_rewind_1 7 rfl rfl)
theorem dX2_rewind_34 : decode cX2_rewind 34 = .ok (.iload_n 1, 1) := dk_27 (dk_at dksX2_rewind_1 10 rfl rfl)
theorem dX2_rewind_35 : decode cX2_rewind 35 = .ok (.iconst 0, 1) := dk_3 (dk_at dksX2_rewind_1 11 rfl rfl)
theorem dX2_rewind_36 : decode cX2_rewind 36 = .ok (.iastore, 1) := dk_79 (dk_at dksX2_rewind_1 12 rfl rfl)
theorem dX2_rewind_37 : decode cX2_rewind 37 = .ok (.aload_n 0, 1) := dk_42 (dk_at dksX2_rewind_1 13 rfl rfl)
theorem dX2_rewind_38 : decode cX2_rewind 38 = .ok (.getfield 47, 3) := dk_180 0 47 (dk_at dksX2_rewind_1 14 rfl rfl)
theorem dX2_rewind_41 : decode cX2_rewind 41 = .ok (.iload_n 1, 1) := dk_27 (dk_at dksX2_rewind_1 17 rfl rfl)
theorem dX2_rewind_42 : decode cX2_rewind 42 = .ok (.iconst (-1), 1) := dk_2 (dk_at dksX2_rewind_1 18 rfl rfl)
theorem dX2_rewind_43 : decode cX2_rewind 43 = .ok (.iastore, 1) := dk_79 (dk_at dksX2_rewind_1 19 rfl rfl)
theorem dX2_rewind_44 : decode cX2_rewind 44 = .ok (.iload_n 2, 1) := dk_28 (dk_at dksX2_rewind_1 20 rfl rfl)
theorem dX2_rewind_45 : decode cX2_rewind 45 = .ok (.ireturn, 1) := dk_172 (dk_at dksX2_rewind_1 21 rfl rfl)
abbrev cX2_drop : ByteArray := prog_14_method_80_code
def yX2_drop : MethodName := ⟨RX2, "drop", "(I)I"⟩
def dkwX2_drop_1 : List UInt8 := [180, 0, 41, 27, 46, 61, 42, 180, 0, 41, 27, 2, 79, 42, 180, 0, 47, 27, 2, 79, 28, 172]
abbrev dktX2_drop_1 : List UInt8 := dkwX2_drop_1 ++ []
def dkwX2_drop_0 : List UInt8 := [27, 184, 0, 229, 154, 0, 6, 16, 254, 172, 42, 180, 0, 41, 27, 46, 2, 160, 0, 6, 16, 245, 172, 42]
abbrev dktX2_drop_0 : List UInt8 := dkwX2_drop_0 ++ dktX2_drop_1
theorem dksX2_drop_0 : cX2_drop.data.toList.drop 0 = dktX2_drop_0 := by decide +kernel
theorem dksX2_drop_1 : cX2_drop.data.toList.drop 24 = dktX2_drop_1 := dk_seg dksX2_drop_0 24 rfl rfl
theorem dX2_drop_0 : decode cX2_drop 0 = .ok (.iload_n 1, 1) := dk_27 (dk_at dksX2_drop_0 0 rfl rfl)
theorem dX2_drop_1 : decode cX2_drop 1 = .ok (.invokestatic 229, 3) := dk_184 0 229 (dk_at dksX2_drop_0 1 rfl rfl)
theorem dX2_drop_4 : decode cX2_drop 4 = .ok (.ifCond .ne 6, 3) := dk_154 0 6 (dk_at dksX2_drop_0 4 rfl rfl)
theorem dX2_drop_7 : decode cX2_drop 7 = .ok (.bipush (-2), 2) := dk_16 254 (dk_at dksX2_drop_0 7 rfl rfl)
theorem dX2_drop_9 : decode cX2_drop 9 = .ok (.ireturn, 1) := dk_172 (dk_at dksX2_drop_0 9 rfl rfl)
theorem dX2_drop_10 : decode cX2_drop 10 = .ok (.aload_n 0, 1) := dk_42 (dk_at dksX2_drop_0 10 rfl rfl)
theorem dX2_drop_11 : decode cX2_drop 11 = .ok (.getfield 41, 3) := dk_180 0 41 (dk_at dksX2_drop_0 11 rfl rfl)
theorem dX2_drop_14 : decode cX2_drop 14 = .ok (.iload_n 1, 1) := dk_27 (dk_at dksX2_drop_0 14 rfl rfl)
theorem dX2_drop_15 : decode cX2_drop 15 = .ok (.iaload, 1) := dk_46 (dk_at dksX2_drop_0 15 rfl rfl)
theorem dX2_drop_16 : decode cX2_drop 16 = .ok (.iconst (-1), 1) := dk_2 (dk_at dksX2_drop_0 16 rfl rfl)
theorem dX2_drop_17 : decode cX2_drop 17 = .ok (.if_icmp .ne 6, 3) := dk_160 0 6 (dk_at dksX2_drop_0 17 rfl rfl)
theorem dX2_drop_20 : decode cX2_drop 20 = .ok (.bipush (-11), 2) := dk_16 245 (dk_at dksX2_drop_0 20 rfl rfl)
theorem dX2_drop_22 : decode cX2_drop 22 = .ok (.ireturn, 1) := dk_172 (dk_at dksX2_drop_0 22 rfl rfl)
theorem dX2_drop_23 : decode cX2_drop 23 = .ok (.aload_n 0, 1) := dk_42 (dk_at dksX2_drop_0 23 rfl rfl)
theorem dX2_drop_24 : decode cX2_drop 24 = .ok (.getfield 41, 3) := dk_180 0 41 (dk_at dksX2_drop_1 0 rfl rfl)
theorem dX2_drop_27 : decode cX2_drop 27 = .ok (.iload_n 1, 1) := dk_27 (dk_at dksX2_drop_1 3 rfl rfl)
theorem dX2_drop_28 : decode cX2_drop 28 = .ok (.iaload, 1) := dk_46 (dk_at dksX2_drop_1 4 rfl rfl)
theorem dX2_drop_29 : decode cX2_drop 29 = .ok (.istore_n 2, 1) := dk_61 (dk_at dksX2_drop_1 5 rfl rfl)
theorem dX2_drop_30 : decode cX2_drop 30 = .ok (.aload_n 0, 1) := dk_42 (dk_at dksX2_drop_1 6 rfl rfl)
theorem dX2_drop_31 : decode cX2_drop 31 = .ok (.getfield 41, 3) := dk_180 0 41 (dk_at dksX2_drop_1 7 rfl rfl)
theorem dX2_drop_34 : decode cX2_drop 34 = .ok (.iload_n 1, 1) := dk_27 (dk_at dksX2_drop_1 10 rfl rfl)
theorem dX2_drop_35 : decode cX2_drop 35 = .ok (.iconst (-1), 1) := dk_2 (dk_at dksX2_drop_1 11 rfl rfl)
theorem dX2_drop_36 : decode cX2_drop 36 = .ok (.iastore, 1) := dk_79 (dk_at dksX2_drop_1 12 rfl rfl)
theorem dX2_drop_37 : decode cX2_drop 37 = .ok (.aload_n 0, 1) := dk_42 (dk_at dksX2_drop_1 13 rfl rfl)
theorem dX2_drop_38 : decode cX2_drop 38 = .ok (.getfield 47, 3) := dk_180 0 47 (dk_at dksX2_drop_1 14 rfl rfl)
theorem dX2_drop_41 : decode cX2_drop 41 = .ok (.iload_n 1, 1) := dk_27 (dk_at dksX2_drop_1 17 rfl rfl)
theorem dX2_drop_42 : decode cX2_drop 42 = .ok (.iconst (-1), 1) := dk_2 (dk_at dksX2_drop_1 18 rfl rfl)
theorem dX2_drop_43 : decode cX2_drop 43 = .ok (.iastore, 1) := dk_79 (dk_at dksX2_drop_1 19 rfl rfl)
theorem dX2_drop_44 : decode cX2_drop 44 = .ok (.iload_n 2, 1) := dk_28 (dk_at dksX2_drop_1 20 rfl rfl)
theorem dX2_drop_45 : decode cX2_drop 45 = .ok (.ireturn, 1) := dk_172 (dk_at dksX2_drop_1 21 rfl rfl)
abbrev cX2_count : ByteArray := prog_14_method_83_code
def yX2_count : MethodName := ⟨RX2, "count", "(I)I"⟩
def dkwX2_count_4 : List UInt8 := [172, 42, 182, 0, 243, 172, 42, 180, 0, 146, 172, 42, 180, 0, 63, 172, 16, 253, 172]
abbrev dktX2_count_4 : List UInt8 := dkwX2_count_4 ++ []
def dkwX2_count_3 : List UInt8 := [180, 0, 19, 184, 0, 210, 172, 42, 182, 0, 240, 172, 42, 180, 0, 19, 184, 0, 163, 172, 42, 180, 0, 143]
abbrev dktX2_count_3 : List UInt8 := dkwX2_count_3 ++ dktX2_count_4
def dkwX2_count_2 : List UInt8 := [42, 180, 0, 19, 3, 46, 172, 42, 180, 0, 19, 4, 46, 172, 42, 180, 0, 19, 5, 46, 172, 42]
abbrev dktX2_count_2 : List UInt8 := dkwX2_count_2 ++ dktX2_count_3
def dkwX2_count_1 : List UInt8 := [170, 0, 0, 0, 0, 0, 117, 0, 0, 0, 0, 0, 0, 0, 9, 0, 0, 0, 55, 0, 0, 0, 62, 0, 0, 0, 69, 0, 0, 0, 76, 0, 0, 0, 84, 0, 0, 0, 89, 0, 0, 0, 97, 0, 0, 0, 102, 0, 0, 0, 107, 0, 0, 0, 112]
abbrev dktX2_count_1 : List UInt8 := dkwX2_count_1 ++ dktX2_count_2
def dkwX2_count_0 : List UInt8 := [27]
abbrev dktX2_count_0 : List UInt8 := dkwX2_count_0 ++ dktX2_count_1
theorem dksX2_count_0 : cX2_count.data.toList.drop 0 = dktX2_count_0 := by decide +kernel
theorem dksX2_count_1 : cX2_count.data.toList.drop 1 = dktX2_count_1 := dk_seg dksX2_count_0 1 rfl rfl
theorem dksX2_count_2 : cX2_count.data.toList.drop 56 = dktX2_count_2 := dk_seg dksX2_count_1 55 rfl rfl
theorem dksX2_count_3 : cX2_count.data.toList.drop 78 = dktX2_count_3 := dk_seg dksX2_count_2 22 rfl rfl
theorem dksX2_count_4 : cX2_count.data.toList.drop 102 = dktX2_count_4 := dk_seg dksX2_count_3 24 rfl rfl
theorem dX2_count_0 : decode cX2_count 0 = .ok (.iload_n 1, 1) := dk_27 (dk_at dksX2_count_0 0 rfl rfl)
theorem dX2_count_1 : decode cX2_count 1 = .ok (.tableswitch 117 0 9 #[55, 62, 69, 76, 84, 89, 97, 102, 107, 112], 55) := by decide +kernel
theorem dX2_count_56 : decode cX2_count 56 = .ok (.aload_n 0, 1) := dk_42 (dk_at dksX2_count_2 0 rfl rfl)
theorem dX2_count_57 : decode cX2_count 57 = .ok (.getfield 19, 3) := dk_180 0 19 (dk_at dksX2_count_2 1 rfl rfl)
theorem dX2_count_60 : decode cX2_count 60 = .ok (.iconst 0, 1) := dk_3 (dk_at dksX2_count_2 4 rfl rfl)
theorem dX2_count_61 : decode cX2_count 61 = .ok (.iaload, 1) := dk_46 (dk_at dksX2_count_2 5 rfl rfl)
theorem dX2_count_62 : decode cX2_count 62 = .ok (.ireturn, 1) := dk_172 (dk_at dksX2_count_2 6 rfl rfl)
theorem dX2_count_63 : decode cX2_count 63 = .ok (.aload_n 0, 1) := dk_42 (dk_at dksX2_count_2 7 rfl rfl)
theorem dX2_count_64 : decode cX2_count 64 = .ok (.getfield 19, 3) := dk_180 0 19 (dk_at dksX2_count_2 8 rfl rfl)
theorem dX2_count_67 : decode cX2_count 67 = .ok (.iconst 1, 1) := dk_4 (dk_at dksX2_count_2 11 rfl rfl)
theorem dX2_count_68 : decode cX2_count 68 = .ok (.iaload, 1) := dk_46 (dk_at dksX2_count_2 12 rfl rfl)
theorem dX2_count_69 : decode cX2_count 69 = .ok (.ireturn, 1) := dk_172 (dk_at dksX2_count_2 13 rfl rfl)
theorem dX2_count_70 : decode cX2_count 70 = .ok (.aload_n 0, 1) := dk_42 (dk_at dksX2_count_2 14 rfl rfl)
theorem dX2_count_71 : decode cX2_count 71 = .ok (.getfield 19, 3) := dk_180 0 19 (dk_at dksX2_count_2 15 rfl rfl)
theorem dX2_count_74 : decode cX2_count 74 = .ok (.iconst 2, 1) := dk_5 (dk_at dksX2_count_2 18 rfl rfl)
theorem dX2_count_75 : decode cX2_count 75 = .ok (.iaload, 1) := dk_46 (dk_at dksX2_count_2 19 rfl rfl)
theorem dX2_count_76 : decode cX2_count 76 = .ok (.ireturn, 1) := dk_172 (dk_at dksX2_count_2 20 rfl rfl)
theorem dX2_count_77 : decode cX2_count 77 = .ok (.aload_n 0, 1) := dk_42 (dk_at dksX2_count_2 21 rfl rfl)
theorem dX2_count_78 : decode cX2_count 78 = .ok (.getfield 19, 3) := dk_180 0 19 (dk_at dksX2_count_3 0 rfl rfl)
theorem dX2_count_81 : decode cX2_count 81 = .ok (.invokestatic 210, 3) := dk_184 0 210 (dk_at dksX2_count_3 3 rfl rfl)
theorem dX2_count_84 : decode cX2_count 84 = .ok (.ireturn, 1) := dk_172 (dk_at dksX2_count_3 6 rfl rfl)
theorem dX2_count_85 : decode cX2_count 85 = .ok (.aload_n 0, 1) := dk_42 (dk_at dksX2_count_3 7 rfl rfl)
theorem dX2_count_86 : decode cX2_count 86 = .ok (.invokevirtual 240, 3) := dk_182 0 240 (dk_at dksX2_count_3 8 rfl rfl)
theorem dX2_count_89 : decode cX2_count 89 = .ok (.ireturn, 1) := dk_172 (dk_at dksX2_count_3 11 rfl rfl)
theorem dX2_count_90 : decode cX2_count 90 = .ok (.aload_n 0, 1) := dk_42 (dk_at dksX2_count_3 12 rfl rfl)
theorem dX2_count_91 : decode cX2_count 91 = .ok (.getfield 19, 3) := dk_180 0 19 (dk_at dksX2_count_3 13 rfl rfl)
theorem dX2_count_94 : decode cX2_count 94 = .ok (.invokestatic 163, 3) := dk_184 0 163 (dk_at dksX2_count_3 16 rfl rfl)
theorem dX2_count_97 : decode cX2_count 97 = .ok (.ireturn, 1) := dk_172 (dk_at dksX2_count_3 19 rfl rfl)
theorem dX2_count_98 : decode cX2_count 98 = .ok (.aload_n 0, 1) := dk_42 (dk_at dksX2_count_3 20 rfl rfl)
theorem dX2_count_99 : decode cX2_count 99 = .ok (.getfield 143, 3) := dk_180 0 143 (dk_at dksX2_count_3 21 rfl rfl)
theorem dX2_count_102 : decode cX2_count 102 = .ok (.ireturn, 1) := dk_172 (dk_at dksX2_count_4 0 rfl rfl)
theorem dX2_count_103 : decode cX2_count 103 = .ok (.aload_n 0, 1) := dk_42 (dk_at dksX2_count_4 1 rfl rfl)
theorem dX2_count_104 : decode cX2_count 104 = .ok (.invokevirtual 243, 3) := dk_182 0 243 (dk_at dksX2_count_4 2 rfl rfl)
theorem dX2_count_107 : decode cX2_count 107 = .ok (.ireturn, 1) := dk_172 (dk_at dksX2_count_4 5 rfl rfl)
theorem dX2_count_108 : decode cX2_count 108 = .ok (.aload_n 0, 1) := dk_42 (dk_at dksX2_count_4 6 rfl rfl)
theorem dX2_count_109 : decode cX2_count 109 = .ok (.getfield 146, 3) := dk_180 0 146 (dk_at dksX2_count_4 7 rfl rfl)
theorem dX2_count_112 : decode cX2_count 112 = .ok (.ireturn, 1) := dk_172 (dk_at dksX2_count_4 10 rfl rfl)
theorem dX2_count_113 : decode cX2_count 113 = .ok (.aload_n 0, 1) := dk_42 (dk_at dksX2_count_4 11 rfl rfl)
theorem dX2_count_114 : decode cX2_count 114 = .ok (.getfield 63, 3) := dk_180 0 63 (dk_at dksX2_count_4 12 rfl rfl)
theorem dX2_count_117 : decode cX2_count 117 = .ok (.ireturn, 1) := dk_172 (dk_at dksX2_count_4 15 rfl rfl)
theorem dX2_count_118 : decode cX2_count 118 = .ok (.bipush (-3), 2) := dk_16 253 (dk_at dksX2_count_4 16 rfl rfl)
theorem dX2_count_120 : decode cX2_count 120 = .ok (.ireturn, 1) := dk_172 (dk_at dksX2_count_4 18 rfl rfl)
abbrev cX2_nutsOfAll : ByteArray := prog_14_method_81_code
def yX2_nutsOfAll : MethodName := ⟨RX2, "nutsOfAll", "()I"⟩
def dkwX2_nutsOfAll_1 : List UInt8 := [4, 96, 46, 96, 60, 132, 2, 1, 167, 255, 228, 27, 172]
abbrev dktX2_nutsOfAll_1 : List UInt8 := dkwX2_nutsOfAll_1 ++ []
def dkwX2_nutsOfAll_0 : List UInt8 := [3, 60, 3, 61, 28, 42, 180, 0, 19, 3, 46, 162, 0, 24, 27, 42, 180, 0, 19, 6, 5, 28, 104, 96]
abbrev dktX2_nutsOfAll_0 : List UInt8 := dkwX2_nutsOfAll_0 ++ dktX2_nutsOfAll_1
theorem dksX2_nutsOfAll_0 : cX2_nutsOfAll.data.toList.drop 0 = dktX2_nutsOfAll_0 := by decide +kernel
theorem dksX2_nutsOfAll_1 : cX2_nutsOfAll.data.toList.drop 24 = dktX2_nutsOfAll_1 := dk_seg dksX2_nutsOfAll_0 24 rfl rfl
theorem dX2_nutsOfAll_0 : decode cX2_nutsOfAll 0 = .ok (.iconst 0, 1) := dk_3 (dk_at dksX2_nutsOfAll_0 0 rfl rfl)
theorem dX2_nutsOfAll_1 : decode cX2_nutsOfAll 1 = .ok (.istore_n 1, 1) := dk_60 (dk_at dksX2_nutsOfAll_0 1 rfl rfl)
theorem dX2_nutsOfAll_2 : decode cX2_nutsOfAll 2 = .ok (.iconst 0, 1) := dk_3 (dk_at dksX2_nutsOfAll_0 2 rfl rfl)
theorem dX2_nutsOfAll_3 : decode cX2_nutsOfAll 3 = .ok (.istore_n 2, 1) := dk_61 (dk_at dksX2_nutsOfAll_0 3 rfl rfl)
theorem dX2_nutsOfAll_4 : decode cX2_nutsOfAll 4 = .ok (.iload_n 2, 1) := dk_28 (dk_at dksX2_nutsOfAll_0 4 rfl rfl)
theorem dX2_nutsOfAll_5 : decode cX2_nutsOfAll 5 = .ok (.aload_n 0, 1) := dk_42 (dk_at dksX2_nutsOfAll_0 5 rfl rfl)
theorem dX2_nutsOfAll_6 : decode cX2_nutsOfAll 6 = .ok (.getfield 19, 3) := dk_180 0 19 (dk_at dksX2_nutsOfAll_0 6 rfl rfl)
theorem dX2_nutsOfAll_9 : decode cX2_nutsOfAll 9 = .ok (.iconst 0, 1) := dk_3 (dk_at dksX2_nutsOfAll_0 9 rfl rfl)
theorem dX2_nutsOfAll_10 : decode cX2_nutsOfAll 10 = .ok (.iaload, 1) := dk_46 (dk_at dksX2_nutsOfAll_0 10 rfl rfl)
theorem dX2_nutsOfAll_11 : decode cX2_nutsOfAll 11 = .ok (.if_icmp .ge 24, 3) := dk_162 0 24 (dk_at dksX2_nutsOfAll_0 11 rfl rfl)
theorem dX2_nutsOfAll_14 : decode cX2_nutsOfAll 14 = .ok (.iload_n 1, 1) := dk_27 (dk_at dksX2_nutsOfAll_0 14 rfl rfl)
theorem dX2_nutsOfAll_15 : decode cX2_nutsOfAll 15 = .ok (.aload_n 0, 1) := dk_42 (dk_at dksX2_nutsOfAll_0 15 rfl rfl)
theorem dX2_nutsOfAll_16 : decode cX2_nutsOfAll 16 = .ok (.getfield 19, 3) := dk_180 0 19 (dk_at dksX2_nutsOfAll_0 16 rfl rfl)
theorem dX2_nutsOfAll_19 : decode cX2_nutsOfAll 19 = .ok (.iconst 3, 1) := dk_6 (dk_at dksX2_nutsOfAll_0 19 rfl rfl)
theorem dX2_nutsOfAll_20 : decode cX2_nutsOfAll 20 = .ok (.iconst 2, 1) := dk_5 (dk_at dksX2_nutsOfAll_0 20 rfl rfl)
theorem dX2_nutsOfAll_21 : decode cX2_nutsOfAll 21 = .ok (.iload_n 2, 1) := dk_28 (dk_at dksX2_nutsOfAll_0 21 rfl rfl)
theorem dX2_nutsOfAll_22 : decode cX2_nutsOfAll 22 = .ok (.imul, 1) := dk_104 (dk_at dksX2_nutsOfAll_0 22 rfl rfl)
theorem dX2_nutsOfAll_23 : decode cX2_nutsOfAll 23 = .ok (.iadd, 1) := dk_96 (dk_at dksX2_nutsOfAll_0 23 rfl rfl)
theorem dX2_nutsOfAll_24 : decode cX2_nutsOfAll 24 = .ok (.iconst 1, 1) := dk_4 (dk_at dksX2_nutsOfAll_1 0 rfl rfl)
theorem dX2_nutsOfAll_25 : decode cX2_nutsOfAll 25 = .ok (.iadd, 1) := dk_96 (dk_at dksX2_nutsOfAll_1 1 rfl rfl)
theorem dX2_nutsOfAll_26 : decode cX2_nutsOfAll 26 = .ok (.iaload, 1) := dk_46 (dk_at dksX2_nutsOfAll_1 2 rfl rfl)
theorem dX2_nutsOfAll_27 : decode cX2_nutsOfAll 27 = .ok (.iadd, 1) := dk_96 (dk_at dksX2_nutsOfAll_1 3 rfl rfl)
theorem dX2_nutsOfAll_28 : decode cX2_nutsOfAll 28 = .ok (.istore_n 1, 1) := dk_60 (dk_at dksX2_nutsOfAll_1 4 rfl rfl)
theorem dX2_nutsOfAll_29 : decode cX2_nutsOfAll 29 = .ok (.iinc 2 1, 3) := dk_132 2 1 (dk_at dksX2_nutsOfAll_1 5 rfl rfl)
theorem dX2_nutsOfAll_32 : decode cX2_nutsOfAll 32 = .ok (.goto (-28), 3) := dk_167 255 228 (dk_at dksX2_nutsOfAll_1 8 rfl rfl)
theorem dX2_nutsOfAll_35 : decode cX2_nutsOfAll 35 = .ok (.iload_n 1, 1) := dk_27 (dk_at dksX2_nutsOfAll_1 11 rfl rfl)
theorem dX2_nutsOfAll_36 : decode cX2_nutsOfAll 36 = .ok (.ireturn, 1) := dk_172 (dk_at dksX2_nutsOfAll_1 12 rfl rfl)
abbrev cX2_things : ByteArray := prog_14_method_82_code
def yX2_things : MethodName := ⟨RX2, "things", "()I"⟩
def dkwX2_things_1 : List UInt8 := [42, 180, 0, 41, 28, 46, 96, 60, 132, 2, 1, 167, 255, 225, 27, 172]
abbrev dktX2_things_1 : List UInt8 := dkwX2_things_1 ++ []
def dkwX2_things_0 : List UInt8 := [3, 60, 3, 61, 28, 6, 162, 0, 32, 27, 42, 180, 0, 41, 28, 46, 2, 160, 0, 7, 3, 167, 0, 9]
abbrev dktX2_things_0 : List UInt8 := dkwX2_things_0 ++ dktX2_things_1
theorem dksX2_things_0 : cX2_things.data.toList.drop 0 = dktX2_things_0 := by decide +kernel
theorem dksX2_things_1 : cX2_things.data.toList.drop 24 = dktX2_things_1 := dk_seg dksX2_things_0 24 rfl rfl
theorem dX2_things_0 : decode cX2_things 0 = .ok (.iconst 0, 1) := dk_3 (dk_at dksX2_things_0 0 rfl rfl)
theorem dX2_things_1 : decode cX2_things 1 = .ok (.istore_n 1, 1) := dk_60 (dk_at dksX2_things_0 1 rfl rfl)
theorem dX2_things_2 : decode cX2_things 2 = .ok (.iconst 0, 1) := dk_3 (dk_at dksX2_things_0 2 rfl rfl)
theorem dX2_things_3 : decode cX2_things 3 = .ok (.istore_n 2, 1) := dk_61 (dk_at dksX2_things_0 3 rfl rfl)
theorem dX2_things_4 : decode cX2_things 4 = .ok (.iload_n 2, 1) := dk_28 (dk_at dksX2_things_0 4 rfl rfl)
theorem dX2_things_5 : decode cX2_things 5 = .ok (.iconst 3, 1) := dk_6 (dk_at dksX2_things_0 5 rfl rfl)
theorem dX2_things_6 : decode cX2_things 6 = .ok (.if_icmp .ge 32, 3) := dk_162 0 32 (dk_at dksX2_things_0 6 rfl rfl)
theorem dX2_things_9 : decode cX2_things 9 = .ok (.iload_n 1, 1) := dk_27 (dk_at dksX2_things_0 9 rfl rfl)
theorem dX2_things_10 : decode cX2_things 10 = .ok (.aload_n 0, 1) := dk_42 (dk_at dksX2_things_0 10 rfl rfl)
theorem dX2_things_11 : decode cX2_things 11 = .ok (.getfield 41, 3) := dk_180 0 41 (dk_at dksX2_things_0 11 rfl rfl)
theorem dX2_things_14 : decode cX2_things 14 = .ok (.iload_n 2, 1) := dk_28 (dk_at dksX2_things_0 14 rfl rfl)
theorem dX2_things_15 : decode cX2_things 15 = .ok (.iaload, 1) := dk_46 (dk_at dksX2_things_0 15 rfl rfl)
theorem dX2_things_16 : decode cX2_things 16 = .ok (.iconst (-1), 1) := dk_2 (dk_at dksX2_things_0 16 rfl rfl)
theorem dX2_things_17 : decode cX2_things 17 = .ok (.if_icmp .ne 7, 3) := dk_160 0 7 (dk_at dksX2_things_0 17 rfl rfl)
theorem dX2_things_20 : decode cX2_things 20 = .ok (.iconst 0, 1) := dk_3 (dk_at dksX2_things_0 20 rfl rfl)
theorem dX2_things_21 : decode cX2_things 21 = .ok (.goto 9, 3) := dk_167 0 9 (dk_at dksX2_things_0 21 rfl rfl)
theorem dX2_things_24 : decode cX2_things 24 = .ok (.aload_n 0, 1) := dk_42 (dk_at dksX2_things_1 0 rfl rfl)
theorem dX2_things_25 : decode cX2_things 25 = .ok (.getfield 41, 3) := dk_180 0 41 (dk_at dksX2_things_1 1 rfl rfl)
theorem dX2_things_28 : decode cX2_things 28 = .ok (.iload_n 2, 1) := dk_28 (dk_at dksX2_things_1 4 rfl rfl)
theorem dX2_things_29 : decode cX2_things 29 = .ok (.iaload, 1) := dk_46 (dk_at dksX2_things_1 5 rfl rfl)
theorem dX2_things_30 : decode cX2_things 30 = .ok (.iadd, 1) := dk_96 (dk_at dksX2_things_1 6 rfl rfl)
theorem dX2_things_31 : decode cX2_things 31 = .ok (.istore_n 1, 1) := dk_60 (dk_at dksX2_things_1 7 rfl rfl)
theorem dX2_things_32 : decode cX2_things 32 = .ok (.iinc 2 1, 3) := dk_132 2 1 (dk_at dksX2_things_1 8 rfl rfl)
theorem dX2_things_35 : decode cX2_things 35 = .ok (.goto (-31), 3) := dk_167 255 225 (dk_at dksX2_things_1 11 rfl rfl)
theorem dX2_things_38 : decode cX2_things 38 = .ok (.iload_n 1, 1) := dk_27 (dk_at dksX2_things_1 14 rfl rfl)
theorem dX2_things_39 : decode cX2_things 39 = .ok (.ireturn, 1) := dk_172 (dk_at dksX2_things_1 15 rfl rfl)
theorem q53 : (Jvm.Cond.initialized "NutCachesModel") ∈ lw_all := lw_g (lw_at lw_m1 5 rfl) rfl
theorem q619 : (Jvm.Cond.selects "NutCachesModel" ({ cls := "java/lang/Object", name := "equals", desc := "(Ljava/lang/Object;)Z" } : Jvm.MethodName) ({ cls := "java/lang/Object", name := "equals", desc := "(Ljava/lang/Object;)Z" } : Jvm.MethodName)) ∈ lw_all := lw_g (lw_at lw_m3 91 rfl) rfl
theorem q1432 : (Jvm.Cond.selects "NutCachesModel" ({ cls := "java/lang/Object", name := "getClass", desc := "()Ljava/lang/Class;" } : Jvm.MethodName) ({ cls := "java/lang/Object", name := "getClass", desc := "()Ljava/lang/Class;" } : Jvm.MethodName)) ∈ lw_all := lw_g (lw_at lw_m6 184 rfl) rfl
theorem q1789 : (Jvm.Cond.instantiable "NutCachesModel" (25 : Nat)) ∈ lw_all := lw_g (lw_at lw_m8 61 rfl) rfl
theorem q1791 : (Jvm.Cond.instanceMethod ({ cls := "NutCachesModel", name := "<init>", desc := "()V" } : Jvm.MethodName)) ∈ lw_all := lw_g (lw_at lw_m8 63 rfl) rfl
theorem q1792 : (Jvm.Cond.code ({ cls := "NutCachesModel", name := "<init>", desc := "()V" } : Jvm.MethodName) prog_14_method_1_code (1 : Nat) (Option.none : Option Jvm.ClassFile.FieldType)) ∈ lw_all := lw_g (lw_at lw_m8 64 rfl) rfl
theorem q1793 : (Jvm.Cond.methodLink "NutCachesModel" (1 : Nat) ({ cls := "java/lang/Object", name := "<init>", desc := "()V" } : Jvm.MethodName)) ∈ lw_all := lw_g (lw_at lw_m8 65 rfl) rfl
theorem q1794 : (Jvm.Cond.methodLink "NutCachesModel" (56 : Nat) ({ cls := "NutCachesModel", name := "misses", desc := "()V" } : Jvm.MethodName)) ∈ lw_all := lw_g (lw_at lw_m8 66 rfl) rfl
theorem q1795 : (Jvm.Cond.privateMethod ({ cls := "NutCachesModel", name := "misses", desc := "()V" } : Jvm.MethodName)) ∈ lw_tbl := lw_at lw_m8 67 rfl
theorem q1796 : (Jvm.Cond.instanceMethod ({ cls := "NutCachesModel", name := "misses", desc := "()V" } : Jvm.MethodName)) ∈ lw_all := lw_g (lw_at lw_m8 68 rfl) rfl
theorem q1797 : (Jvm.Cond.code ({ cls := "NutCachesModel", name := "misses", desc := "()V" } : Jvm.MethodName) prog_14_method_3_code (2 : Nat) (Option.none : Option Jvm.ClassFile.FieldType)) ∈ lw_all := lw_g (lw_at lw_m8 69 rfl) rfl
theorem q1798 : (Jvm.Cond.fieldLink "NutCachesModel" (7 : Nat) "NutCachesModel" "text" "[I") ∈ lw_all := lw_g (lw_at lw_m8 70 rfl) rfl
theorem q1799 : (Jvm.Cond.fieldLink "NutCachesModel" (63 : Nat) "NutCachesModel" "letters" "I") ∈ lw_all := lw_g (lw_at lw_m8 71 rfl) rfl
theorem q1800 : (Jvm.Cond.fieldLink "NutCachesModel" (67 : Nat) "NutCachesModel" "at" "I") ∈ lw_all := lw_g (lw_at lw_m8 72 rfl) rfl
theorem q1801 : (Jvm.Cond.fieldLink "NutCachesModel" (74 : Nat) "NutCachesModel" "start" "I") ∈ lw_all := lw_g (lw_at lw_m8 73 rfl) rfl
theorem q1802 : (Jvm.Cond.fieldLink "NutCachesModel" (90 : Nat) "NutCachesModel" "token" "I") ∈ lw_all := lw_g (lw_at lw_m8 74 rfl) rfl
theorem q1803 : (Jvm.Cond.fieldLink "NutCachesModel" (77 : Nat) "NutCachesModel" "length" "I") ∈ lw_all := lw_g (lw_at lw_m8 75 rfl) rfl
theorem q1804 : (Jvm.Cond.fieldLink "NutCachesModel" (80 : Nat) "NutCachesModel" "value" "I") ∈ lw_all := lw_g (lw_at lw_m8 76 rfl) rfl
theorem q1805 : (Jvm.Cond.fieldLink "NutCachesModel" (93 : Nat) "NutCachesModel" "wrong" "I") ∈ lw_all := lw_g (lw_at lw_m8 77 rfl) rfl
theorem q1806 : (Jvm.Cond.fieldLink "NutCachesModel" (134 : Nat) "NutCachesModel" "clauses" "I") ∈ lw_all := lw_g (lw_at lw_m8 78 rfl) rfl
theorem q1807 : (Jvm.Cond.fieldLink "NutCachesModel" (13 : Nat) "NutCachesModel" "told" "[I") ∈ lw_all := lw_g (lw_at lw_m8 79 rfl) rfl
theorem q1808 : (Jvm.Cond.fieldLink "NutCachesModel" (16 : Nat) "NutCachesModel" "draft" "[I") ∈ lw_all := lw_g (lw_at lw_m8 80 rfl) rfl
theorem q1809 : (Jvm.Cond.fieldLink "NutCachesModel" (19 : Nat) "NutCachesModel" "now" "[I") ∈ lw_all := lw_g (lw_at lw_m8 81 rfl) rfl
theorem q1810 : (Jvm.Cond.fieldLink "NutCachesModel" (22 : Nat) "NutCachesModel" "tried" "[I") ∈ lw_all := lw_g (lw_at lw_m8 82 rfl) rfl
theorem q1811 : (Jvm.Cond.fieldLink "NutCachesModel" (25 : Nat) "NutCachesModel" "past" "[I") ∈ lw_all := lw_g (lw_at lw_m8 83 rfl) rfl
theorem q1812 : (Jvm.Cond.fieldLink "NutCachesModel" (146 : Nat) "NutCachesModel" "undos" "I") ∈ lw_all := lw_g (lw_at lw_m8 84 rfl) rfl
theorem q1813 : (Jvm.Cond.fieldLink "NutCachesModel" (28 : Nat) "NutCachesModel" "kept" "[I") ∈ lw_all := lw_g (lw_at lw_m8 85 rfl) rfl
theorem q1814 : (Jvm.Cond.fieldLink "NutCachesModel" (31 : Nat) "NutCachesModel" "isKept" "[Z") ∈ lw_all := lw_g (lw_at lw_m8 86 rfl) rfl
theorem q1815 : (Jvm.Cond.fieldLink "NutCachesModel" (35 : Nat) "NutCachesModel" "ate" "[I") ∈ lw_all := lw_g (lw_at lw_m8 87 rfl) rfl
theorem q1816 : (Jvm.Cond.fieldLink "NutCachesModel" (38 : Nat) "NutCachesModel" "sight" "[I") ∈ lw_all := lw_g (lw_at lw_m8 88 rfl) rfl
theorem q1817 : (Jvm.Cond.fieldLink "NutCachesModel" (143 : Nat) "NutCachesModel" "sights" "I") ∈ lw_all := lw_g (lw_at lw_m8 89 rfl) rfl
theorem q1818 : (Jvm.Cond.fieldLink "NutCachesModel" (41 : Nat) "NutCachesModel" "many" "[I") ∈ lw_all := lw_g (lw_at lw_m8 90 rfl) rfl
theorem q1819 : (Jvm.Cond.fieldLink "NutCachesModel" (44 : Nat) "NutCachesModel" "hand" "[I") ∈ lw_all := lw_g (lw_at lw_m8 91 rfl) rfl
theorem q1820 : (Jvm.Cond.fieldLink "NutCachesModel" (47 : Nat) "NutCachesModel" "came" "[I") ∈ lw_all := lw_g (lw_at lw_m8 92 rfl) rfl
theorem q1821 : (Jvm.Cond.fieldLink "NutCachesModel" (50 : Nat) "NutCachesModel" "sort" "[I") ∈ lw_all := lw_g (lw_at lw_m8 93 rfl) rfl
theorem q1822 : (Jvm.Cond.fieldLink "NutCachesModel" (53 : Nat) "NutCachesModel" "thing" "[I") ∈ lw_all := lw_g (lw_at lw_m8 94 rfl) rfl
theorem q1823 : (Jvm.Cond.laysFinal "NutCachesModel" "NutCachesModel" "text" "[I") ∈ lw_all := lw_g (lw_at lw_m8 95 rfl) rfl
theorem q1824 : (Jvm.Cond.soleField "NutCachesModel" "text") ∈ lw_all := lw_g (lw_at lw_m8 96 rfl) rfl
theorem q1825 : (Jvm.Cond.lays "NutCachesModel" "NutCachesModel" "letters" "I") ∈ lw_all := lw_g (lw_at lw_m8 97 rfl) rfl
theorem q1826 : (Jvm.Cond.soleField "NutCachesModel" "letters") ∈ lw_all := lw_g (lw_at lw_m8 98 rfl) rfl
theorem q1827 : (Jvm.Cond.lays "NutCachesModel" "NutCachesModel" "at" "I") ∈ lw_all := lw_g (lw_at lw_m8 99 rfl) rfl
theorem q1828 : (Jvm.Cond.soleField "NutCachesModel" "at") ∈ lw_all := lw_g (lw_at lw_m8 100 rfl) rfl
theorem q1829 : (Jvm.Cond.lays "NutCachesModel" "NutCachesModel" "start" "I") ∈ lw_all := lw_g (lw_at lw_m8 101 rfl) rfl
theorem q1830 : (Jvm.Cond.soleField "NutCachesModel" "start") ∈ lw_all := lw_g (lw_at lw_m8 102 rfl) rfl
theorem q1831 : (Jvm.Cond.lays "NutCachesModel" "NutCachesModel" "token" "I") ∈ lw_all := lw_g (lw_at lw_m8 103 rfl) rfl
theorem q1832 : (Jvm.Cond.soleField "NutCachesModel" "token") ∈ lw_all := lw_g (lw_at lw_m8 104 rfl) rfl
theorem q1833 : (Jvm.Cond.lays "NutCachesModel" "NutCachesModel" "length" "I") ∈ lw_all := lw_g (lw_at lw_m8 105 rfl) rfl
theorem q1834 : (Jvm.Cond.soleField "NutCachesModel" "length") ∈ lw_all := lw_g (lw_at lw_m8 106 rfl) rfl
theorem q1835 : (Jvm.Cond.lays "NutCachesModel" "NutCachesModel" "value" "I") ∈ lw_all := lw_g (lw_at lw_m8 107 rfl) rfl
theorem q1836 : (Jvm.Cond.soleField "NutCachesModel" "value") ∈ lw_all := lw_g (lw_at lw_m8 108 rfl) rfl
theorem q1837 : (Jvm.Cond.lays "NutCachesModel" "NutCachesModel" "wrong" "I") ∈ lw_all := lw_g (lw_at lw_m8 109 rfl) rfl
theorem q1838 : (Jvm.Cond.soleField "NutCachesModel" "wrong") ∈ lw_all := lw_g (lw_at lw_m8 110 rfl) rfl
theorem q1839 : (Jvm.Cond.lays "NutCachesModel" "NutCachesModel" "clauses" "I") ∈ lw_all := lw_g (lw_at lw_m8 111 rfl) rfl
theorem q1840 : (Jvm.Cond.soleField "NutCachesModel" "clauses") ∈ lw_all := lw_g (lw_at lw_m8 112 rfl) rfl
theorem q1841 : (Jvm.Cond.laysFinal "NutCachesModel" "NutCachesModel" "told" "[I") ∈ lw_all := lw_g (lw_at lw_m8 113 rfl) rfl
theorem q1842 : (Jvm.Cond.soleField "NutCachesModel" "told") ∈ lw_all := lw_g (lw_at lw_m8 114 rfl) rfl
theorem q1843 : (Jvm.Cond.laysFinal "NutCachesModel" "NutCachesModel" "draft" "[I") ∈ lw_all := lw_g (lw_at lw_m8 115 rfl) rfl
theorem q1844 : (Jvm.Cond.soleField "NutCachesModel" "draft") ∈ lw_all := lw_g (lw_at lw_m8 116 rfl) rfl
theorem q1845 : (Jvm.Cond.laysFinal "NutCachesModel" "NutCachesModel" "now" "[I") ∈ lw_all := lw_g (lw_at lw_m8 117 rfl) rfl
theorem q1846 : (Jvm.Cond.soleField "NutCachesModel" "now") ∈ lw_all := lw_g (lw_at lw_m8 118 rfl) rfl
theorem q1847 : (Jvm.Cond.laysFinal "NutCachesModel" "NutCachesModel" "tried" "[I") ∈ lw_all := lw_g (lw_at lw_m8 119 rfl) rfl
theorem q1848 : (Jvm.Cond.soleField "NutCachesModel" "tried") ∈ lw_all := lw_g (lw_at lw_m8 120 rfl) rfl
theorem q1849 : (Jvm.Cond.laysFinal "NutCachesModel" "NutCachesModel" "past" "[I") ∈ lw_all := lw_g (lw_at lw_m8 121 rfl) rfl
theorem q1850 : (Jvm.Cond.soleField "NutCachesModel" "past") ∈ lw_all := lw_g (lw_at lw_m8 122 rfl) rfl
theorem q1851 : (Jvm.Cond.lays "NutCachesModel" "NutCachesModel" "undos" "I") ∈ lw_all := lw_g (lw_at lw_m8 123 rfl) rfl
theorem q1852 : (Jvm.Cond.soleField "NutCachesModel" "undos") ∈ lw_all := lw_g (lw_at lw_m8 124 rfl) rfl
theorem q1853 : (Jvm.Cond.laysFinal "NutCachesModel" "NutCachesModel" "kept" "[I") ∈ lw_all := lw_g (lw_at lw_m8 125 rfl) rfl
theorem q1854 : (Jvm.Cond.soleField "NutCachesModel" "kept") ∈ lw_all := lw_g (lw_at lw_m8 126 rfl) rfl
theorem q1855 : (Jvm.Cond.laysFinal "NutCachesModel" "NutCachesModel" "isKept" "[Z") ∈ lw_all := lw_g (lw_at lw_m8 127 rfl) rfl
theorem q1856 : (Jvm.Cond.soleField "NutCachesModel" "isKept") ∈ lw_all := lw_g (lw_at lw_m8 128 rfl) rfl
theorem q1857 : (Jvm.Cond.laysFinal "NutCachesModel" "NutCachesModel" "ate" "[I") ∈ lw_all := lw_g (lw_at lw_m8 129 rfl) rfl
theorem q1858 : (Jvm.Cond.soleField "NutCachesModel" "ate") ∈ lw_all := lw_g (lw_at lw_m8 130 rfl) rfl
theorem q1859 : (Jvm.Cond.laysFinal "NutCachesModel" "NutCachesModel" "sight" "[I") ∈ lw_all := lw_g (lw_at lw_m8 131 rfl) rfl
theorem q1860 : (Jvm.Cond.soleField "NutCachesModel" "sight") ∈ lw_all := lw_g (lw_at lw_m8 132 rfl) rfl
theorem q1861 : (Jvm.Cond.lays "NutCachesModel" "NutCachesModel" "sights" "I") ∈ lw_all := lw_g (lw_at lw_m8 133 rfl) rfl
theorem q1862 : (Jvm.Cond.soleField "NutCachesModel" "sights") ∈ lw_all := lw_g (lw_at lw_m8 134 rfl) rfl
theorem q1863 : (Jvm.Cond.laysFinal "NutCachesModel" "NutCachesModel" "many" "[I") ∈ lw_all := lw_g (lw_at lw_m8 135 rfl) rfl
theorem q1864 : (Jvm.Cond.soleField "NutCachesModel" "many") ∈ lw_all := lw_g (lw_at lw_m8 136 rfl) rfl
theorem q1865 : (Jvm.Cond.laysFinal "NutCachesModel" "NutCachesModel" "hand" "[I") ∈ lw_all := lw_g (lw_at lw_m8 137 rfl) rfl
theorem q1866 : (Jvm.Cond.soleField "NutCachesModel" "hand") ∈ lw_all := lw_g (lw_at lw_m8 138 rfl) rfl
theorem q1867 : (Jvm.Cond.laysFinal "NutCachesModel" "NutCachesModel" "came" "[I") ∈ lw_all := lw_g (lw_at lw_m8 139 rfl) rfl
theorem q1868 : (Jvm.Cond.soleField "NutCachesModel" "came") ∈ lw_all := lw_g (lw_at lw_m8 140 rfl) rfl
theorem q1869 : (Jvm.Cond.laysFinal "NutCachesModel" "NutCachesModel" "sort" "[I") ∈ lw_all := lw_g (lw_at lw_m8 141 rfl) rfl
theorem q1870 : (Jvm.Cond.soleField "NutCachesModel" "sort") ∈ lw_all := lw_g (lw_at lw_m8 142 rfl) rfl
theorem q1871 : (Jvm.Cond.laysFinal "NutCachesModel" "NutCachesModel" "thing" "[I") ∈ lw_all := lw_g (lw_at lw_m8 143 rfl) rfl
theorem q1872 : (Jvm.Cond.soleField "NutCachesModel" "thing") ∈ lw_all := lw_g (lw_at lw_m8 144 rfl) rfl
theorem q1873 : (Jvm.Cond.superclass "NutCachesModel" "java/lang/Object") ∈ lw_all := lw_g (lw_at lw_m8 145 rfl) rfl
theorem q1876 : (Jvm.Cond.instanceMethod ({ cls := "NutCachesModel", name := "write", desc := "(I)I" } : Jvm.MethodName)) ∈ lw_all := lw_g (lw_at lw_m8 148 rfl) rfl
theorem q1877 : (Jvm.Cond.selects "NutCachesModel" ({ cls := "NutCachesModel", name := "write", desc := "(I)I" } : Jvm.MethodName) ({ cls := "NutCachesModel", name := "write", desc := "(I)I" } : Jvm.MethodName)) ∈ lw_all := lw_g (lw_at lw_m8 149 rfl) rfl
theorem q1878 : (Jvm.Cond.code ({ cls := "NutCachesModel", name := "write", desc := "(I)I" } : Jvm.MethodName) prog_14_method_10_code (2 : Nat) (Option.some Jvm.ClassFile.FieldType.int)) ∈ lw_all := lw_g (lw_at lw_m8 150 rfl) rfl
theorem q1879 : (Jvm.Cond.methodLink "NutCachesModel" (59 : Nat) ({ cls := "NutCachesModel", name := "in", desc := "(III)Z" } : Jvm.MethodName)) ∈ lw_all := lw_g (lw_at lw_m8 151 rfl) rfl
theorem q1880 : (Jvm.Cond.static ({ cls := "NutCachesModel", name := "in", desc := "(III)Z" } : Jvm.MethodName)) ∈ lw_all := lw_g (lw_at lw_m8 152 rfl) rfl
theorem q1881 : (Jvm.Cond.code ({ cls := "NutCachesModel", name := "in", desc := "(III)Z" } : Jvm.MethodName) prog_14_method_4_code (3 : Nat) (Option.some Jvm.ClassFile.FieldType.boolean)) ∈ lw_all := lw_g (lw_at lw_m8 153 rfl) rfl
theorem q1883 : (Jvm.Cond.instanceMethod ({ cls := "NutCachesModel", name := "erase", desc := "()I" } : Jvm.MethodName)) ∈ lw_all := lw_g (lw_at lw_m8 155 rfl) rfl
theorem q1884 : (Jvm.Cond.selects "NutCachesModel" ({ cls := "NutCachesModel", name := "erase", desc := "()I" } : Jvm.MethodName) ({ cls := "NutCachesModel", name := "erase", desc := "()I" } : Jvm.MethodName)) ∈ lw_all := lw_g (lw_at lw_m8 156 rfl) rfl
theorem q1885 : (Jvm.Cond.code ({ cls := "NutCachesModel", name := "erase", desc := "()I" } : Jvm.MethodName) prog_14_method_11_code (2 : Nat) (Option.some Jvm.ClassFile.FieldType.int)) ∈ lw_all := lw_g (lw_at lw_m8 157 rfl) rfl
theorem q1887 : (Jvm.Cond.instanceMethod ({ cls := "NutCachesModel", name := "fault", desc := "()I" } : Jvm.MethodName)) ∈ lw_all := lw_g (lw_at lw_m8 159 rfl) rfl
theorem q1888 : (Jvm.Cond.selects "NutCachesModel" ({ cls := "NutCachesModel", name := "fault", desc := "()I" } : Jvm.MethodName) ({ cls := "NutCachesModel", name := "fault", desc := "()I" } : Jvm.MethodName)) ∈ lw_all := lw_g (lw_at lw_m8 160 rfl) rfl
theorem q1889 : (Jvm.Cond.code ({ cls := "NutCachesModel", name := "fault", desc := "()I" } : Jvm.MethodName) prog_14_method_27_code (1 : Nat) (Option.some Jvm.ClassFile.FieldType.int)) ∈ lw_all := lw_g (lw_at lw_m8 161 rfl) rfl
theorem q1890 : (Jvm.Cond.methodLink "NutCachesModel" (140 : Nat) ({ cls := "NutCachesModel", name := "reads", desc := "()V" } : Jvm.MethodName)) ∈ lw_all := lw_g (lw_at lw_m8 162 rfl) rfl
theorem q1891 : (Jvm.Cond.privateMethod ({ cls := "NutCachesModel", name := "reads", desc := "()V" } : Jvm.MethodName)) ∈ lw_tbl := lw_at lw_m8 163 rfl
theorem q1892 : (Jvm.Cond.instanceMethod ({ cls := "NutCachesModel", name := "reads", desc := "()V" } : Jvm.MethodName)) ∈ lw_all := lw_g (lw_at lw_m8 164 rfl) rfl
theorem q1893 : (Jvm.Cond.code ({ cls := "NutCachesModel", name := "reads", desc := "()V" } : Jvm.MethodName) prog_14_method_26_code (1 : Nat) (Option.none : Option Jvm.ClassFile.FieldType)) ∈ lw_all := lw_g (lw_at lw_m8 165 rfl) rfl
theorem q1894 : (Jvm.Cond.methodLink "NutCachesModel" (130 : Nat) ({ cls := "NutCachesModel", name := "copies", desc := "([II[II)V" } : Jvm.MethodName)) ∈ lw_all := lw_g (lw_at lw_m8 166 rfl) rfl
theorem q1895 : (Jvm.Cond.static ({ cls := "NutCachesModel", name := "copies", desc := "([II[II)V" } : Jvm.MethodName)) ∈ lw_all := lw_g (lw_at lw_m8 167 rfl) rfl
theorem q1896 : (Jvm.Cond.code ({ cls := "NutCachesModel", name := "copies", desc := "([II[II)V" } : Jvm.MethodName) prog_14_method_9_code (5 : Nat) (Option.none : Option Jvm.ClassFile.FieldType)) ∈ lw_all := lw_g (lw_at lw_m8 168 rfl) rfl
theorem q1897 : (Jvm.Cond.methodLink "NutCachesModel" (100 : Nat) ({ cls := "NutCachesModel", name := "advances", desc := "()V" } : Jvm.MethodName)) ∈ lw_all := lw_g (lw_at lw_m8 169 rfl) rfl
theorem q1898 : (Jvm.Cond.privateMethod ({ cls := "NutCachesModel", name := "advances", desc := "()V" } : Jvm.MethodName)) ∈ lw_tbl := lw_at lw_m8 170 rfl
theorem q1899 : (Jvm.Cond.instanceMethod ({ cls := "NutCachesModel", name := "advances", desc := "()V" } : Jvm.MethodName)) ∈ lw_all := lw_g (lw_at lw_m8 171 rfl) rfl
theorem q1900 : (Jvm.Cond.code ({ cls := "NutCachesModel", name := "advances", desc := "()V" } : Jvm.MethodName) prog_14_method_15_code (2 : Nat) (Option.none : Option Jvm.ClassFile.FieldType)) ∈ lw_all := lw_g (lw_at lw_m8 172 rfl) rfl
theorem q1901 : (Jvm.Cond.methodLink "NutCachesModel" (70 : Nat) ({ cls := "NutCachesModel", name := "look", desc := "(I)I" } : Jvm.MethodName)) ∈ lw_all := lw_g (lw_at lw_m8 173 rfl) rfl
theorem q1902 : (Jvm.Cond.privateMethod ({ cls := "NutCachesModel", name := "look", desc := "(I)I" } : Jvm.MethodName)) ∈ lw_tbl := lw_at lw_m8 174 rfl
theorem q1903 : (Jvm.Cond.instanceMethod ({ cls := "NutCachesModel", name := "look", desc := "(I)I" } : Jvm.MethodName)) ∈ lw_all := lw_g (lw_at lw_m8 175 rfl) rfl
theorem q1904 : (Jvm.Cond.code ({ cls := "NutCachesModel", name := "look", desc := "(I)I" } : Jvm.MethodName) prog_14_method_14_code (2 : Nat) (Option.some Jvm.ClassFile.FieldType.int)) ∈ lw_all := lw_g (lw_at lw_m8 176 rfl) rfl
theorem q1905 : (Jvm.Cond.methodLink "NutCachesModel" (83 : Nat) ({ cls := "NutCachesModel", name := "isSmall", desc := "(I)Z" } : Jvm.MethodName)) ∈ lw_all := lw_g (lw_at lw_m8 177 rfl) rfl
theorem q1906 : (Jvm.Cond.static ({ cls := "NutCachesModel", name := "isSmall", desc := "(I)Z" } : Jvm.MethodName)) ∈ lw_all := lw_g (lw_at lw_m8 178 rfl) rfl
theorem q1907 : (Jvm.Cond.code ({ cls := "NutCachesModel", name := "isSmall", desc := "(I)Z" } : Jvm.MethodName) prog_14_method_12_code (1 : Nat) (Option.some Jvm.ClassFile.FieldType.boolean)) ∈ lw_all := lw_g (lw_at lw_m8 179 rfl) rfl
theorem q1908 : (Jvm.Cond.methodLink "NutCachesModel" (87 : Nat) ({ cls := "NutCachesModel", name := "isDigit", desc := "(I)Z" } : Jvm.MethodName)) ∈ lw_all := lw_g (lw_at lw_m8 180 rfl) rfl
theorem q1909 : (Jvm.Cond.static ({ cls := "NutCachesModel", name := "isDigit", desc := "(I)Z" } : Jvm.MethodName)) ∈ lw_all := lw_g (lw_at lw_m8 181 rfl) rfl
theorem q1910 : (Jvm.Cond.code ({ cls := "NutCachesModel", name := "isDigit", desc := "(I)Z" } : Jvm.MethodName) prog_14_method_13_code (1 : Nat) (Option.some Jvm.ClassFile.FieldType.boolean)) ∈ lw_all := lw_g (lw_at lw_m8 182 rfl) rfl
theorem q1911 : (Jvm.Cond.methodLink "NutCachesModel" (137 : Nat) ({ cls := "NutCachesModel", name := "clause", desc := "()V" } : Jvm.MethodName)) ∈ lw_all := lw_g (lw_at lw_m8 183 rfl) rfl
theorem q1912 : (Jvm.Cond.privateMethod ({ cls := "NutCachesModel", name := "clause", desc := "()V" } : Jvm.MethodName)) ∈ lw_tbl := lw_at lw_m8 184 rfl
theorem q1913 : (Jvm.Cond.instanceMethod ({ cls := "NutCachesModel", name := "clause", desc := "()V" } : Jvm.MethodName)) ∈ lw_all := lw_g (lw_at lw_m8 185 rfl) rfl
theorem q1914 : (Jvm.Cond.code ({ cls := "NutCachesModel", name := "clause", desc := "()V" } : Jvm.MethodName) prog_14_method_25_code (3 : Nat) (Option.none : Option Jvm.ClassFile.FieldType)) ∈ lw_all := lw_g (lw_at lw_m8 186 rfl) rfl
theorem q1915 : (Jvm.Cond.methodLink "NutCachesModel" (114 : Nat) ({ cls := "NutCachesModel", name := "kindOf", desc := "(I)I" } : Jvm.MethodName)) ∈ lw_all := lw_g (lw_at lw_m8 187 rfl) rfl
theorem q1916 : (Jvm.Cond.static ({ cls := "NutCachesModel", name := "kindOf", desc := "(I)I" } : Jvm.MethodName)) ∈ lw_all := lw_g (lw_at lw_m8 188 rfl) rfl
theorem q1917 : (Jvm.Cond.code ({ cls := "NutCachesModel", name := "kindOf", desc := "(I)I" } : Jvm.MethodName) prog_14_method_20_code (5 : Nat) (Option.some Jvm.ClassFile.FieldType.int)) ∈ lw_all := lw_g (lw_at lw_m8 189 rfl) rfl
theorem q1918 : (Jvm.Cond.methodLink "NutCachesModel" (103 : Nat) ({ cls := "NutCachesModel", name := "word", desc := "(III)I" } : Jvm.MethodName)) ∈ lw_all := lw_g (lw_at lw_m8 190 rfl) rfl
theorem q1919 : (Jvm.Cond.static ({ cls := "NutCachesModel", name := "word", desc := "(III)I" } : Jvm.MethodName)) ∈ lw_all := lw_g (lw_at lw_m8 191 rfl) rfl
theorem q1920 : (Jvm.Cond.code ({ cls := "NutCachesModel", name := "word", desc := "(III)I" } : Jvm.MethodName) prog_14_method_16_code (3 : Nat) (Option.some Jvm.ClassFile.FieldType.int)) ∈ lw_all := lw_g (lw_at lw_m8 192 rfl) rfl
theorem q1921 : (Jvm.Cond.methodLink "NutCachesModel" (107 : Nat) ({ cls := "NutCachesModel", name := "longer", desc := "(III)I" } : Jvm.MethodName)) ∈ lw_all := lw_g (lw_at lw_m8 193 rfl) rfl
theorem q1922 : (Jvm.Cond.static ({ cls := "NutCachesModel", name := "longer", desc := "(III)I" } : Jvm.MethodName)) ∈ lw_all := lw_g (lw_at lw_m8 194 rfl) rfl
theorem q1923 : (Jvm.Cond.code ({ cls := "NutCachesModel", name := "longer", desc := "(III)I" } : Jvm.MethodName) prog_14_method_17_code (3 : Nat) (Option.some Jvm.ClassFile.FieldType.int)) ∈ lw_all := lw_g (lw_at lw_m8 195 rfl) rfl
theorem q1924 : (Jvm.Cond.methodLink "NutCachesModel" (117 : Nat) ({ cls := "NutCachesModel", name := "tellsSquirrel", desc := "(I)V" } : Jvm.MethodName)) ∈ lw_all := lw_g (lw_at lw_m8 196 rfl) rfl
theorem q1925 : (Jvm.Cond.privateMethod ({ cls := "NutCachesModel", name := "tellsSquirrel", desc := "(I)V" } : Jvm.MethodName)) ∈ lw_tbl := lw_at lw_m8 197 rfl
theorem q1926 : (Jvm.Cond.instanceMethod ({ cls := "NutCachesModel", name := "tellsSquirrel", desc := "(I)V" } : Jvm.MethodName)) ∈ lw_all := lw_g (lw_at lw_m8 198 rfl) rfl
theorem q1927 : (Jvm.Cond.code ({ cls := "NutCachesModel", name := "tellsSquirrel", desc := "(I)V" } : Jvm.MethodName) prog_14_method_22_code (5 : Nat) (Option.none : Option Jvm.ClassFile.FieldType)) ∈ lw_all := lw_g (lw_at lw_m8 199 rfl) rfl
theorem q1928 : (Jvm.Cond.methodLink "NutCachesModel" (96 : Nat) ({ cls := "NutCachesModel", name := "fails", desc := "(Z)V" } : Jvm.MethodName)) ∈ lw_all := lw_g (lw_at lw_m8 200 rfl) rfl
theorem q1929 : (Jvm.Cond.privateMethod ({ cls := "NutCachesModel", name := "fails", desc := "(Z)V" } : Jvm.MethodName)) ∈ lw_tbl := lw_at lw_m8 201 rfl
theorem q1930 : (Jvm.Cond.instanceMethod ({ cls := "NutCachesModel", name := "fails", desc := "(Z)V" } : Jvm.MethodName)) ∈ lw_all := lw_g (lw_at lw_m8 202 rfl) rfl
theorem q1931 : (Jvm.Cond.code ({ cls := "NutCachesModel", name := "fails", desc := "(Z)V" } : Jvm.MethodName) prog_14_method_18_code (2 : Nat) (Option.none : Option Jvm.ClassFile.FieldType)) ∈ lw_all := lw_g (lw_at lw_m8 203 rfl) rfl
theorem q1932 : (Jvm.Cond.methodLink "NutCachesModel" (110 : Nat) ({ cls := "NutCachesModel", name := "figure", desc := "(II)I" } : Jvm.MethodName)) ∈ lw_all := lw_g (lw_at lw_m8 204 rfl) rfl
theorem q1933 : (Jvm.Cond.privateMethod ({ cls := "NutCachesModel", name := "figure", desc := "(II)I" } : Jvm.MethodName)) ∈ lw_tbl := lw_at lw_m8 205 rfl
theorem q1934 : (Jvm.Cond.instanceMethod ({ cls := "NutCachesModel", name := "figure", desc := "(II)I" } : Jvm.MethodName)) ∈ lw_all := lw_g (lw_at lw_m8 206 rfl) rfl
theorem q1935 : (Jvm.Cond.code ({ cls := "NutCachesModel", name := "figure", desc := "(II)I" } : Jvm.MethodName) prog_14_method_19_code (4 : Nat) (Option.some Jvm.ClassFile.FieldType.int)) ∈ lw_all := lw_g (lw_at lw_m8 207 rfl) rfl
theorem q1936 : (Jvm.Cond.methodLink "NutCachesModel" (121 : Nat) ({ cls := "NutCachesModel", name := "tellsPit", desc := "()V" } : Jvm.MethodName)) ∈ lw_all := lw_g (lw_at lw_m8 208 rfl) rfl
theorem q1937 : (Jvm.Cond.privateMethod ({ cls := "NutCachesModel", name := "tellsPit", desc := "()V" } : Jvm.MethodName)) ∈ lw_tbl := lw_at lw_m8 209 rfl
theorem q1938 : (Jvm.Cond.instanceMethod ({ cls := "NutCachesModel", name := "tellsPit", desc := "()V" } : Jvm.MethodName)) ∈ lw_all := lw_g (lw_at lw_m8 210 rfl) rfl
theorem q1939 : (Jvm.Cond.code ({ cls := "NutCachesModel", name := "tellsPit", desc := "()V" } : Jvm.MethodName) prog_14_method_21_code (4 : Nat) (Option.none : Option Jvm.ClassFile.FieldType)) ∈ lw_all := lw_g (lw_at lw_m8 211 rfl) rfl
theorem q1940 : (Jvm.Cond.methodLink "NutCachesModel" (124 : Nat) ({ cls := "NutCachesModel", name := "tellsKnown", desc := "()V" } : Jvm.MethodName)) ∈ lw_all := lw_g (lw_at lw_m8 212 rfl) rfl
theorem q1941 : (Jvm.Cond.privateMethod ({ cls := "NutCachesModel", name := "tellsKnown", desc := "()V" } : Jvm.MethodName)) ∈ lw_tbl := lw_at lw_m8 213 rfl
theorem q1942 : (Jvm.Cond.instanceMethod ({ cls := "NutCachesModel", name := "tellsKnown", desc := "()V" } : Jvm.MethodName)) ∈ lw_all := lw_g (lw_at lw_m8 214 rfl) rfl
theorem q1943 : (Jvm.Cond.code ({ cls := "NutCachesModel", name := "tellsKnown", desc := "()V" } : Jvm.MethodName) prog_14_method_23_code (3 : Nat) (Option.none : Option Jvm.ClassFile.FieldType)) ∈ lw_all := lw_g (lw_at lw_m8 215 rfl) rfl
theorem q1944 : (Jvm.Cond.methodLink "NutCachesModel" (127 : Nat) ({ cls := "NutCachesModel", name := "tellsNothing", desc := "()V" } : Jvm.MethodName)) ∈ lw_all := lw_g (lw_at lw_m8 216 rfl) rfl
theorem q1945 : (Jvm.Cond.privateMethod ({ cls := "NutCachesModel", name := "tellsNothing", desc := "()V" } : Jvm.MethodName)) ∈ lw_tbl := lw_at lw_m8 217 rfl
theorem q1946 : (Jvm.Cond.instanceMethod ({ cls := "NutCachesModel", name := "tellsNothing", desc := "()V" } : Jvm.MethodName)) ∈ lw_all := lw_g (lw_at lw_m8 218 rfl) rfl
theorem q1947 : (Jvm.Cond.code ({ cls := "NutCachesModel", name := "tellsNothing", desc := "()V" } : Jvm.MethodName) prog_14_method_24_code (2 : Nat) (Option.none : Option Jvm.ClassFile.FieldType)) ∈ lw_all := lw_g (lw_at lw_m8 219 rfl) rfl
theorem q1949 : (Jvm.Cond.instanceMethod ({ cls := "NutCachesModel", name := "hedge", desc := "()I" } : Jvm.MethodName)) ∈ lw_all := lw_g (lw_at lw_m8 221 rfl) rfl
theorem q1950 : (Jvm.Cond.selects "NutCachesModel" ({ cls := "NutCachesModel", name := "hedge", desc := "()I" } : Jvm.MethodName) ({ cls := "NutCachesModel", name := "hedge", desc := "()I" } : Jvm.MethodName)) ∈ lw_all := lw_g (lw_at lw_m8 222 rfl) rfl
theorem q1951 : (Jvm.Cond.code ({ cls := "NutCachesModel", name := "hedge", desc := "()I" } : Jvm.MethodName) prog_14_method_28_code (1 : Nat) (Option.some Jvm.ClassFile.FieldType.int)) ∈ lw_all := lw_g (lw_at lw_m8 223 rfl) rfl
theorem q1953 : (Jvm.Cond.instanceMethod ({ cls := "NutCachesModel", name := "pit", desc := "(II)I" } : Jvm.MethodName)) ∈ lw_all := lw_g (lw_at lw_m8 225 rfl) rfl
theorem q1954 : (Jvm.Cond.selects "NutCachesModel" ({ cls := "NutCachesModel", name := "pit", desc := "(II)I" } : Jvm.MethodName) ({ cls := "NutCachesModel", name := "pit", desc := "(II)I" } : Jvm.MethodName)) ∈ lw_all := lw_g (lw_at lw_m8 226 rfl) rfl
theorem q1955 : (Jvm.Cond.code ({ cls := "NutCachesModel", name := "pit", desc := "(II)I" } : Jvm.MethodName) prog_14_method_42_code (3 : Nat) (Option.some Jvm.ClassFile.FieldType.int)) ∈ lw_all := lw_g (lw_at lw_m8 227 rfl) rfl
theorem q1956 : (Jvm.Cond.methodLink "NutCachesModel" (188 : Nat) ({ cls := "NutCachesModel", name := "isPit", desc := "(I)Z" } : Jvm.MethodName)) ∈ lw_all := lw_g (lw_at lw_m8 228 rfl) rfl
theorem q1957 : (Jvm.Cond.privateMethod ({ cls := "NutCachesModel", name := "isPit", desc := "(I)Z" } : Jvm.MethodName)) ∈ lw_tbl := lw_at lw_m8 229 rfl
theorem q1958 : (Jvm.Cond.instanceMethod ({ cls := "NutCachesModel", name := "isPit", desc := "(I)Z" } : Jvm.MethodName)) ∈ lw_all := lw_g (lw_at lw_m8 230 rfl) rfl
theorem q1959 : (Jvm.Cond.code ({ cls := "NutCachesModel", name := "isPit", desc := "(I)Z" } : Jvm.MethodName) prog_14_method_39_code (2 : Nat) (Option.some Jvm.ClassFile.FieldType.boolean)) ∈ lw_all := lw_g (lw_at lw_m8 231 rfl) rfl
theorem q1960 : (Jvm.Cond.methodLink "NutCachesModel" (191 : Nat) ({ cls := "NutCachesModel", name := "knowing", desc := "(I)I" } : Jvm.MethodName)) ∈ lw_all := lw_g (lw_at lw_m8 232 rfl) rfl
theorem q1961 : (Jvm.Cond.privateMethod ({ cls := "NutCachesModel", name := "knowing", desc := "(I)I" } : Jvm.MethodName)) ∈ lw_tbl := lw_at lw_m8 233 rfl
theorem q1962 : (Jvm.Cond.instanceMethod ({ cls := "NutCachesModel", name := "knowing", desc := "(I)I" } : Jvm.MethodName)) ∈ lw_all := lw_g (lw_at lw_m8 234 rfl) rfl
theorem q1963 : (Jvm.Cond.code ({ cls := "NutCachesModel", name := "knowing", desc := "(I)I" } : Jvm.MethodName) prog_14_method_41_code (4 : Nat) (Option.some Jvm.ClassFile.FieldType.int)) ∈ lw_all := lw_g (lw_at lw_m8 235 rfl) rfl
theorem q1964 : (Jvm.Cond.methodLink "NutCachesModel" (152 : Nat) ({ cls := "NutCachesModel", name := "has", desc := "(II)Z" } : Jvm.MethodName)) ∈ lw_all := lw_g (lw_at lw_m8 236 rfl) rfl
theorem q1965 : (Jvm.Cond.static ({ cls := "NutCachesModel", name := "has", desc := "(II)Z" } : Jvm.MethodName)) ∈ lw_all := lw_g (lw_at lw_m8 237 rfl) rfl
theorem q1966 : (Jvm.Cond.code ({ cls := "NutCachesModel", name := "has", desc := "(II)Z" } : Jvm.MethodName) prog_14_method_5_code (2 : Nat) (Option.some Jvm.ClassFile.FieldType.boolean)) ∈ lw_all := lw_g (lw_at lw_m8 238 rfl) rfl
theorem q1968 : (Jvm.Cond.instanceMethod ({ cls := "NutCachesModel", name := "squirrel", desc := "(II)I" } : Jvm.MethodName)) ∈ lw_all := lw_g (lw_at lw_m9 0 rfl) rfl
theorem q1969 : (Jvm.Cond.selects "NutCachesModel" ({ cls := "NutCachesModel", name := "squirrel", desc := "(II)I" } : Jvm.MethodName) ({ cls := "NutCachesModel", name := "squirrel", desc := "(II)I" } : Jvm.MethodName)) ∈ lw_all := lw_g (lw_at lw_m9 1 rfl) rfl
theorem q1970 : (Jvm.Cond.code ({ cls := "NutCachesModel", name := "squirrel", desc := "(II)I" } : Jvm.MethodName) prog_14_method_44_code (3 : Nat) (Option.some Jvm.ClassFile.FieldType.int)) ∈ lw_all := lw_g (lw_at lw_m9 2 rfl) rfl
theorem q1971 : (Jvm.Cond.methodLink "NutCachesModel" (194 : Nat) ({ cls := "NutCachesModel", name := "isSquirrel", desc := "(I)Z" } : Jvm.MethodName)) ∈ lw_all := lw_g (lw_at lw_m9 3 rfl) rfl
theorem q1972 : (Jvm.Cond.privateMethod ({ cls := "NutCachesModel", name := "isSquirrel", desc := "(I)Z" } : Jvm.MethodName)) ∈ lw_tbl := lw_at lw_m9 4 rfl
theorem q1973 : (Jvm.Cond.instanceMethod ({ cls := "NutCachesModel", name := "isSquirrel", desc := "(I)Z" } : Jvm.MethodName)) ∈ lw_all := lw_g (lw_at lw_m9 5 rfl) rfl
theorem q1974 : (Jvm.Cond.code ({ cls := "NutCachesModel", name := "isSquirrel", desc := "(I)Z" } : Jvm.MethodName) prog_14_method_40_code (2 : Nat) (Option.some Jvm.ClassFile.FieldType.boolean)) ∈ lw_all := lw_g (lw_at lw_m9 6 rfl) rfl
theorem q1975 : (Jvm.Cond.methodLink "NutCachesModel" (197 : Nat) ({ cls := "NutCachesModel", name := "wanted", desc := "(I)I" } : Jvm.MethodName)) ∈ lw_all := lw_g (lw_at lw_m9 7 rfl) rfl
theorem q1976 : (Jvm.Cond.privateMethod ({ cls := "NutCachesModel", name := "wanted", desc := "(I)I" } : Jvm.MethodName)) ∈ lw_tbl := lw_at lw_m9 8 rfl
theorem q1977 : (Jvm.Cond.instanceMethod ({ cls := "NutCachesModel", name := "wanted", desc := "(I)I" } : Jvm.MethodName)) ∈ lw_all := lw_g (lw_at lw_m9 9 rfl) rfl
theorem q1978 : (Jvm.Cond.code ({ cls := "NutCachesModel", name := "wanted", desc := "(I)I" } : Jvm.MethodName) prog_14_method_43_code (2 : Nat) (Option.some Jvm.ClassFile.FieldType.int)) ∈ lw_all := lw_g (lw_at lw_m9 10 rfl) rfl
theorem q1979 : (Jvm.Cond.methodLink "NutCachesModel" (160 : Nat) ({ cls := "NutCachesModel", name := "wants", desc := "(II)I" } : Jvm.MethodName)) ∈ lw_all := lw_g (lw_at lw_m9 11 rfl) rfl
theorem q1980 : (Jvm.Cond.static ({ cls := "NutCachesModel", name := "wants", desc := "(II)I" } : Jvm.MethodName)) ∈ lw_all := lw_g (lw_at lw_m9 12 rfl) rfl
theorem q1981 : (Jvm.Cond.code ({ cls := "NutCachesModel", name := "wants", desc := "(II)I" } : Jvm.MethodName) prog_14_method_29_code (2 : Nat) (Option.some Jvm.ClassFile.FieldType.int)) ∈ lw_all := lw_g (lw_at lw_m9 13 rfl) rfl
theorem q1983 : (Jvm.Cond.instanceMethod ({ cls := "NutCachesModel", name := "as", desc := "(II)I" } : Jvm.MethodName)) ∈ lw_all := lw_g (lw_at lw_m9 15 rfl) rfl
theorem q1984 : (Jvm.Cond.selects "NutCachesModel" ({ cls := "NutCachesModel", name := "as", desc := "(II)I" } : Jvm.MethodName) ({ cls := "NutCachesModel", name := "as", desc := "(II)I" } : Jvm.MethodName)) ∈ lw_all := lw_g (lw_at lw_m9 16 rfl) rfl
theorem q1985 : (Jvm.Cond.code ({ cls := "NutCachesModel", name := "as", desc := "(II)I" } : Jvm.MethodName) prog_14_method_45_code (5 : Nat) (Option.some Jvm.ClassFile.FieldType.int)) ∈ lw_all := lw_g (lw_at lw_m9 17 rfl) rfl
theorem q1987 : (Jvm.Cond.instanceMethod ({ cls := "NutCachesModel", name := "day", desc := "(I)I" } : Jvm.MethodName)) ∈ lw_all := lw_g (lw_at lw_m9 19 rfl) rfl
theorem q1988 : (Jvm.Cond.selects "NutCachesModel" ({ cls := "NutCachesModel", name := "day", desc := "(I)I" } : Jvm.MethodName) ({ cls := "NutCachesModel", name := "day", desc := "(I)I" } : Jvm.MethodName)) ∈ lw_all := lw_g (lw_at lw_m9 20 rfl) rfl
theorem q1989 : (Jvm.Cond.code ({ cls := "NutCachesModel", name := "day", desc := "(I)I" } : Jvm.MethodName) prog_14_method_47_code (3 : Nat) (Option.some Jvm.ClassFile.FieldType.int)) ∈ lw_all := lw_g (lw_at lw_m9 21 rfl) rfl
theorem q1990 : (Jvm.Cond.methodLink "NutCachesModel" (200 : Nat) ({ cls := "NutCachesModel", name := "notes", desc := "()V" } : Jvm.MethodName)) ∈ lw_all := lw_g (lw_at lw_m9 22 rfl) rfl
theorem q1991 : (Jvm.Cond.privateMethod ({ cls := "NutCachesModel", name := "notes", desc := "()V" } : Jvm.MethodName)) ∈ lw_tbl := lw_at lw_m9 23 rfl
theorem q1992 : (Jvm.Cond.instanceMethod ({ cls := "NutCachesModel", name := "notes", desc := "()V" } : Jvm.MethodName)) ∈ lw_all := lw_g (lw_at lw_m9 24 rfl) rfl
theorem q1993 : (Jvm.Cond.code ({ cls := "NutCachesModel", name := "notes", desc := "()V" } : Jvm.MethodName) prog_14_method_46_code (2 : Nat) (Option.none : Option Jvm.ClassFile.FieldType)) ∈ lw_all := lw_g (lw_at lw_m9 25 rfl) rfl
theorem q1994 : (Jvm.Cond.methodLink "NutCachesModel" (203 : Nat) ({ cls := "NutCachesModel", name := "passes", desc := "([I)V" } : Jvm.MethodName)) ∈ lw_all := lw_g (lw_at lw_m9 26 rfl) rfl
theorem q1995 : (Jvm.Cond.privateMethod ({ cls := "NutCachesModel", name := "passes", desc := "([I)V" } : Jvm.MethodName)) ∈ lw_tbl := lw_at lw_m9 27 rfl
theorem q1996 : (Jvm.Cond.instanceMethod ({ cls := "NutCachesModel", name := "passes", desc := "([I)V" } : Jvm.MethodName)) ∈ lw_all := lw_g (lw_at lw_m9 28 rfl) rfl
theorem q1997 : (Jvm.Cond.code ({ cls := "NutCachesModel", name := "passes", desc := "([I)V" } : Jvm.MethodName) prog_14_method_37_code (5 : Nat) (Option.none : Option Jvm.ClassFile.FieldType)) ∈ lw_all := lw_g (lw_at lw_m9 29 rfl) rfl
theorem q1998 : (Jvm.Cond.methodLink "NutCachesModel" (174 : Nat) ({ cls := "NutCachesModel", name := "isGone", desc := "([II)Z" } : Jvm.MethodName)) ∈ lw_all := lw_g (lw_at lw_m9 30 rfl) rfl
theorem q1999 : (Jvm.Cond.static ({ cls := "NutCachesModel", name := "isGone", desc := "([II)Z" } : Jvm.MethodName)) ∈ lw_all := lw_g (lw_at lw_m9 31 rfl) rfl
theorem q2000 : (Jvm.Cond.code ({ cls := "NutCachesModel", name := "isGone", desc := "([II)Z" } : Jvm.MethodName) prog_14_method_31_code (2 : Nat) (Option.some Jvm.ClassFile.FieldType.boolean)) ∈ lw_all := lw_g (lw_at lw_m9 32 rfl) rfl
theorem q2001 : (Jvm.Cond.methodLink "NutCachesModel" (178 : Nat) ({ cls := "NutCachesModel", name := "near", desc := "([II)I" } : Jvm.MethodName)) ∈ lw_all := lw_g (lw_at lw_m9 33 rfl) rfl
theorem q2002 : (Jvm.Cond.static ({ cls := "NutCachesModel", name := "near", desc := "([II)I" } : Jvm.MethodName)) ∈ lw_all := lw_g (lw_at lw_m9 34 rfl) rfl
theorem q2003 : (Jvm.Cond.code ({ cls := "NutCachesModel", name := "near", desc := "([II)I" } : Jvm.MethodName) prog_14_method_36_code (4 : Nat) (Option.some Jvm.ClassFile.FieldType.int)) ∈ lw_all := lw_g (lw_at lw_m9 35 rfl) rfl
theorem q2004 : (Jvm.Cond.methodLink "NutCachesModel" (149 : Nat) ({ cls := "NutCachesModel", name := "apart", desc := "(II)I" } : Jvm.MethodName)) ∈ lw_all := lw_g (lw_at lw_m9 36 rfl) rfl
theorem q2005 : (Jvm.Cond.static ({ cls := "NutCachesModel", name := "apart", desc := "(II)I" } : Jvm.MethodName)) ∈ lw_all := lw_g (lw_at lw_m9 37 rfl) rfl
theorem q2006 : (Jvm.Cond.code ({ cls := "NutCachesModel", name := "apart", desc := "(II)I" } : Jvm.MethodName) prog_14_method_8_code (2 : Nat) (Option.some Jvm.ClassFile.FieldType.int)) ∈ lw_all := lw_g (lw_at lw_m9 38 rfl) rfl
theorem q2007 : (Jvm.Cond.methodLink "NutCachesModel" (163 : Nat) ({ cls := "NutCachesModel", name := "full", desc := "([I)I" } : Jvm.MethodName)) ∈ lw_all := lw_g (lw_at lw_m9 39 rfl) rfl
theorem q2008 : (Jvm.Cond.static ({ cls := "NutCachesModel", name := "full", desc := "([I)I" } : Jvm.MethodName)) ∈ lw_all := lw_g (lw_at lw_m9 40 rfl) rfl
theorem q2009 : (Jvm.Cond.code ({ cls := "NutCachesModel", name := "full", desc := "([I)I" } : Jvm.MethodName) prog_14_method_32_code (3 : Nat) (Option.some Jvm.ClassFile.FieldType.int)) ∈ lw_all := lw_g (lw_at lw_m9 41 rfl) rfl
theorem q2010 : (Jvm.Cond.methodLink "NutCachesModel" (182 : Nat) ({ cls := "NutCachesModel", name := "wakes", desc := "(II)Z" } : Jvm.MethodName)) ∈ lw_all := lw_g (lw_at lw_m9 42 rfl) rfl
theorem q2011 : (Jvm.Cond.static ({ cls := "NutCachesModel", name := "wakes", desc := "(II)Z" } : Jvm.MethodName)) ∈ lw_all := lw_g (lw_at lw_m9 43 rfl) rfl
theorem q2012 : (Jvm.Cond.code ({ cls := "NutCachesModel", name := "wakes", desc := "(II)Z" } : Jvm.MethodName) prog_14_method_30_code (2 : Nat) (Option.some Jvm.ClassFile.FieldType.boolean)) ∈ lw_all := lw_g (lw_at lw_m9 44 rfl) rfl
theorem q2013 : (Jvm.Cond.methodLink "NutCachesModel" (185 : Nat) ({ cls := "NutCachesModel", name := "eats", desc := "([II)I" } : Jvm.MethodName)) ∈ lw_all := lw_g (lw_at lw_m9 45 rfl) rfl
theorem q2014 : (Jvm.Cond.static ({ cls := "NutCachesModel", name := "eats", desc := "([II)I" } : Jvm.MethodName)) ∈ lw_all := lw_g (lw_at lw_m9 46 rfl) rfl
theorem q2015 : (Jvm.Cond.code ({ cls := "NutCachesModel", name := "eats", desc := "([II)I" } : Jvm.MethodName) prog_14_method_35_code (8 : Nat) (Option.some Jvm.ClassFile.FieldType.int)) ∈ lw_all := lw_g (lw_at lw_m9 47 rfl) rfl
theorem q2016 : (Jvm.Cond.methodLink "NutCachesModel" (167 : Nat) ({ cls := "NutCachesModel", name := "picks", desc := "([III)I" } : Jvm.MethodName)) ∈ lw_all := lw_g (lw_at lw_m9 48 rfl) rfl
theorem q2017 : (Jvm.Cond.static ({ cls := "NutCachesModel", name := "picks", desc := "([III)I" } : Jvm.MethodName)) ∈ lw_all := lw_g (lw_at lw_m9 49 rfl) rfl
theorem q2018 : (Jvm.Cond.code ({ cls := "NutCachesModel", name := "picks", desc := "([III)I" } : Jvm.MethodName) prog_14_method_34_code (9 : Nat) (Option.some Jvm.ClassFile.FieldType.int)) ∈ lw_all := lw_g (lw_at lw_m9 50 rfl) rfl
theorem q2019 : (Jvm.Cond.methodLink "NutCachesModel" (156 : Nat) ({ cls := "NutCachesModel", name := "isNearer", desc := "([IIII)Z" } : Jvm.MethodName)) ∈ lw_all := lw_g (lw_at lw_m9 51 rfl) rfl
theorem q2020 : (Jvm.Cond.static ({ cls := "NutCachesModel", name := "isNearer", desc := "([IIII)Z" } : Jvm.MethodName)) ∈ lw_all := lw_g (lw_at lw_m9 52 rfl) rfl
theorem q2021 : (Jvm.Cond.code ({ cls := "NutCachesModel", name := "isNearer", desc := "([IIII)Z" } : Jvm.MethodName) prog_14_method_33_code (7 : Nat) (Option.some Jvm.ClassFile.FieldType.boolean)) ∈ lw_all := lw_g (lw_at lw_m9 53 rfl) rfl
theorem q2022 : (Jvm.Cond.methodLink "NutCachesModel" (171 : Nat) ({ cls := "NutCachesModel", name := "lesser", desc := "(II)I" } : Jvm.MethodName)) ∈ lw_all := lw_g (lw_at lw_m9 54 rfl) rfl
theorem q2023 : (Jvm.Cond.static ({ cls := "NutCachesModel", name := "lesser", desc := "(II)I" } : Jvm.MethodName)) ∈ lw_all := lw_g (lw_at lw_m9 55 rfl) rfl
theorem q2024 : (Jvm.Cond.code ({ cls := "NutCachesModel", name := "lesser", desc := "(II)I" } : Jvm.MethodName) prog_14_method_7_code (2 : Nat) (Option.some Jvm.ClassFile.FieldType.int)) ∈ lw_all := lw_g (lw_at lw_m9 56 rfl) rfl
theorem q2026 : (Jvm.Cond.instanceMethod ({ cls := "NutCachesModel", name := "bury", desc := "(II)I" } : Jvm.MethodName)) ∈ lw_all := lw_g (lw_at lw_m9 58 rfl) rfl
theorem q2027 : (Jvm.Cond.selects "NutCachesModel" ({ cls := "NutCachesModel", name := "bury", desc := "(II)I" } : Jvm.MethodName) ({ cls := "NutCachesModel", name := "bury", desc := "(II)I" } : Jvm.MethodName)) ∈ lw_all := lw_g (lw_at lw_m9 59 rfl) rfl
theorem q2028 : (Jvm.Cond.code ({ cls := "NutCachesModel", name := "bury", desc := "(II)I" } : Jvm.MethodName) prog_14_method_48_code (4 : Nat) (Option.some Jvm.ClassFile.FieldType.int)) ∈ lw_all := lw_g (lw_at lw_m9 60 rfl) rfl
theorem q2030 : (Jvm.Cond.instanceMethod ({ cls := "NutCachesModel", name := "raid", desc := "(II)I" } : Jvm.MethodName)) ∈ lw_all := lw_g (lw_at lw_m9 62 rfl) rfl
theorem q2031 : (Jvm.Cond.selects "NutCachesModel" ({ cls := "NutCachesModel", name := "raid", desc := "(II)I" } : Jvm.MethodName) ({ cls := "NutCachesModel", name := "raid", desc := "(II)I" } : Jvm.MethodName)) ∈ lw_all := lw_g (lw_at lw_m9 63 rfl) rfl
theorem q2032 : (Jvm.Cond.code ({ cls := "NutCachesModel", name := "raid", desc := "(II)I" } : Jvm.MethodName) prog_14_method_49_code (3 : Nat) (Option.some Jvm.ClassFile.FieldType.int)) ∈ lw_all := lw_g (lw_at lw_m9 64 rfl) rfl
theorem q2034 : (Jvm.Cond.instanceMethod ({ cls := "NutCachesModel", name := "tell", desc := "(II)I" } : Jvm.MethodName)) ∈ lw_all := lw_g (lw_at lw_m9 66 rfl) rfl
theorem q2035 : (Jvm.Cond.selects "NutCachesModel" ({ cls := "NutCachesModel", name := "tell", desc := "(II)I" } : Jvm.MethodName) ({ cls := "NutCachesModel", name := "tell", desc := "(II)I" } : Jvm.MethodName)) ∈ lw_all := lw_g (lw_at lw_m9 67 rfl) rfl
theorem q2036 : (Jvm.Cond.code ({ cls := "NutCachesModel", name := "tell", desc := "(II)I" } : Jvm.MethodName) prog_14_method_50_code (4 : Nat) (Option.some Jvm.ClassFile.FieldType.int)) ∈ lw_all := lw_g (lw_at lw_m9 68 rfl) rfl
theorem q2038 : (Jvm.Cond.instanceMethod ({ cls := "NutCachesModel", name := "undo", desc := "()I" } : Jvm.MethodName)) ∈ lw_all := lw_g (lw_at lw_m9 70 rfl) rfl
theorem q2039 : (Jvm.Cond.selects "NutCachesModel" ({ cls := "NutCachesModel", name := "undo", desc := "()I" } : Jvm.MethodName) ({ cls := "NutCachesModel", name := "undo", desc := "()I" } : Jvm.MethodName)) ∈ lw_all := lw_g (lw_at lw_m9 71 rfl) rfl
theorem q2040 : (Jvm.Cond.code ({ cls := "NutCachesModel", name := "undo", desc := "()I" } : Jvm.MethodName) prog_14_method_51_code (1 : Nat) (Option.some Jvm.ClassFile.FieldType.int)) ∈ lw_all := lw_g (lw_at lw_m9 72 rfl) rfl
theorem q2042 : (Jvm.Cond.instanceMethod ({ cls := "NutCachesModel", name := "keep", desc := "(I)I" } : Jvm.MethodName)) ∈ lw_all := lw_g (lw_at lw_m9 74 rfl) rfl
theorem q2043 : (Jvm.Cond.selects "NutCachesModel" ({ cls := "NutCachesModel", name := "keep", desc := "(I)I" } : Jvm.MethodName) ({ cls := "NutCachesModel", name := "keep", desc := "(I)I" } : Jvm.MethodName)) ∈ lw_all := lw_g (lw_at lw_m9 75 rfl) rfl
theorem q2044 : (Jvm.Cond.code ({ cls := "NutCachesModel", name := "keep", desc := "(I)I" } : Jvm.MethodName) prog_14_method_52_code (2 : Nat) (Option.some Jvm.ClassFile.FieldType.int)) ∈ lw_all := lw_g (lw_at lw_m9 76 rfl) rfl
theorem q2046 : (Jvm.Cond.instanceMethod ({ cls := "NutCachesModel", name := "back", desc := "(I)I" } : Jvm.MethodName)) ∈ lw_all := lw_g (lw_at lw_m9 78 rfl) rfl
theorem q2047 : (Jvm.Cond.selects "NutCachesModel" ({ cls := "NutCachesModel", name := "back", desc := "(I)I" } : Jvm.MethodName) ({ cls := "NutCachesModel", name := "back", desc := "(I)I" } : Jvm.MethodName)) ∈ lw_all := lw_g (lw_at lw_m9 79 rfl) rfl
theorem q2048 : (Jvm.Cond.code ({ cls := "NutCachesModel", name := "back", desc := "(I)I" } : Jvm.MethodName) prog_14_method_53_code (2 : Nat) (Option.some Jvm.ClassFile.FieldType.int)) ∈ lw_all := lw_g (lw_at lw_m9 80 rfl) rfl
theorem q2050 : (Jvm.Cond.instanceMethod ({ cls := "NutCachesModel", name := "behind", desc := "(III)I" } : Jvm.MethodName)) ∈ lw_all := lw_g (lw_at lw_m9 82 rfl) rfl
theorem q2051 : (Jvm.Cond.selects "NutCachesModel" ({ cls := "NutCachesModel", name := "behind", desc := "(III)I" } : Jvm.MethodName) ({ cls := "NutCachesModel", name := "behind", desc := "(III)I" } : Jvm.MethodName)) ∈ lw_all := lw_g (lw_at lw_m9 83 rfl) rfl
theorem q2052 : (Jvm.Cond.code ({ cls := "NutCachesModel", name := "behind", desc := "(III)I" } : Jvm.MethodName) prog_14_method_55_code (4 : Nat) (Option.some Jvm.ClassFile.FieldType.int)) ∈ lw_all := lw_g (lw_at lw_m9 84 rfl) rfl
theorem q2053 : (Jvm.Cond.methodLink "NutCachesModel" (207 : Nat) ({ cls := "NutCachesModel", name := "goesOn", desc := "(I)V" } : Jvm.MethodName)) ∈ lw_all := lw_g (lw_at lw_m9 85 rfl) rfl
theorem q2054 : (Jvm.Cond.privateMethod ({ cls := "NutCachesModel", name := "goesOn", desc := "(I)V" } : Jvm.MethodName)) ∈ lw_tbl := lw_at lw_m9 86 rfl
theorem q2055 : (Jvm.Cond.instanceMethod ({ cls := "NutCachesModel", name := "goesOn", desc := "(I)V" } : Jvm.MethodName)) ∈ lw_all := lw_g (lw_at lw_m9 87 rfl) rfl
theorem q2056 : (Jvm.Cond.code ({ cls := "NutCachesModel", name := "goesOn", desc := "(I)V" } : Jvm.MethodName) prog_14_method_54_code (3 : Nat) (Option.none : Option Jvm.ClassFile.FieldType)) ∈ lw_all := lw_g (lw_at lw_m9 88 rfl) rfl
theorem q2058 : (Jvm.Cond.instanceMethod ({ cls := "NutCachesModel", name := "nuts", desc := "(II)I" } : Jvm.MethodName)) ∈ lw_all := lw_g (lw_at lw_m9 90 rfl) rfl
theorem q2059 : (Jvm.Cond.selects "NutCachesModel" ({ cls := "NutCachesModel", name := "nuts", desc := "(II)I" } : Jvm.MethodName) ({ cls := "NutCachesModel", name := "nuts", desc := "(II)I" } : Jvm.MethodName)) ∈ lw_all := lw_g (lw_at lw_m9 91 rfl) rfl
theorem q2060 : (Jvm.Cond.code ({ cls := "NutCachesModel", name := "nuts", desc := "(II)I" } : Jvm.MethodName) prog_14_method_56_code (3 : Nat) (Option.some Jvm.ClassFile.FieldType.int)) ∈ lw_all := lw_g (lw_at lw_m9 92 rfl) rfl
theorem q2062 : (Jvm.Cond.instanceMethod ({ cls := "NutCachesModel", name := "hungry", desc := "(I)I" } : Jvm.MethodName)) ∈ lw_all := lw_g (lw_at lw_m9 94 rfl) rfl
theorem q2063 : (Jvm.Cond.selects "NutCachesModel" ({ cls := "NutCachesModel", name := "hungry", desc := "(I)I" } : Jvm.MethodName) ({ cls := "NutCachesModel", name := "hungry", desc := "(I)I" } : Jvm.MethodName)) ∈ lw_all := lw_g (lw_at lw_m9 95 rfl) rfl
theorem q2064 : (Jvm.Cond.code ({ cls := "NutCachesModel", name := "hungry", desc := "(I)I" } : Jvm.MethodName) prog_14_method_57_code (3 : Nat) (Option.some Jvm.ClassFile.FieldType.int)) ∈ lw_all := lw_g (lw_at lw_m9 96 rfl) rfl
theorem q2066 : (Jvm.Cond.instanceMethod ({ cls := "NutCachesModel", name := "lasts", desc := "(I)I" } : Jvm.MethodName)) ∈ lw_all := lw_g (lw_at lw_m9 98 rfl) rfl
theorem q2067 : (Jvm.Cond.selects "NutCachesModel" ({ cls := "NutCachesModel", name := "lasts", desc := "(I)I" } : Jvm.MethodName) ({ cls := "NutCachesModel", name := "lasts", desc := "(I)I" } : Jvm.MethodName)) ∈ lw_all := lw_g (lw_at lw_m9 99 rfl) rfl
theorem q2068 : (Jvm.Cond.code ({ cls := "NutCachesModel", name := "lasts", desc := "(I)I" } : Jvm.MethodName) prog_14_method_58_code (3 : Nat) (Option.some Jvm.ClassFile.FieldType.int)) ∈ lw_all := lw_g (lw_at lw_m9 100 rfl) rfl
theorem q2070 : (Jvm.Cond.instanceMethod ({ cls := "NutCachesModel", name := "live", desc := "(I)I" } : Jvm.MethodName)) ∈ lw_all := lw_g (lw_at lw_m9 102 rfl) rfl
theorem q2071 : (Jvm.Cond.selects "NutCachesModel" ({ cls := "NutCachesModel", name := "live", desc := "(I)I" } : Jvm.MethodName) ({ cls := "NutCachesModel", name := "live", desc := "(I)I" } : Jvm.MethodName)) ∈ lw_all := lw_g (lw_at lw_m9 103 rfl) rfl
theorem q2072 : (Jvm.Cond.code ({ cls := "NutCachesModel", name := "live", desc := "(I)I" } : Jvm.MethodName) prog_14_method_59_code (2 : Nat) (Option.some Jvm.ClassFile.FieldType.int)) ∈ lw_all := lw_g (lw_at lw_m9 104 rfl) rfl
theorem q2073 : (Jvm.Cond.methodLink "NutCachesModel" (210 : Nat) ({ cls := "NutCachesModel", name := "alive", desc := "([I)I" } : Jvm.MethodName)) ∈ lw_all := lw_g (lw_at lw_m9 105 rfl) rfl
theorem q2074 : (Jvm.Cond.static ({ cls := "NutCachesModel", name := "alive", desc := "([I)I" } : Jvm.MethodName)) ∈ lw_all := lw_g (lw_at lw_m9 106 rfl) rfl
theorem q2075 : (Jvm.Cond.code ({ cls := "NutCachesModel", name := "alive", desc := "([I)I" } : Jvm.MethodName) prog_14_method_38_code (3 : Nat) (Option.some Jvm.ClassFile.FieldType.int)) ∈ lw_all := lw_g (lw_at lw_m9 107 rfl) rfl
theorem q2076 : (Jvm.Cond.methodLink "NutCachesModel" (213 : Nat) ({ cls := "NutCachesModel", name := "ones", desc := "(I)I" } : Jvm.MethodName)) ∈ lw_all := lw_g (lw_at lw_m9 108 rfl) rfl
theorem q2077 : (Jvm.Cond.static ({ cls := "NutCachesModel", name := "ones", desc := "(I)I" } : Jvm.MethodName)) ∈ lw_all := lw_g (lw_at lw_m9 109 rfl) rfl
theorem q2078 : (Jvm.Cond.code ({ cls := "NutCachesModel", name := "ones", desc := "(I)I" } : Jvm.MethodName) prog_14_method_6_code (3 : Nat) (Option.some Jvm.ClassFile.FieldType.int)) ∈ lw_all := lw_g (lw_at lw_m9 110 rfl) rfl
theorem q2080 : (Jvm.Cond.instanceMethod ({ cls := "NutCachesModel", name := "enough", desc := "(II)I" } : Jvm.MethodName)) ∈ lw_all := lw_g (lw_at lw_m9 112 rfl) rfl
theorem q2081 : (Jvm.Cond.selects "NutCachesModel" ({ cls := "NutCachesModel", name := "enough", desc := "(II)I" } : Jvm.MethodName) ({ cls := "NutCachesModel", name := "enough", desc := "(II)I" } : Jvm.MethodName)) ∈ lw_all := lw_g (lw_at lw_m9 113 rfl) rfl
theorem q2082 : (Jvm.Cond.code ({ cls := "NutCachesModel", name := "enough", desc := "(II)I" } : Jvm.MethodName) prog_14_method_61_code (5 : Nat) (Option.some Jvm.ClassFile.FieldType.int)) ∈ lw_all := lw_g (lw_at lw_m9 114 rfl) rfl
theorem q2083 : (Jvm.Cond.methodLink "NutCachesModel" (216 : Nat) ({ cls := "NutCachesModel", name := "isNear", desc := "(I)Z" } : Jvm.MethodName)) ∈ lw_all := lw_g (lw_at lw_m9 115 rfl) rfl
theorem q2084 : (Jvm.Cond.static ({ cls := "NutCachesModel", name := "isNear", desc := "(I)Z" } : Jvm.MethodName)) ∈ lw_all := lw_g (lw_at lw_m9 116 rfl) rfl
theorem q2085 : (Jvm.Cond.code ({ cls := "NutCachesModel", name := "isNear", desc := "(I)Z" } : Jvm.MethodName) prog_14_method_60_code (1 : Nat) (Option.some Jvm.ClassFile.FieldType.boolean)) ∈ lw_all := lw_g (lw_at lw_m9 117 rfl) rfl
theorem q2087 : (Jvm.Cond.instanceMethod ({ cls := "NutCachesModel", name := "worst", desc := "(II)I" } : Jvm.MethodName)) ∈ lw_all := lw_g (lw_at lw_m9 119 rfl) rfl
theorem q2088 : (Jvm.Cond.selects "NutCachesModel" ({ cls := "NutCachesModel", name := "worst", desc := "(II)I" } : Jvm.MethodName) ({ cls := "NutCachesModel", name := "worst", desc := "(II)I" } : Jvm.MethodName)) ∈ lw_all := lw_g (lw_at lw_m9 120 rfl) rfl
theorem q2089 : (Jvm.Cond.code ({ cls := "NutCachesModel", name := "worst", desc := "(II)I" } : Jvm.MethodName) prog_14_method_62_code (8 : Nat) (Option.some Jvm.ClassFile.FieldType.int)) ∈ lw_all := lw_g (lw_at lw_m9 121 rfl) rfl
theorem q2091 : (Jvm.Cond.instanceMethod ({ cls := "NutCachesModel", name := "whisper", desc := "(I)I" } : Jvm.MethodName)) ∈ lw_all := lw_g (lw_at lw_m9 123 rfl) rfl
theorem q2092 : (Jvm.Cond.selects "NutCachesModel" ({ cls := "NutCachesModel", name := "whisper", desc := "(I)I" } : Jvm.MethodName) ({ cls := "NutCachesModel", name := "whisper", desc := "(I)I" } : Jvm.MethodName)) ∈ lw_all := lw_g (lw_at lw_m9 124 rfl) rfl
theorem q2093 : (Jvm.Cond.code ({ cls := "NutCachesModel", name := "whisper", desc := "(I)I" } : Jvm.MethodName) prog_14_method_63_code (7 : Nat) (Option.some Jvm.ClassFile.FieldType.int)) ∈ lw_all := lw_g (lw_at lw_m9 125 rfl) rfl
theorem q2095 : (Jvm.Cond.instanceMethod ({ cls := "NutCachesModel", name := "jay", desc := "(III)I" } : Jvm.MethodName)) ∈ lw_all := lw_g (lw_at lw_m9 127 rfl) rfl
theorem q2096 : (Jvm.Cond.selects "NutCachesModel" ({ cls := "NutCachesModel", name := "jay", desc := "(III)I" } : Jvm.MethodName) ({ cls := "NutCachesModel", name := "jay", desc := "(III)I" } : Jvm.MethodName)) ∈ lw_all := lw_g (lw_at lw_m9 128 rfl) rfl
theorem q2097 : (Jvm.Cond.code ({ cls := "NutCachesModel", name := "jay", desc := "(III)I" } : Jvm.MethodName) prog_14_method_64_code (11 : Nat) (Option.some Jvm.ClassFile.FieldType.int)) ∈ lw_all := lw_g (lw_at lw_m9 129 rfl) rfl
theorem q2099 : (Jvm.Cond.instanceMethod ({ cls := "NutCachesModel", name := "seen", desc := "(IIII)I" } : Jvm.MethodName)) ∈ lw_all := lw_g (lw_at lw_m9 131 rfl) rfl
theorem q2100 : (Jvm.Cond.selects "NutCachesModel" ({ cls := "NutCachesModel", name := "seen", desc := "(IIII)I" } : Jvm.MethodName) ({ cls := "NutCachesModel", name := "seen", desc := "(IIII)I" } : Jvm.MethodName)) ∈ lw_all := lw_g (lw_at lw_m9 132 rfl) rfl
theorem q2101 : (Jvm.Cond.code ({ cls := "NutCachesModel", name := "seen", desc := "(IIII)I" } : Jvm.MethodName) prog_14_method_65_code (5 : Nat) (Option.some Jvm.ClassFile.FieldType.int)) ∈ lw_all := lw_g (lw_at lw_m9 133 rfl) rfl
theorem q2103 : (Jvm.Cond.instanceMethod ({ cls := "NutCachesModel", name := "forget", desc := "()I" } : Jvm.MethodName)) ∈ lw_all := lw_g (lw_at lw_m9 135 rfl) rfl
theorem q2104 : (Jvm.Cond.selects "NutCachesModel" ({ cls := "NutCachesModel", name := "forget", desc := "()I" } : Jvm.MethodName) ({ cls := "NutCachesModel", name := "forget", desc := "()I" } : Jvm.MethodName)) ∈ lw_all := lw_g (lw_at lw_m9 136 rfl) rfl
theorem q2105 : (Jvm.Cond.code ({ cls := "NutCachesModel", name := "forget", desc := "()I" } : Jvm.MethodName) prog_14_method_66_code (2 : Nat) (Option.some Jvm.ClassFile.FieldType.int)) ∈ lw_all := lw_g (lw_at lw_m9 137 rfl) rfl
theorem q2107 : (Jvm.Cond.instanceMethod ({ cls := "NutCachesModel", name := "kinds", desc := "()I" } : Jvm.MethodName)) ∈ lw_all := lw_g (lw_at lw_m9 139 rfl) rfl
theorem q2108 : (Jvm.Cond.selects "NutCachesModel" ({ cls := "NutCachesModel", name := "kinds", desc := "()I" } : Jvm.MethodName) ({ cls := "NutCachesModel", name := "kinds", desc := "()I" } : Jvm.MethodName)) ∈ lw_all := lw_g (lw_at lw_m9 140 rfl) rfl
theorem q2109 : (Jvm.Cond.code ({ cls := "NutCachesModel", name := "kinds", desc := "()I" } : Jvm.MethodName) prog_14_method_68_code (5 : Nat) (Option.some Jvm.ClassFile.FieldType.int)) ∈ lw_all := lw_g (lw_at lw_m9 141 rfl) rfl
theorem q2110 : (Jvm.Cond.methodLink "NutCachesModel" (219 : Nat) ({ cls := "NutCachesModel", name := "sightOf", desc := "(III)I" } : Jvm.MethodName)) ∈ lw_all := lw_g (lw_at lw_m9 142 rfl) rfl
theorem q2111 : (Jvm.Cond.static ({ cls := "NutCachesModel", name := "sightOf", desc := "(III)I" } : Jvm.MethodName)) ∈ lw_all := lw_g (lw_at lw_m9 143 rfl) rfl
theorem q2112 : (Jvm.Cond.code ({ cls := "NutCachesModel", name := "sightOf", desc := "(III)I" } : Jvm.MethodName) prog_14_method_67_code (4 : Nat) (Option.some Jvm.ClassFile.FieldType.int)) ∈ lw_all := lw_g (lw_at lw_m9 144 rfl) rfl
theorem q2114 : (Jvm.Cond.instanceMethod ({ cls := "NutCachesModel", name := "ask", desc := "()I" } : Jvm.MethodName)) ∈ lw_all := lw_g (lw_at lw_m9 146 rfl) rfl
theorem q2115 : (Jvm.Cond.selects "NutCachesModel" ({ cls := "NutCachesModel", name := "ask", desc := "()I" } : Jvm.MethodName) ({ cls := "NutCachesModel", name := "ask", desc := "()I" } : Jvm.MethodName)) ∈ lw_all := lw_g (lw_at lw_m9 147 rfl) rfl
theorem q2116 : (Jvm.Cond.code ({ cls := "NutCachesModel", name := "ask", desc := "()I" } : Jvm.MethodName) prog_14_method_70_code (6 : Nat) (Option.some Jvm.ClassFile.FieldType.int)) ∈ lw_all := lw_g (lw_at lw_m9 148 rfl) rfl
theorem q2117 : (Jvm.Cond.methodLink "NutCachesModel" (222 : Nat) ({ cls := "NutCachesModel", name := "kinds", desc := "()I" } : Jvm.MethodName)) ∈ lw_all := lw_g (lw_at lw_m9 149 rfl) rfl
theorem q2118 : (Jvm.Cond.methodLink "NutCachesModel" (226 : Nat) ({ cls := "NutCachesModel", name := "alike", desc := "(III)I" } : Jvm.MethodName)) ∈ lw_all := lw_g (lw_at lw_m9 150 rfl) rfl
theorem q2119 : (Jvm.Cond.static ({ cls := "NutCachesModel", name := "alike", desc := "(III)I" } : Jvm.MethodName)) ∈ lw_all := lw_g (lw_at lw_m9 151 rfl) rfl
theorem q2120 : (Jvm.Cond.code ({ cls := "NutCachesModel", name := "alike", desc := "(III)I" } : Jvm.MethodName) prog_14_method_69_code (7 : Nat) (Option.some Jvm.ClassFile.FieldType.int)) ∈ lw_all := lw_g (lw_at lw_m9 152 rfl) rfl
theorem q2122 : (Jvm.Cond.instanceMethod ({ cls := "NutCachesModel", name := "trail", desc := "(I)I" } : Jvm.MethodName)) ∈ lw_all := lw_g (lw_at lw_m9 154 rfl) rfl
theorem q2123 : (Jvm.Cond.selects "NutCachesModel" ({ cls := "NutCachesModel", name := "trail", desc := "(I)I" } : Jvm.MethodName) ({ cls := "NutCachesModel", name := "trail", desc := "(I)I" } : Jvm.MethodName)) ∈ lw_all := lw_g (lw_at lw_m9 155 rfl) rfl
theorem q2124 : (Jvm.Cond.code ({ cls := "NutCachesModel", name := "trail", desc := "(I)I" } : Jvm.MethodName) prog_14_method_73_code (2 : Nat) (Option.some Jvm.ClassFile.FieldType.int)) ∈ lw_all := lw_g (lw_at lw_m9 156 rfl) rfl
theorem q2125 : (Jvm.Cond.methodLink "NutCachesModel" (229 : Nat) ({ cls := "NutCachesModel", name := "isTrail", desc := "(I)Z" } : Jvm.MethodName)) ∈ lw_all := lw_g (lw_at lw_m9 157 rfl) rfl
theorem q2126 : (Jvm.Cond.static ({ cls := "NutCachesModel", name := "isTrail", desc := "(I)Z" } : Jvm.MethodName)) ∈ lw_all := lw_g (lw_at lw_m9 158 rfl) rfl
theorem q2127 : (Jvm.Cond.code ({ cls := "NutCachesModel", name := "isTrail", desc := "(I)Z" } : Jvm.MethodName) prog_14_method_71_code (1 : Nat) (Option.some Jvm.ClassFile.FieldType.boolean)) ∈ lw_all := lw_g (lw_at lw_m9 159 rfl) rfl
theorem q2129 : (Jvm.Cond.instanceMethod ({ cls := "NutCachesModel", name := "step", desc := "(III)I" } : Jvm.MethodName)) ∈ lw_all := lw_g (lw_at lw_m9 161 rfl) rfl
theorem q2130 : (Jvm.Cond.selects "NutCachesModel" ({ cls := "NutCachesModel", name := "step", desc := "(III)I" } : Jvm.MethodName) ({ cls := "NutCachesModel", name := "step", desc := "(III)I" } : Jvm.MethodName)) ∈ lw_all := lw_g (lw_at lw_m9 162 rfl) rfl
theorem q2131 : (Jvm.Cond.code ({ cls := "NutCachesModel", name := "step", desc := "(III)I" } : Jvm.MethodName) prog_14_method_74_code (6 : Nat) (Option.some Jvm.ClassFile.FieldType.int)) ∈ lw_all := lw_g (lw_at lw_m9 163 rfl) rfl
theorem q2132 : (Jvm.Cond.constant "NutCachesModel" (232 : Nat) (50000 : Int32)) ∈ lw_all := lw_g (lw_at lw_m9 164 rfl) rfl
theorem q2134 : (Jvm.Cond.instanceMethod ({ cls := "NutCachesModel", name := "add", desc := "(III)I" } : Jvm.MethodName)) ∈ lw_all := lw_g (lw_at lw_m9 166 rfl) rfl
theorem q2135 : (Jvm.Cond.selects "NutCachesModel" ({ cls := "NutCachesModel", name := "add", desc := "(III)I" } : Jvm.MethodName) ({ cls := "NutCachesModel", name := "add", desc := "(III)I" } : Jvm.MethodName)) ∈ lw_all := lw_g (lw_at lw_m9 167 rfl) rfl
theorem q2136 : (Jvm.Cond.code ({ cls := "NutCachesModel", name := "add", desc := "(III)I" } : Jvm.MethodName) prog_14_method_76_code (5 : Nat) (Option.some Jvm.ClassFile.FieldType.int)) ∈ lw_all := lw_g (lw_at lw_m9 168 rfl) rfl
theorem q2137 : (Jvm.Cond.methodLink "NutCachesModel" (233 : Nat) ({ cls := "NutCachesModel", name := "isWell", desc := "(II)Z" } : Jvm.MethodName)) ∈ lw_all := lw_g (lw_at lw_m9 169 rfl) rfl
theorem q2138 : (Jvm.Cond.static ({ cls := "NutCachesModel", name := "isWell", desc := "(II)Z" } : Jvm.MethodName)) ∈ lw_all := lw_g (lw_at lw_m9 170 rfl) rfl
theorem q2139 : (Jvm.Cond.code ({ cls := "NutCachesModel", name := "isWell", desc := "(II)Z" } : Jvm.MethodName) prog_14_method_72_code (2 : Nat) (Option.some Jvm.ClassFile.FieldType.boolean)) ∈ lw_all := lw_g (lw_at lw_m9 171 rfl) rfl
theorem q2140 : (Jvm.Cond.methodLink "NutCachesModel" (236 : Nat) ({ cls := "NutCachesModel", name := "lays", desc := "(IIII)V" } : Jvm.MethodName)) ∈ lw_all := lw_g (lw_at lw_m9 172 rfl) rfl
theorem q2141 : (Jvm.Cond.privateMethod ({ cls := "NutCachesModel", name := "lays", desc := "(IIII)V" } : Jvm.MethodName)) ∈ lw_tbl := lw_at lw_m9 173 rfl
theorem q2142 : (Jvm.Cond.instanceMethod ({ cls := "NutCachesModel", name := "lays", desc := "(IIII)V" } : Jvm.MethodName)) ∈ lw_all := lw_g (lw_at lw_m9 174 rfl) rfl
theorem q2143 : (Jvm.Cond.code ({ cls := "NutCachesModel", name := "lays", desc := "(IIII)V" } : Jvm.MethodName) prog_14_method_75_code (5 : Nat) (Option.none : Option Jvm.ClassFile.FieldType)) ∈ lw_all := lw_g (lw_at lw_m9 175 rfl) rfl
theorem q2145 : (Jvm.Cond.instanceMethod ({ cls := "NutCachesModel", name := "set", desc := "(III)I" } : Jvm.MethodName)) ∈ lw_all := lw_g (lw_at lw_m9 177 rfl) rfl
theorem q2146 : (Jvm.Cond.selects "NutCachesModel" ({ cls := "NutCachesModel", name := "set", desc := "(III)I" } : Jvm.MethodName) ({ cls := "NutCachesModel", name := "set", desc := "(III)I" } : Jvm.MethodName)) ∈ lw_all := lw_g (lw_at lw_m9 178 rfl) rfl
theorem q2147 : (Jvm.Cond.code ({ cls := "NutCachesModel", name := "set", desc := "(III)I" } : Jvm.MethodName) prog_14_method_77_code (4 : Nat) (Option.some Jvm.ClassFile.FieldType.int)) ∈ lw_all := lw_g (lw_at lw_m9 179 rfl) rfl
theorem q2149 : (Jvm.Cond.instanceMethod ({ cls := "NutCachesModel", name := "cut", desc := "(I)I" } : Jvm.MethodName)) ∈ lw_all := lw_g (lw_at lw_m9 181 rfl) rfl
theorem q2150 : (Jvm.Cond.selects "NutCachesModel" ({ cls := "NutCachesModel", name := "cut", desc := "(I)I" } : Jvm.MethodName) ({ cls := "NutCachesModel", name := "cut", desc := "(I)I" } : Jvm.MethodName)) ∈ lw_all := lw_g (lw_at lw_m9 182 rfl) rfl
theorem q2151 : (Jvm.Cond.code ({ cls := "NutCachesModel", name := "cut", desc := "(I)I" } : Jvm.MethodName) prog_14_method_78_code (4 : Nat) (Option.some Jvm.ClassFile.FieldType.int)) ∈ lw_all := lw_g (lw_at lw_m9 183 rfl) rfl
theorem q2153 : (Jvm.Cond.instanceMethod ({ cls := "NutCachesModel", name := "rewind", desc := "(I)I" } : Jvm.MethodName)) ∈ lw_all := lw_g (lw_at lw_m9 185 rfl) rfl
theorem q2154 : (Jvm.Cond.selects "NutCachesModel" ({ cls := "NutCachesModel", name := "rewind", desc := "(I)I" } : Jvm.MethodName) ({ cls := "NutCachesModel", name := "rewind", desc := "(I)I" } : Jvm.MethodName)) ∈ lw_all := lw_g (lw_at lw_m9 186 rfl) rfl
theorem q2155 : (Jvm.Cond.code ({ cls := "NutCachesModel", name := "rewind", desc := "(I)I" } : Jvm.MethodName) prog_14_method_79_code (3 : Nat) (Option.some Jvm.ClassFile.FieldType.int)) ∈ lw_all := lw_g (lw_at lw_m9 187 rfl) rfl
theorem q2157 : (Jvm.Cond.instanceMethod ({ cls := "NutCachesModel", name := "drop", desc := "(I)I" } : Jvm.MethodName)) ∈ lw_all := lw_g (lw_at lw_m9 189 rfl) rfl
theorem q2158 : (Jvm.Cond.selects "NutCachesModel" ({ cls := "NutCachesModel", name := "drop", desc := "(I)I" } : Jvm.MethodName) ({ cls := "NutCachesModel", name := "drop", desc := "(I)I" } : Jvm.MethodName)) ∈ lw_all := lw_g (lw_at lw_m9 190 rfl) rfl
theorem q2159 : (Jvm.Cond.code ({ cls := "NutCachesModel", name := "drop", desc := "(I)I" } : Jvm.MethodName) prog_14_method_80_code (3 : Nat) (Option.some Jvm.ClassFile.FieldType.int)) ∈ lw_all := lw_g (lw_at lw_m9 191 rfl) rfl
theorem q2161 : (Jvm.Cond.instanceMethod ({ cls := "NutCachesModel", name := "count", desc := "(I)I" } : Jvm.MethodName)) ∈ lw_all := lw_g (lw_at lw_m9 193 rfl) rfl
theorem q2162 : (Jvm.Cond.selects "NutCachesModel" ({ cls := "NutCachesModel", name := "count", desc := "(I)I" } : Jvm.MethodName) ({ cls := "NutCachesModel", name := "count", desc := "(I)I" } : Jvm.MethodName)) ∈ lw_all := lw_g (lw_at lw_m9 194 rfl) rfl
theorem q2163 : (Jvm.Cond.code ({ cls := "NutCachesModel", name := "count", desc := "(I)I" } : Jvm.MethodName) prog_14_method_83_code (2 : Nat) (Option.some Jvm.ClassFile.FieldType.int)) ∈ lw_all := lw_g (lw_at lw_m9 195 rfl) rfl
theorem q2164 : (Jvm.Cond.methodLink "NutCachesModel" (240 : Nat) ({ cls := "NutCachesModel", name := "nutsOfAll", desc := "()I" } : Jvm.MethodName)) ∈ lw_all := lw_g (lw_at lw_m9 196 rfl) rfl
theorem q2165 : (Jvm.Cond.privateMethod ({ cls := "NutCachesModel", name := "nutsOfAll", desc := "()I" } : Jvm.MethodName)) ∈ lw_tbl := lw_at lw_m9 197 rfl
theorem q2166 : (Jvm.Cond.instanceMethod ({ cls := "NutCachesModel", name := "nutsOfAll", desc := "()I" } : Jvm.MethodName)) ∈ lw_all := lw_g (lw_at lw_m9 198 rfl) rfl
theorem q2167 : (Jvm.Cond.code ({ cls := "NutCachesModel", name := "nutsOfAll", desc := "()I" } : Jvm.MethodName) prog_14_method_81_code (3 : Nat) (Option.some Jvm.ClassFile.FieldType.int)) ∈ lw_all := lw_g (lw_at lw_m9 199 rfl) rfl
theorem q2168 : (Jvm.Cond.methodLink "NutCachesModel" (243 : Nat) ({ cls := "NutCachesModel", name := "things", desc := "()I" } : Jvm.MethodName)) ∈ lw_all := lw_g (lw_at lw_m9 200 rfl) rfl
theorem q2169 : (Jvm.Cond.privateMethod ({ cls := "NutCachesModel", name := "things", desc := "()I" } : Jvm.MethodName)) ∈ lw_tbl := lw_at lw_m9 201 rfl
theorem q2170 : (Jvm.Cond.instanceMethod ({ cls := "NutCachesModel", name := "things", desc := "()I" } : Jvm.MethodName)) ∈ lw_all := lw_g (lw_at lw_m9 202 rfl) rfl
theorem q2171 : (Jvm.Cond.code ({ cls := "NutCachesModel", name := "things", desc := "()I" } : Jvm.MethodName) prog_14_method_82_code (3 : Nat) (Option.some Jvm.ClassFile.FieldType.int)) ∈ lw_all := lw_g (lw_at lw_m9 203 rfl) rfl
theorem q2208 : (Jvm.Cond.castable "NutCachesModel" "java/lang/Object") ∈ lw_tbl := lw_at lw_m10 0 rfl
theorem in_X2 : ∀ w ∈ wsX20, w ∈ lw_all := lw_in wsX20 [1823, 1825, 1827, 1829, 1831, 1833, 1835, 1837, 1839, 1841, 1843, 1845, 1847, 1849, 1851, 1853, 1855, 1857, 1859, 1861, 1863, 1865, 1867, 1869, 1871] (by decide +kernel) (by decide +kernel)
