/-! java/util/Arrays -/
set_option maxRecDepth 100000
def RJ0 : String := "java/util/Arrays"
abbrev cJ0_fill : ByteArray := prog_51_method_117_code
def yJ0_fill : MethodName := ⟨RJ0, "fill", "([Ljava/lang/Object;Ljava/lang/Object;)V"⟩
def dkwJ0_fill_0 : List UInt8 := [3, 61, 42, 190, 62, 28, 29, 162, 0, 13, 42, 28, 43, 83, 132, 2, 1, 167, 255, 244, 177]
abbrev dktJ0_fill_0 : List UInt8 := dkwJ0_fill_0 ++ []
theorem dksJ0_fill_0 : cJ0_fill.data.toList.drop 0 = dktJ0_fill_0 := by decide +kernel
theorem dJ0_fill_0 : decode cJ0_fill 0 = .ok (.iconst 0, 1) := dk_3 (dk_at dksJ0_fill_0 0 rfl rfl)
theorem dJ0_fill_1 : decode cJ0_fill 1 = .ok (.istore_n 2, 1) := dk_61 (dk_at dksJ0_fill_0 1 rfl rfl)
theorem dJ0_fill_2 : decode cJ0_fill 2 = .ok (.aload_n 0, 1) := dk_42 (dk_at dksJ0_fill_0 2 rfl rfl)
theorem dJ0_fill_3 : decode cJ0_fill 3 = .ok (.arraylength, 1) := dk_190 (dk_at dksJ0_fill_0 3 rfl rfl)
theorem dJ0_fill_4 : decode cJ0_fill 4 = .ok (.istore_n 3, 1) := dk_62 (dk_at dksJ0_fill_0 4 rfl rfl)
theorem dJ0_fill_5 : decode cJ0_fill 5 = .ok (.iload_n 2, 1) := dk_28 (dk_at dksJ0_fill_0 5 rfl rfl)
theorem dJ0_fill_6 : decode cJ0_fill 6 = .ok (.iload_n 3, 1) := dk_29 (dk_at dksJ0_fill_0 6 rfl rfl)
theorem dJ0_fill_7 : decode cJ0_fill 7 = .ok (.if_icmp .ge 13, 3) := dk_162 0 13 (dk_at dksJ0_fill_0 7 rfl rfl)
theorem dJ0_fill_10 : decode cJ0_fill 10 = .ok (.aload_n 0, 1) := dk_42 (dk_at dksJ0_fill_0 10 rfl rfl)
theorem dJ0_fill_11 : decode cJ0_fill 11 = .ok (.iload_n 2, 1) := dk_28 (dk_at dksJ0_fill_0 11 rfl rfl)
theorem dJ0_fill_12 : decode cJ0_fill 12 = .ok (.aload_n 1, 1) := dk_43 (dk_at dksJ0_fill_0 12 rfl rfl)
theorem dJ0_fill_13 : decode cJ0_fill 13 = .ok (.aastore, 1) := dk_83 (dk_at dksJ0_fill_0 13 rfl rfl)
theorem dJ0_fill_14 : decode cJ0_fill 14 = .ok (.iinc 2 1, 3) := dk_132 2 1 (dk_at dksJ0_fill_0 14 rfl rfl)
theorem dJ0_fill_17 : decode cJ0_fill 17 = .ok (.goto (-12), 3) := dk_167 255 244 (dk_at dksJ0_fill_0 17 rfl rfl)
theorem dJ0_fill_20 : decode cJ0_fill 20 = .ok (.return_, 1) := dk_177 (dk_at dksJ0_fill_0 20 rfl rfl)
abbrev cJ0_copyOf : ByteArray := prog_51_method_121_code
def yJ0_copyOf : MethodName := ⟨RJ0, "copyOf", "([BI)[B"⟩
def dkwJ0_copyOf_1 : List UInt8 := [27, 184, 1, 48, 184, 0, 150, 44, 176]
abbrev dktJ0_copyOf_1 : List UInt8 := dkwJ0_copyOf_1 ++ []
def dkwJ0_copyOf_0 : List UInt8 := [27, 42, 190, 160, 0, 11, 42, 182, 1, 54, 192, 1, 55, 176, 27, 188, 8, 77, 42, 3, 44, 3, 42, 190]
abbrev dktJ0_copyOf_0 : List UInt8 := dkwJ0_copyOf_0 ++ dktJ0_copyOf_1
theorem dksJ0_copyOf_0 : cJ0_copyOf.data.toList.drop 0 = dktJ0_copyOf_0 := by decide +kernel
theorem dksJ0_copyOf_1 : cJ0_copyOf.data.toList.drop 24 = dktJ0_copyOf_1 := dk_seg dksJ0_copyOf_0 24 rfl rfl
theorem dJ0_copyOf_0 : decode cJ0_copyOf 0 = .ok (.iload_n 1, 1) := dk_27 (dk_at dksJ0_copyOf_0 0 rfl rfl)
theorem dJ0_copyOf_1 : decode cJ0_copyOf 1 = .ok (.aload_n 0, 1) := dk_42 (dk_at dksJ0_copyOf_0 1 rfl rfl)
theorem dJ0_copyOf_2 : decode cJ0_copyOf 2 = .ok (.arraylength, 1) := dk_190 (dk_at dksJ0_copyOf_0 2 rfl rfl)
theorem dJ0_copyOf_3 : decode cJ0_copyOf 3 = .ok (.if_icmp .ne 11, 3) := dk_160 0 11 (dk_at dksJ0_copyOf_0 3 rfl rfl)
theorem dJ0_copyOf_6 : decode cJ0_copyOf 6 = .ok (.aload_n 0, 1) := dk_42 (dk_at dksJ0_copyOf_0 6 rfl rfl)
theorem dJ0_copyOf_7 : decode cJ0_copyOf 7 = .ok (.invokevirtual 310, 3) := dk_182 1 54 (dk_at dksJ0_copyOf_0 7 rfl rfl)
theorem dJ0_copyOf_10 : decode cJ0_copyOf 10 = .ok (.checkcast 311, 3) := dk_192 1 55 (dk_at dksJ0_copyOf_0 10 rfl rfl)
theorem dJ0_copyOf_13 : decode cJ0_copyOf 13 = .ok (.areturn, 1) := dk_176 (dk_at dksJ0_copyOf_0 13 rfl rfl)
theorem dJ0_copyOf_14 : decode cJ0_copyOf 14 = .ok (.iload_n 1, 1) := dk_27 (dk_at dksJ0_copyOf_0 14 rfl rfl)
theorem dJ0_copyOf_15 : decode cJ0_copyOf 15 = .ok (.newarray .byte, 2) := dk_188_8 (dk_at dksJ0_copyOf_0 15 rfl rfl)
theorem dJ0_copyOf_17 : decode cJ0_copyOf 17 = .ok (.astore_n 2, 1) := dk_77 (dk_at dksJ0_copyOf_0 17 rfl rfl)
theorem dJ0_copyOf_18 : decode cJ0_copyOf 18 = .ok (.aload_n 0, 1) := dk_42 (dk_at dksJ0_copyOf_0 18 rfl rfl)
theorem dJ0_copyOf_19 : decode cJ0_copyOf 19 = .ok (.iconst 0, 1) := dk_3 (dk_at dksJ0_copyOf_0 19 rfl rfl)
theorem dJ0_copyOf_20 : decode cJ0_copyOf 20 = .ok (.aload_n 2, 1) := dk_44 (dk_at dksJ0_copyOf_0 20 rfl rfl)
theorem dJ0_copyOf_21 : decode cJ0_copyOf 21 = .ok (.iconst 0, 1) := dk_3 (dk_at dksJ0_copyOf_0 21 rfl rfl)
theorem dJ0_copyOf_22 : decode cJ0_copyOf 22 = .ok (.aload_n 0, 1) := dk_42 (dk_at dksJ0_copyOf_0 22 rfl rfl)
theorem dJ0_copyOf_23 : decode cJ0_copyOf 23 = .ok (.arraylength, 1) := dk_190 (dk_at dksJ0_copyOf_0 23 rfl rfl)
theorem dJ0_copyOf_24 : decode cJ0_copyOf 24 = .ok (.iload_n 1, 1) := dk_27 (dk_at dksJ0_copyOf_1 0 rfl rfl)
theorem dJ0_copyOf_25 : decode cJ0_copyOf 25 = .ok (.invokestatic 304, 3) := dk_184 1 48 (dk_at dksJ0_copyOf_1 1 rfl rfl)
theorem dJ0_copyOf_28 : decode cJ0_copyOf 28 = .ok (.invokestatic 150, 3) := dk_184 0 150 (dk_at dksJ0_copyOf_1 4 rfl rfl)
theorem dJ0_copyOf_31 : decode cJ0_copyOf 31 = .ok (.aload_n 2, 1) := dk_44 (dk_at dksJ0_copyOf_1 7 rfl rfl)
theorem dJ0_copyOf_32 : decode cJ0_copyOf 32 = .ok (.areturn, 1) := dk_176 (dk_at dksJ0_copyOf_1 8 rfl rfl)
abbrev cJ0_copyOfRange : ByteArray := prog_51_method_132_code
def yJ0_copyOfRange : MethodName := ⟨RJ0, "copyOfRange", "([BII)[B"⟩
def dkwJ0_copyOfRange_1 : List UInt8 := [176]
abbrev dktJ0_copyOfRange_1 : List UInt8 := dkwJ0_copyOfRange_1 ++ []
def dkwJ0_copyOfRange_0 : List UInt8 := [27, 154, 0, 9, 28, 42, 190, 159, 0, 10, 42, 27, 28, 184, 1, 83, 176, 42, 182, 1, 54, 192, 1, 55]
abbrev dktJ0_copyOfRange_0 : List UInt8 := dkwJ0_copyOfRange_0 ++ dktJ0_copyOfRange_1
theorem dksJ0_copyOfRange_0 : cJ0_copyOfRange.data.toList.drop 0 = dktJ0_copyOfRange_0 := by decide +kernel
theorem dksJ0_copyOfRange_1 : cJ0_copyOfRange.data.toList.drop 24 = dktJ0_copyOfRange_1 := dk_seg dksJ0_copyOfRange_0 24 rfl rfl
theorem dJ0_copyOfRange_0 : decode cJ0_copyOfRange 0 = .ok (.iload_n 1, 1) := dk_27 (dk_at dksJ0_copyOfRange_0 0 rfl rfl)
theorem dJ0_copyOfRange_1 : decode cJ0_copyOfRange 1 = .ok (.ifCond .ne 9, 3) := dk_154 0 9 (dk_at dksJ0_copyOfRange_0 1 rfl rfl)
theorem dJ0_copyOfRange_4 : decode cJ0_copyOfRange 4 = .ok (.iload_n 2, 1) := dk_28 (dk_at dksJ0_copyOfRange_0 4 rfl rfl)
theorem dJ0_copyOfRange_5 : decode cJ0_copyOfRange 5 = .ok (.aload_n 0, 1) := dk_42 (dk_at dksJ0_copyOfRange_0 5 rfl rfl)
theorem dJ0_copyOfRange_6 : decode cJ0_copyOfRange 6 = .ok (.arraylength, 1) := dk_190 (dk_at dksJ0_copyOfRange_0 6 rfl rfl)
theorem dJ0_copyOfRange_7 : decode cJ0_copyOfRange 7 = .ok (.if_icmp .eq 10, 3) := dk_159 0 10 (dk_at dksJ0_copyOfRange_0 7 rfl rfl)
theorem dJ0_copyOfRange_10 : decode cJ0_copyOfRange 10 = .ok (.aload_n 0, 1) := dk_42 (dk_at dksJ0_copyOfRange_0 10 rfl rfl)
theorem dJ0_copyOfRange_11 : decode cJ0_copyOfRange 11 = .ok (.iload_n 1, 1) := dk_27 (dk_at dksJ0_copyOfRange_0 11 rfl rfl)
theorem dJ0_copyOfRange_12 : decode cJ0_copyOfRange 12 = .ok (.iload_n 2, 1) := dk_28 (dk_at dksJ0_copyOfRange_0 12 rfl rfl)
theorem dJ0_copyOfRange_13 : decode cJ0_copyOfRange 13 = .ok (.invokestatic 339, 3) := dk_184 1 83 (dk_at dksJ0_copyOfRange_0 13 rfl rfl)
theorem dJ0_copyOfRange_16 : decode cJ0_copyOfRange 16 = .ok (.areturn, 1) := dk_176 (dk_at dksJ0_copyOfRange_0 16 rfl rfl)
theorem dJ0_copyOfRange_17 : decode cJ0_copyOfRange 17 = .ok (.aload_n 0, 1) := dk_42 (dk_at dksJ0_copyOfRange_0 17 rfl rfl)
theorem dJ0_copyOfRange_18 : decode cJ0_copyOfRange 18 = .ok (.invokevirtual 310, 3) := dk_182 1 54 (dk_at dksJ0_copyOfRange_0 18 rfl rfl)
theorem dJ0_copyOfRange_21 : decode cJ0_copyOfRange 21 = .ok (.checkcast 311, 3) := dk_192 1 55 (dk_at dksJ0_copyOfRange_0 21 rfl rfl)
theorem dJ0_copyOfRange_24 : decode cJ0_copyOfRange 24 = .ok (.areturn, 1) := dk_176 (dk_at dksJ0_copyOfRange_1 0 rfl rfl)
abbrev cJ0_copyOfRangeByte : ByteArray := prog_51_method_133_code
def yJ0_copyOfRangeByte : MethodName := ⟨RJ0, "copyOfRangeByte", "([BII)[B"⟩
def dkwJ0_copyOfRangeByte_1 : List UInt8 := [184, 1, 48, 184, 0, 150, 25, 4, 176]
abbrev dktJ0_copyOfRangeByte_1 : List UInt8 := dkwJ0_copyOfRangeByte_1 ++ []
def dkwJ0_copyOfRangeByte_0 : List UInt8 := [27, 28, 184, 1, 87, 28, 27, 100, 62, 29, 188, 8, 58, 4, 42, 27, 25, 4, 3, 42, 190, 27, 100, 29]
abbrev dktJ0_copyOfRangeByte_0 : List UInt8 := dkwJ0_copyOfRangeByte_0 ++ dktJ0_copyOfRangeByte_1
theorem dksJ0_copyOfRangeByte_0 : cJ0_copyOfRangeByte.data.toList.drop 0 = dktJ0_copyOfRangeByte_0 := by decide +kernel
theorem dksJ0_copyOfRangeByte_1 : cJ0_copyOfRangeByte.data.toList.drop 24 = dktJ0_copyOfRangeByte_1 := dk_seg dksJ0_copyOfRangeByte_0 24 rfl rfl
theorem dJ0_copyOfRangeByte_0 : decode cJ0_copyOfRangeByte 0 = .ok (.iload_n 1, 1) := dk_27 (dk_at dksJ0_copyOfRangeByte_0 0 rfl rfl)
theorem dJ0_copyOfRangeByte_1 : decode cJ0_copyOfRangeByte 1 = .ok (.iload_n 2, 1) := dk_28 (dk_at dksJ0_copyOfRangeByte_0 1 rfl rfl)
theorem dJ0_copyOfRangeByte_2 : decode cJ0_copyOfRangeByte 2 = .ok (.invokestatic 343, 3) := dk_184 1 87 (dk_at dksJ0_copyOfRangeByte_0 2 rfl rfl)
theorem dJ0_copyOfRangeByte_5 : decode cJ0_copyOfRangeByte 5 = .ok (.iload_n 2, 1) := dk_28 (dk_at dksJ0_copyOfRangeByte_0 5 rfl rfl)
theorem dJ0_copyOfRangeByte_6 : decode cJ0_copyOfRangeByte 6 = .ok (.iload_n 1, 1) := dk_27 (dk_at dksJ0_copyOfRangeByte_0 6 rfl rfl)
theorem dJ0_copyOfRangeByte_7 : decode cJ0_copyOfRangeByte 7 = .ok (.isub, 1) := dk_100 (dk_at dksJ0_copyOfRangeByte_0 7 rfl rfl)
theorem dJ0_copyOfRangeByte_8 : decode cJ0_copyOfRangeByte 8 = .ok (.istore_n 3, 1) := dk_62 (dk_at dksJ0_copyOfRangeByte_0 8 rfl rfl)
theorem dJ0_copyOfRangeByte_9 : decode cJ0_copyOfRangeByte 9 = .ok (.iload_n 3, 1) := dk_29 (dk_at dksJ0_copyOfRangeByte_0 9 rfl rfl)
theorem dJ0_copyOfRangeByte_10 : decode cJ0_copyOfRangeByte 10 = .ok (.newarray .byte, 2) := dk_188_8 (dk_at dksJ0_copyOfRangeByte_0 10 rfl rfl)
theorem dJ0_copyOfRangeByte_12 : decode cJ0_copyOfRangeByte 12 = .ok (.astore 4, 2) := dk_58 4 (dk_at dksJ0_copyOfRangeByte_0 12 rfl rfl)
theorem dJ0_copyOfRangeByte_14 : decode cJ0_copyOfRangeByte 14 = .ok (.aload_n 0, 1) := dk_42 (dk_at dksJ0_copyOfRangeByte_0 14 rfl rfl)
theorem dJ0_copyOfRangeByte_15 : decode cJ0_copyOfRangeByte 15 = .ok (.iload_n 1, 1) := dk_27 (dk_at dksJ0_copyOfRangeByte_0 15 rfl rfl)
theorem dJ0_copyOfRangeByte_16 : decode cJ0_copyOfRangeByte 16 = .ok (.aload 4, 2) := dk_25 4 (dk_at dksJ0_copyOfRangeByte_0 16 rfl rfl)
theorem dJ0_copyOfRangeByte_18 : decode cJ0_copyOfRangeByte 18 = .ok (.iconst 0, 1) := dk_3 (dk_at dksJ0_copyOfRangeByte_0 18 rfl rfl)
theorem dJ0_copyOfRangeByte_19 : decode cJ0_copyOfRangeByte 19 = .ok (.aload_n 0, 1) := dk_42 (dk_at dksJ0_copyOfRangeByte_0 19 rfl rfl)
theorem dJ0_copyOfRangeByte_20 : decode cJ0_copyOfRangeByte 20 = .ok (.arraylength, 1) := dk_190 (dk_at dksJ0_copyOfRangeByte_0 20 rfl rfl)
theorem dJ0_copyOfRangeByte_21 : decode cJ0_copyOfRangeByte 21 = .ok (.iload_n 1, 1) := dk_27 (dk_at dksJ0_copyOfRangeByte_0 21 rfl rfl)
theorem dJ0_copyOfRangeByte_22 : decode cJ0_copyOfRangeByte 22 = .ok (.isub, 1) := dk_100 (dk_at dksJ0_copyOfRangeByte_0 22 rfl rfl)
theorem dJ0_copyOfRangeByte_23 : decode cJ0_copyOfRangeByte 23 = .ok (.iload_n 3, 1) := dk_29 (dk_at dksJ0_copyOfRangeByte_0 23 rfl rfl)
theorem dJ0_copyOfRangeByte_24 : decode cJ0_copyOfRangeByte 24 = .ok (.invokestatic 304, 3) := dk_184 1 48 (dk_at dksJ0_copyOfRangeByte_1 0 rfl rfl)
theorem dJ0_copyOfRangeByte_27 : decode cJ0_copyOfRangeByte 27 = .ok (.invokestatic 150, 3) := dk_184 0 150 (dk_at dksJ0_copyOfRangeByte_1 3 rfl rfl)
theorem dJ0_copyOfRangeByte_30 : decode cJ0_copyOfRangeByte 30 = .ok (.aload 4, 2) := dk_25 4 (dk_at dksJ0_copyOfRangeByte_1 6 rfl rfl)
theorem dJ0_copyOfRangeByte_32 : decode cJ0_copyOfRangeByte 32 = .ok (.areturn, 1) := dk_176 (dk_at dksJ0_copyOfRangeByte_1 8 rfl rfl)
abbrev cJ0_checkLength : ByteArray := prog_51_method_131_code
def yJ0_checkLength : MethodName := ⟨RJ0, "checkLength", "(II)V"⟩
def dkwJ0_checkLength_1 : List UInt8 := [182, 0, 50, 27, 182, 0, 54, 182, 0, 61, 183, 0, 65, 191, 177]
abbrev dktJ0_checkLength_1 : List UInt8 := dkwJ0_checkLength_1 ++ []
def dkwJ0_checkLength_0 : List UInt8 := [27, 26, 162, 0, 35, 187, 0, 43, 89, 187, 0, 45, 89, 183, 0, 47, 26, 182, 0, 54, 19, 1, 81]
abbrev dktJ0_checkLength_0 : List UInt8 := dkwJ0_checkLength_0 ++ dktJ0_checkLength_1
theorem dksJ0_checkLength_0 : cJ0_checkLength.data.toList.drop 0 = dktJ0_checkLength_0 := by decide +kernel
theorem dksJ0_checkLength_1 : cJ0_checkLength.data.toList.drop 23 = dktJ0_checkLength_1 := dk_seg dksJ0_checkLength_0 23 rfl rfl
theorem dJ0_checkLength_0 : decode cJ0_checkLength 0 = .ok (.iload_n 1, 1) := dk_27 (dk_at dksJ0_checkLength_0 0 rfl rfl)
theorem dJ0_checkLength_1 : decode cJ0_checkLength 1 = .ok (.iload_n 0, 1) := dk_26 (dk_at dksJ0_checkLength_0 1 rfl rfl)
theorem dJ0_checkLength_2 : decode cJ0_checkLength 2 = .ok (.if_icmp .ge 35, 3) := dk_162 0 35 (dk_at dksJ0_checkLength_0 2 rfl rfl)
theorem dJ0_checkLength_5 : decode cJ0_checkLength 5 = .ok (.new 43, 3) := dk_187 0 43 (dk_at dksJ0_checkLength_0 5 rfl rfl)
theorem dJ0_checkLength_8 : decode cJ0_checkLength 8 = .ok (.dup, 1) := dk_89 (dk_at dksJ0_checkLength_0 8 rfl rfl)
theorem dJ0_checkLength_9 : decode cJ0_checkLength 9 = .ok (.new 45, 3) := dk_187 0 45 (dk_at dksJ0_checkLength_0 9 rfl rfl)
theorem dJ0_checkLength_12 : decode cJ0_checkLength 12 = .ok (.dup, 1) := dk_89 (dk_at dksJ0_checkLength_0 12 rfl rfl)
theorem dJ0_checkLength_13 : decode cJ0_checkLength 13 = .ok (.invokespecial 47, 3) := dk_183 0 47 (dk_at dksJ0_checkLength_0 13 rfl rfl)
theorem dJ0_checkLength_16 : decode cJ0_checkLength 16 = .ok (.iload_n 0, 1) := dk_26 (dk_at dksJ0_checkLength_0 16 rfl rfl)
theorem dJ0_checkLength_17 : decode cJ0_checkLength 17 = .ok (.invokevirtual 54, 3) := dk_182 0 54 (dk_at dksJ0_checkLength_0 17 rfl rfl)
theorem dJ0_checkLength_20 : decode cJ0_checkLength 20 = .ok (.ldc_w 337, 3) := dk_19 1 81 (dk_at dksJ0_checkLength_0 20 rfl rfl)
theorem dJ0_checkLength_23 : decode cJ0_checkLength 23 = .ok (.invokevirtual 50, 3) := dk_182 0 50 (dk_at dksJ0_checkLength_1 0 rfl rfl)
theorem dJ0_checkLength_26 : decode cJ0_checkLength 26 = .ok (.iload_n 1, 1) := dk_27 (dk_at dksJ0_checkLength_1 3 rfl rfl)
theorem dJ0_checkLength_27 : decode cJ0_checkLength 27 = .ok (.invokevirtual 54, 3) := dk_182 0 54 (dk_at dksJ0_checkLength_1 4 rfl rfl)
theorem dJ0_checkLength_30 : decode cJ0_checkLength 30 = .ok (.invokevirtual 61, 3) := dk_182 0 61 (dk_at dksJ0_checkLength_1 7 rfl rfl)
theorem dJ0_checkLength_33 : decode cJ0_checkLength 33 = .ok (.invokespecial 65, 3) := dk_183 0 65 (dk_at dksJ0_checkLength_1 10 rfl rfl)
theorem dJ0_checkLength_36 : decode cJ0_checkLength 36 = .ok (.athrow, 1) := dk_191 (dk_at dksJ0_checkLength_1 13 rfl rfl)
theorem dJ0_checkLength_37 : decode cJ0_checkLength 37 = .ok (.return_, 1) := dk_177 (dk_at dksJ0_checkLength_1 14 rfl rfl)
abbrev cJ0_asList : ByteArray := prog_51_method_148_code
def yJ0_asList : MethodName := ⟨RJ0, "asList", "([Ljava/lang/Object;)Ljava/util/List;"⟩
def dkwJ0_asList_0 : List UInt8 := [187, 1, 119, 89, 42, 183, 1, 121, 176]
abbrev dktJ0_asList_0 : List UInt8 := dkwJ0_asList_0 ++ []
theorem dksJ0_asList_0 : cJ0_asList.data.toList.drop 0 = dktJ0_asList_0 := by decide +kernel
theorem dJ0_asList_0 : decode cJ0_asList 0 = .ok (.new 375, 3) := dk_187 1 119 (dk_at dksJ0_asList_0 0 rfl rfl)
theorem dJ0_asList_3 : decode cJ0_asList 3 = .ok (.dup, 1) := dk_89 (dk_at dksJ0_asList_0 3 rfl rfl)
theorem dJ0_asList_4 : decode cJ0_asList 4 = .ok (.aload_n 0, 1) := dk_42 (dk_at dksJ0_asList_0 4 rfl rfl)
theorem dJ0_asList_5 : decode cJ0_asList 5 = .ok (.invokespecial 377, 3) := dk_183 1 121 (dk_at dksJ0_asList_0 5 rfl rfl)
theorem dJ0_asList_8 : decode cJ0_asList 8 = .ok (.areturn, 1) := dk_176 (dk_at dksJ0_asList_0 8 rfl rfl)
abbrev cJ0_fill_2 : ByteArray := prog_51_method_105_code
def yJ0_fill_2 : MethodName := ⟨RJ0, "fill", "([SS)V"⟩
def dkwJ0_fill_2_0 : List UInt8 := [3, 61, 42, 190, 62, 28, 29, 162, 0, 13, 42, 28, 27, 86, 132, 2, 1, 167, 255, 244, 177]
abbrev dktJ0_fill_2_0 : List UInt8 := dkwJ0_fill_2_0 ++ []
theorem dksJ0_fill_2_0 : cJ0_fill_2.data.toList.drop 0 = dktJ0_fill_2_0 := by decide +kernel
theorem dJ0_fill_2_0 : decode cJ0_fill_2 0 = .ok (.iconst 0, 1) := dk_3 (dk_at dksJ0_fill_2_0 0 rfl rfl)
theorem dJ0_fill_2_1 : decode cJ0_fill_2 1 = .ok (.istore_n 2, 1) := dk_61 (dk_at dksJ0_fill_2_0 1 rfl rfl)
theorem dJ0_fill_2_2 : decode cJ0_fill_2 2 = .ok (.aload_n 0, 1) := dk_42 (dk_at dksJ0_fill_2_0 2 rfl rfl)
theorem dJ0_fill_2_3 : decode cJ0_fill_2 3 = .ok (.arraylength, 1) := dk_190 (dk_at dksJ0_fill_2_0 3 rfl rfl)
theorem dJ0_fill_2_4 : decode cJ0_fill_2 4 = .ok (.istore_n 3, 1) := dk_62 (dk_at dksJ0_fill_2_0 4 rfl rfl)
theorem dJ0_fill_2_5 : decode cJ0_fill_2 5 = .ok (.iload_n 2, 1) := dk_28 (dk_at dksJ0_fill_2_0 5 rfl rfl)
theorem dJ0_fill_2_6 : decode cJ0_fill_2 6 = .ok (.iload_n 3, 1) := dk_29 (dk_at dksJ0_fill_2_0 6 rfl rfl)
theorem dJ0_fill_2_7 : decode cJ0_fill_2 7 = .ok (.if_icmp .ge 13, 3) := dk_162 0 13 (dk_at dksJ0_fill_2_0 7 rfl rfl)
theorem dJ0_fill_2_10 : decode cJ0_fill_2 10 = .ok (.aload_n 0, 1) := dk_42 (dk_at dksJ0_fill_2_0 10 rfl rfl)
theorem dJ0_fill_2_11 : decode cJ0_fill_2 11 = .ok (.iload_n 2, 1) := dk_28 (dk_at dksJ0_fill_2_0 11 rfl rfl)
theorem dJ0_fill_2_12 : decode cJ0_fill_2 12 = .ok (.iload_n 1, 1) := dk_27 (dk_at dksJ0_fill_2_0 12 rfl rfl)
theorem dJ0_fill_2_13 : decode cJ0_fill_2 13 = .ok (.sastore, 1) := dk_86 (dk_at dksJ0_fill_2_0 13 rfl rfl)
theorem dJ0_fill_2_14 : decode cJ0_fill_2 14 = .ok (.iinc 2 1, 3) := dk_132 2 1 (dk_at dksJ0_fill_2_0 14 rfl rfl)
theorem dJ0_fill_2_17 : decode cJ0_fill_2 17 = .ok (.goto (-12), 3) := dk_167 255 244 (dk_at dksJ0_fill_2_0 17 rfl rfl)
theorem dJ0_fill_2_20 : decode cJ0_fill_2 20 = .ok (.return_, 1) := dk_177 (dk_at dksJ0_fill_2_0 20 rfl rfl)
abbrev cJ0_copyOf_2 : ByteArray := prog_51_method_119_code
def yJ0_copyOf_2 : MethodName := ⟨RJ0, "copyOf", "([Ljava/lang/Object;I)[Ljava/lang/Object;"⟩
def dkwJ0_copyOf_2_0 : List UInt8 := [42, 27, 42, 182, 0, 86, 184, 1, 44, 176]
abbrev dktJ0_copyOf_2_0 : List UInt8 := dkwJ0_copyOf_2_0 ++ []
theorem dksJ0_copyOf_2_0 : cJ0_copyOf_2.data.toList.drop 0 = dktJ0_copyOf_2_0 := by decide +kernel
theorem dJ0_copyOf_2_0 : decode cJ0_copyOf_2 0 = .ok (.aload_n 0, 1) := dk_42 (dk_at dksJ0_copyOf_2_0 0 rfl rfl)
theorem dJ0_copyOf_2_1 : decode cJ0_copyOf_2 1 = .ok (.iload_n 1, 1) := dk_27 (dk_at dksJ0_copyOf_2_0 1 rfl rfl)
theorem dJ0_copyOf_2_2 : decode cJ0_copyOf_2 2 = .ok (.aload_n 0, 1) := dk_42 (dk_at dksJ0_copyOf_2_0 2 rfl rfl)
theorem dJ0_copyOf_2_3 : decode cJ0_copyOf_2 3 = .ok (.invokevirtual 86, 3) := dk_182 0 86 (dk_at dksJ0_copyOf_2_0 3 rfl rfl)
theorem dJ0_copyOf_2_6 : decode cJ0_copyOf_2 6 = .ok (.invokestatic 300, 3) := dk_184 1 44 (dk_at dksJ0_copyOf_2_0 6 rfl rfl)
theorem dJ0_copyOf_2_9 : decode cJ0_copyOf_2 9 = .ok (.areturn, 1) := dk_176 (dk_at dksJ0_copyOf_2_0 9 rfl rfl)
abbrev cJ0_copyOf_3 : ByteArray := prog_51_method_120_code
def yJ0_copyOf_3 : MethodName := ⟨RJ0, "copyOf", "([Ljava/lang/Object;ILjava/lang/Class;)[Ljava/lang/Object;"⟩
def dkwJ0_copyOf_3_1 : List UInt8 := [78, 42, 3, 45, 3, 42, 190, 27, 184, 1, 48, 184, 0, 150, 45, 176]
abbrev dktJ0_copyOf_3_1 : List UInt8 := dkwJ0_copyOf_3_1 ++ []
def dkwJ0_copyOf_3_0 : List UInt8 := [44, 18, 110, 166, 0, 10, 27, 189, 0, 2, 167, 0, 14, 44, 182, 0, 90, 27, 184, 0, 95, 192, 0, 110]
abbrev dktJ0_copyOf_3_0 : List UInt8 := dkwJ0_copyOf_3_0 ++ dktJ0_copyOf_3_1
theorem dksJ0_copyOf_3_0 : cJ0_copyOf_3.data.toList.drop 0 = dktJ0_copyOf_3_0 := by decide +kernel
theorem dksJ0_copyOf_3_1 : cJ0_copyOf_3.data.toList.drop 24 = dktJ0_copyOf_3_1 := dk_seg dksJ0_copyOf_3_0 24 rfl rfl
theorem dJ0_copyOf_3_0 : decode cJ0_copyOf_3 0 = .ok (.aload_n 2, 1) := dk_44 (dk_at dksJ0_copyOf_3_0 0 rfl rfl)
theorem dJ0_copyOf_3_1 : decode cJ0_copyOf_3 1 = .ok (.ldc 110, 2) := dk_18 110 (dk_at dksJ0_copyOf_3_0 1 rfl rfl)
theorem dJ0_copyOf_3_3 : decode cJ0_copyOf_3 3 = .ok (.if_acmp .ne 10, 3) := dk_166 0 10 (dk_at dksJ0_copyOf_3_0 3 rfl rfl)
theorem dJ0_copyOf_3_6 : decode cJ0_copyOf_3 6 = .ok (.iload_n 1, 1) := dk_27 (dk_at dksJ0_copyOf_3_0 6 rfl rfl)
theorem dJ0_copyOf_3_7 : decode cJ0_copyOf_3 7 = .ok (.anewarray 2, 3) := dk_189 0 2 (dk_at dksJ0_copyOf_3_0 7 rfl rfl)
theorem dJ0_copyOf_3_10 : decode cJ0_copyOf_3 10 = .ok (.goto 14, 3) := dk_167 0 14 (dk_at dksJ0_copyOf_3_0 10 rfl rfl)
theorem dJ0_copyOf_3_13 : decode cJ0_copyOf_3 13 = .ok (.aload_n 2, 1) := dk_44 (dk_at dksJ0_copyOf_3_0 13 rfl rfl)
theorem dJ0_copyOf_3_14 : decode cJ0_copyOf_3 14 = .ok (.invokevirtual 90, 3) := dk_182 0 90 (dk_at dksJ0_copyOf_3_0 14 rfl rfl)
theorem dJ0_copyOf_3_17 : decode cJ0_copyOf_3 17 = .ok (.iload_n 1, 1) := dk_27 (dk_at dksJ0_copyOf_3_0 17 rfl rfl)
theorem dJ0_copyOf_3_18 : decode cJ0_copyOf_3 18 = .ok (.invokestatic 95, 3) := dk_184 0 95 (dk_at dksJ0_copyOf_3_0 18 rfl rfl)
theorem dJ0_copyOf_3_21 : decode cJ0_copyOf_3 21 = .ok (.checkcast 110, 3) := dk_192 0 110 (dk_at dksJ0_copyOf_3_0 21 rfl rfl)
theorem dJ0_copyOf_3_24 : decode cJ0_copyOf_3 24 = .ok (.astore_n 3, 1) := dk_78 (dk_at dksJ0_copyOf_3_1 0 rfl rfl)
theorem dJ0_copyOf_3_25 : decode cJ0_copyOf_3 25 = .ok (.aload_n 0, 1) := dk_42 (dk_at dksJ0_copyOf_3_1 1 rfl rfl)
theorem dJ0_copyOf_3_26 : decode cJ0_copyOf_3 26 = .ok (.iconst 0, 1) := dk_3 (dk_at dksJ0_copyOf_3_1 2 rfl rfl)
theorem dJ0_copyOf_3_27 : decode cJ0_copyOf_3 27 = .ok (.aload_n 3, 1) := dk_45 (dk_at dksJ0_copyOf_3_1 3 rfl rfl)
theorem dJ0_copyOf_3_28 : decode cJ0_copyOf_3 28 = .ok (.iconst 0, 1) := dk_3 (dk_at dksJ0_copyOf_3_1 4 rfl rfl)
theorem dJ0_copyOf_3_29 : decode cJ0_copyOf_3 29 = .ok (.aload_n 0, 1) := dk_42 (dk_at dksJ0_copyOf_3_1 5 rfl rfl)
theorem dJ0_copyOf_3_30 : decode cJ0_copyOf_3 30 = .ok (.arraylength, 1) := dk_190 (dk_at dksJ0_copyOf_3_1 6 rfl rfl)
theorem dJ0_copyOf_3_31 : decode cJ0_copyOf_3 31 = .ok (.iload_n 1, 1) := dk_27 (dk_at dksJ0_copyOf_3_1 7 rfl rfl)
theorem dJ0_copyOf_3_32 : decode cJ0_copyOf_3 32 = .ok (.invokestatic 304, 3) := dk_184 1 48 (dk_at dksJ0_copyOf_3_1 8 rfl rfl)
theorem dJ0_copyOf_3_35 : decode cJ0_copyOf_3 35 = .ok (.invokestatic 150, 3) := dk_184 0 150 (dk_at dksJ0_copyOf_3_1 11 rfl rfl)
theorem dJ0_copyOf_3_38 : decode cJ0_copyOf_3 38 = .ok (.aload_n 3, 1) := dk_45 (dk_at dksJ0_copyOf_3_1 14 rfl rfl)
theorem dJ0_copyOf_3_39 : decode cJ0_copyOf_3 39 = .ok (.areturn, 1) := dk_176 (dk_at dksJ0_copyOf_3_1 15 rfl rfl)
theorem q52 : (Jvm.Cond.initialized "java/util/Arrays") ∈ lw_all := lw_g (lw_at lw_m1 4 rfl) rfl
theorem q168 : (Jvm.Cond.static ({ cls := "java/util/Arrays", name := "fill", desc := "([Ljava/lang/Object;Ljava/lang/Object;)V" } : Jvm.MethodName)) ∈ lw_all := lw_g (lw_at lw_m1 120 rfl) rfl
theorem q169 : (Jvm.Cond.code ({ cls := "java/util/Arrays", name := "fill", desc := "([Ljava/lang/Object;Ljava/lang/Object;)V" } : Jvm.MethodName) prog_51_method_117_code (4 : Nat) (Option.none : Option Jvm.ClassFile.FieldType)) ∈ lw_all := lw_g (lw_at lw_m1 121 rfl) rfl
theorem q346 : (Jvm.Cond.static ({ cls := "java/util/Arrays", name := "copyOf", desc := "([BI)[B" } : Jvm.MethodName)) ∈ lw_all := lw_g (lw_at lw_m2 58 rfl) rfl
theorem q347 : (Jvm.Cond.code ({ cls := "java/util/Arrays", name := "copyOf", desc := "([BI)[B" } : Jvm.MethodName) prog_51_method_121_code (3 : Nat) (Option.some (Jvm.ClassFile.FieldType.array Jvm.ClassFile.FieldType.byte))) ∈ lw_all := lw_g (lw_at lw_m2 59 rfl) rfl
theorem q348 : (Jvm.Cond.methodLink "java/util/Arrays" (310 : Nat) ({ cls := "[B", name := "clone", desc := "()Ljava/lang/Object;" } : Jvm.MethodName)) ∈ lw_all := lw_g (lw_at lw_m2 60 rfl) rfl
theorem q354 : (Jvm.Cond.classLink "java/util/Arrays" (311 : Nat) "[B") ∈ lw_all := lw_g (lw_at lw_m2 66 rfl) rfl
theorem q355 : (Jvm.Cond.methodLink "java/util/Arrays" (304 : Nat) ({ cls := "java/lang/Math", name := "min", desc := "(II)I" } : Jvm.MethodName)) ∈ lw_all := lw_g (lw_at lw_m2 67 rfl) rfl
theorem q358 : (Jvm.Cond.methodLink "java/util/Arrays" (150 : Nat) ({ cls := "java/lang/System", name := "arraycopy", desc := "(Ljava/lang/Object;ILjava/lang/Object;II)V" } : Jvm.MethodName)) ∈ lw_all := lw_g (lw_at lw_m2 70 rfl) rfl
theorem q440 : (Jvm.Cond.static ({ cls := "java/util/Arrays", name := "copyOfRange", desc := "([BII)[B" } : Jvm.MethodName)) ∈ lw_all := lw_g (lw_at lw_m2 152 rfl) rfl
theorem q441 : (Jvm.Cond.code ({ cls := "java/util/Arrays", name := "copyOfRange", desc := "([BII)[B" } : Jvm.MethodName) prog_51_method_132_code (3 : Nat) (Option.some (Jvm.ClassFile.FieldType.array Jvm.ClassFile.FieldType.byte))) ∈ lw_all := lw_g (lw_at lw_m2 153 rfl) rfl
theorem q442 : (Jvm.Cond.methodLink "java/util/Arrays" (339 : Nat) ({ cls := "java/util/Arrays", name := "copyOfRangeByte", desc := "([BII)[B" } : Jvm.MethodName)) ∈ lw_all := lw_g (lw_at lw_m2 154 rfl) rfl
theorem q443 : (Jvm.Cond.static ({ cls := "java/util/Arrays", name := "copyOfRangeByte", desc := "([BII)[B" } : Jvm.MethodName)) ∈ lw_all := lw_g (lw_at lw_m2 155 rfl) rfl
theorem q444 : (Jvm.Cond.code ({ cls := "java/util/Arrays", name := "copyOfRangeByte", desc := "([BII)[B" } : Jvm.MethodName) prog_51_method_133_code (5 : Nat) (Option.some (Jvm.ClassFile.FieldType.array Jvm.ClassFile.FieldType.byte))) ∈ lw_all := lw_g (lw_at lw_m2 156 rfl) rfl
theorem q445 : (Jvm.Cond.methodLink "java/util/Arrays" (343 : Nat) ({ cls := "java/util/Arrays", name := "checkLength", desc := "(II)V" } : Jvm.MethodName)) ∈ lw_all := lw_g (lw_at lw_m2 157 rfl) rfl
theorem q446 : (Jvm.Cond.static ({ cls := "java/util/Arrays", name := "checkLength", desc := "(II)V" } : Jvm.MethodName)) ∈ lw_all := lw_g (lw_at lw_m2 158 rfl) rfl
theorem q447 : (Jvm.Cond.code ({ cls := "java/util/Arrays", name := "checkLength", desc := "(II)V" } : Jvm.MethodName) prog_51_method_131_code (2 : Nat) (Option.none : Option Jvm.ClassFile.FieldType)) ∈ lw_all := lw_g (lw_at lw_m2 159 rfl) rfl
theorem q476 : (Jvm.Cond.static ({ cls := "java/util/Arrays", name := "asList", desc := "([Ljava/lang/Object;)Ljava/util/List;" } : Jvm.MethodName)) ∈ lw_all := lw_g (lw_at lw_m2 188 rfl) rfl
theorem q477 : (Jvm.Cond.code ({ cls := "java/util/Arrays", name := "asList", desc := "([Ljava/lang/Object;)Ljava/util/List;" } : Jvm.MethodName) prog_51_method_148_code (1 : Nat) (Option.some (Jvm.ClassFile.FieldType.object "java/util/List"))) ∈ lw_all := lw_g (lw_at lw_m2 189 rfl) rfl
theorem q478 : (Jvm.Cond.classLink "java/util/Arrays" (375 : Nat) "java/util/Arrays$ArrayList") ∈ lw_all := lw_g (lw_at lw_m2 190 rfl) rfl
theorem q480 : (Jvm.Cond.methodLink "java/util/Arrays" (377 : Nat) ({ cls := "java/util/Arrays$ArrayList", name := "<init>", desc := "([Ljava/lang/Object;)V" } : Jvm.MethodName)) ∈ lw_all := lw_g (lw_at lw_m2 192 rfl) rfl
theorem q749 : (Jvm.Cond.static ({ cls := "java/util/Arrays", name := "fill", desc := "([SS)V" } : Jvm.MethodName)) ∈ lw_all := lw_g (lw_at lw_m3 221 rfl) rfl
theorem q750 : (Jvm.Cond.code ({ cls := "java/util/Arrays", name := "fill", desc := "([SS)V" } : Jvm.MethodName) prog_51_method_105_code (4 : Nat) (Option.none : Option Jvm.ClassFile.FieldType)) ∈ lw_all := lw_g (lw_at lw_m3 222 rfl) rfl
theorem q1634 : (Jvm.Cond.static ({ cls := "java/util/Arrays", name := "copyOf", desc := "([Ljava/lang/Object;I)[Ljava/lang/Object;" } : Jvm.MethodName)) ∈ lw_all := lw_g (lw_at lw_m7 146 rfl) rfl
theorem q1635 : (Jvm.Cond.code ({ cls := "java/util/Arrays", name := "copyOf", desc := "([Ljava/lang/Object;I)[Ljava/lang/Object;" } : Jvm.MethodName) prog_51_method_119_code (2 : Nat) (Option.some (Jvm.ClassFile.FieldType.array (Jvm.ClassFile.FieldType.object "java/lang/Object")))) ∈ lw_all := lw_g (lw_at lw_m7 147 rfl) rfl
theorem q1636 : (Jvm.Cond.methodLink "java/util/Arrays" (86 : Nat) ({ cls := "java/lang/Object", name := "getClass", desc := "()Ljava/lang/Class;" } : Jvm.MethodName)) ∈ lw_all := lw_g (lw_at lw_m7 148 rfl) rfl
theorem q1637 : (Jvm.Cond.methodLink "java/util/Arrays" (300 : Nat) ({ cls := "java/util/Arrays", name := "copyOf", desc := "([Ljava/lang/Object;ILjava/lang/Class;)[Ljava/lang/Object;" } : Jvm.MethodName)) ∈ lw_all := lw_g (lw_at lw_m7 149 rfl) rfl
theorem q1638 : (Jvm.Cond.static ({ cls := "java/util/Arrays", name := "copyOf", desc := "([Ljava/lang/Object;ILjava/lang/Class;)[Ljava/lang/Object;" } : Jvm.MethodName)) ∈ lw_all := lw_g (lw_at lw_m7 150 rfl) rfl
theorem q1639 : (Jvm.Cond.code ({ cls := "java/util/Arrays", name := "copyOf", desc := "([Ljava/lang/Object;ILjava/lang/Class;)[Ljava/lang/Object;" } : Jvm.MethodName) prog_51_method_120_code (4 : Nat) (Option.some (Jvm.ClassFile.FieldType.array (Jvm.ClassFile.FieldType.object "java/lang/Object")))) ∈ lw_all := lw_g (lw_at lw_m7 151 rfl) rfl
theorem q1640 : (Jvm.Cond.classLink "java/util/Arrays" (110 : Nat) "[Ljava/lang/Object;") ∈ lw_all := lw_g (lw_at lw_m7 152 rfl) rfl
theorem q1641 : (Jvm.Cond.classLink "java/util/Arrays" (2 : Nat) "java/lang/Object") ∈ lw_all := lw_g (lw_at lw_m7 153 rfl) rfl
/-! java/lang/AbstractStringBuilder -/
set_option maxRecDepth 100000
def RJ1 : String := "java/lang/AbstractStringBuilder"
abbrev cJ1_init : ByteArray := prog_16_method_2_code
def yJ1_init : MethodName := ⟨RJ1, "<init>", "(I)V"⟩
def dkwJ1_init_1 : List UInt8 := [167, 0, 16, 42, 27, 184, 0, 26, 181, 0, 15, 42, 4, 181, 0, 22, 177]
abbrev dktJ1_init_1 : List UInt8 := dkwJ1_init_1 ++ []
def dkwJ1_init_0 : List UInt8 := [42, 183, 0, 3, 178, 0, 18, 153, 0, 18, 42, 27, 188, 8, 181, 0, 15, 42, 3, 181, 0, 22]
abbrev dktJ1_init_0 : List UInt8 := dkwJ1_init_0 ++ dktJ1_init_1
theorem dksJ1_init_0 : cJ1_init.data.toList.drop 0 = dktJ1_init_0 := by decide +kernel
theorem dksJ1_init_1 : cJ1_init.data.toList.drop 22 = dktJ1_init_1 := dk_seg dksJ1_init_0 22 rfl rfl
theorem dJ1_init_0 : decode cJ1_init 0 = .ok (.aload_n 0, 1) := dk_42 (dk_at dksJ1_init_0 0 rfl rfl)
theorem dJ1_init_1 : decode cJ1_init 1 = .ok (.invokespecial 3, 3) := dk_183 0 3 (dk_at dksJ1_init_0 1 rfl rfl)
theorem dJ1_init_4 : decode cJ1_init 4 = .ok (.getstatic 18, 3) := dk_178 0 18 (dk_at dksJ1_init_0 4 rfl rfl)
theorem dJ1_init_7 : decode cJ1_init 7 = .ok (.ifCond .eq 18, 3) := dk_153 0 18 (dk_at dksJ1_init_0 7 rfl rfl)
theorem dJ1_init_10 : decode cJ1_init 10 = .ok (.aload_n 0, 1) := dk_42 (dk_at dksJ1_init_0 10 rfl rfl)
theorem dJ1_init_11 : decode cJ1_init 11 = .ok (.iload_n 1, 1) := dk_27 (dk_at dksJ1_init_0 11 rfl rfl)
theorem dJ1_init_12 : decode cJ1_init 12 = .ok (.newarray .byte, 2) := dk_188_8 (dk_at dksJ1_init_0 12 rfl rfl)
theorem dJ1_init_14 : decode cJ1_init 14 = .ok (.putfield 15, 3) := dk_181 0 15 (dk_at dksJ1_init_0 14 rfl rfl)
theorem dJ1_init_17 : decode cJ1_init 17 = .ok (.aload_n 0, 1) := dk_42 (dk_at dksJ1_init_0 17 rfl rfl)
theorem dJ1_init_18 : decode cJ1_init 18 = .ok (.iconst 0, 1) := dk_3 (dk_at dksJ1_init_0 18 rfl rfl)
theorem dJ1_init_19 : decode cJ1_init 19 = .ok (.putfield 22, 3) := dk_181 0 22 (dk_at dksJ1_init_0 19 rfl rfl)
theorem dJ1_init_22 : decode cJ1_init 22 = .ok (.goto 16, 3) := dk_167 0 16 (dk_at dksJ1_init_1 0 rfl rfl)
theorem dJ1_init_25 : decode cJ1_init 25 = .ok (.aload_n 0, 1) := dk_42 (dk_at dksJ1_init_1 3 rfl rfl)
theorem dJ1_init_26 : decode cJ1_init 26 = .ok (.iload_n 1, 1) := dk_27 (dk_at dksJ1_init_1 4 rfl rfl)
theorem dJ1_init_27 : decode cJ1_init 27 = .ok (.invokestatic 26, 3) := dk_184 0 26 (dk_at dksJ1_init_1 5 rfl rfl)
theorem dJ1_init_30 : decode cJ1_init 30 = .ok (.putfield 15, 3) := dk_181 0 15 (dk_at dksJ1_init_1 8 rfl rfl)
theorem dJ1_init_33 : decode cJ1_init 33 = .ok (.aload_n 0, 1) := dk_42 (dk_at dksJ1_init_1 11 rfl rfl)
theorem dJ1_init_34 : decode cJ1_init 34 = .ok (.iconst 1, 1) := dk_4 (dk_at dksJ1_init_1 12 rfl rfl)
theorem dJ1_init_35 : decode cJ1_init 35 = .ok (.putfield 22, 3) := dk_181 0 22 (dk_at dksJ1_init_1 13 rfl rfl)
theorem dJ1_init_38 : decode cJ1_init 38 = .ok (.return_, 1) := dk_177 (dk_at dksJ1_init_1 16 rfl rfl)
abbrev cJ1_append : ByteArray := prog_16_method_31_code
def yJ1_append : MethodName := ⟨RJ1, "append", "(C)Ljava/lang/AbstractStringBuilder;"⟩
def dkwJ1_append_3 : List UInt8 := [181, 0, 79, 27, 184, 0, 197, 42, 176]
abbrev dktJ1_append_3 : List UInt8 := dkwJ1_append_3 ++ []
def dkwJ1_append_2 : List UInt8 := [182, 0, 83, 153, 0, 7, 42, 182, 0, 195, 42, 180, 0, 15, 42, 89, 180, 0, 79, 90, 4, 96]
abbrev dktJ1_append_2 : List UInt8 := dkwJ1_append_2 ++ dktJ1_append_3
def dkwJ1_append_1 : List UInt8 := [42, 180, 0, 15, 42, 89, 180, 0, 79, 90, 4, 96, 181, 0, 79, 27, 145, 84, 167, 0, 33, 42]
abbrev dktJ1_append_1 : List UInt8 := dkwJ1_append_1 ++ dktJ1_append_2
def dkwJ1_append_0 : List UInt8 := [42, 42, 180, 0, 79, 4, 96, 182, 0, 100, 42, 182, 0, 83, 153, 0, 31, 27, 184, 0, 191, 153, 0, 24]
abbrev dktJ1_append_0 : List UInt8 := dkwJ1_append_0 ++ dktJ1_append_1
theorem dksJ1_append_0 : cJ1_append.data.toList.drop 0 = dktJ1_append_0 := by decide +kernel
theorem dksJ1_append_1 : cJ1_append.data.toList.drop 24 = dktJ1_append_1 := dk_seg dksJ1_append_0 24 rfl rfl
theorem dksJ1_append_2 : cJ1_append.data.toList.drop 46 = dktJ1_append_2 := dk_seg dksJ1_append_1 22 rfl rfl
theorem dksJ1_append_3 : cJ1_append.data.toList.drop 68 = dktJ1_append_3 := dk_seg dksJ1_append_2 22 rfl rfl
theorem dJ1_append_0 : decode cJ1_append 0 = .ok (.aload_n 0, 1) := dk_42 (dk_at dksJ1_append_0 0 rfl rfl)
theorem dJ1_append_1 : decode cJ1_append 1 = .ok (.aload_n 0, 1) := dk_42 (dk_at dksJ1_append_0 1 rfl rfl)
theorem dJ1_append_2 : decode cJ1_append 2 = .ok (.getfield 79, 3) := dk_180 0 79 (dk_at dksJ1_append_0 2 rfl rfl)
theorem dJ1_append_5 : decode cJ1_append 5 = .ok (.iconst 1, 1) := dk_4 (dk_at dksJ1_append_0 5 rfl rfl)
theorem dJ1_append_6 : decode cJ1_append 6 = .ok (.iadd, 1) := dk_96 (dk_at dksJ1_append_0 6 rfl rfl)
theorem dJ1_append_7 : decode cJ1_append 7 = .ok (.invokevirtual 100, 3) := dk_182 0 100 (dk_at dksJ1_append_0 7 rfl rfl)
theorem dJ1_append_10 : decode cJ1_append 10 = .ok (.aload_n 0, 1) := dk_42 (dk_at dksJ1_append_0 10 rfl rfl)
theorem dJ1_append_11 : decode cJ1_append 11 = .ok (.invokevirtual 83, 3) := dk_182 0 83 (dk_at dksJ1_append_0 11 rfl rfl)
theorem dJ1_append_14 : decode cJ1_append 14 = .ok (.ifCond .eq 31, 3) := dk_153 0 31 (dk_at dksJ1_append_0 14 rfl rfl)
theorem dJ1_append_17 : decode cJ1_append 17 = .ok (.iload_n 1, 1) := dk_27 (dk_at dksJ1_append_0 17 rfl rfl)
theorem dJ1_append_18 : decode cJ1_append 18 = .ok (.invokestatic 191, 3) := dk_184 0 191 (dk_at dksJ1_append_0 18 rfl rfl)
theorem dJ1_append_21 : decode cJ1_append 21 = .ok (.ifCond .eq 24, 3) := dk_153 0 24 (dk_at dksJ1_append_0 21 rfl rfl)
theorem dJ1_append_24 : decode cJ1_append 24 = .ok (.aload_n 0, 1) := dk_42 (dk_at dksJ1_append_1 0 rfl rfl)
theorem dJ1_append_25 : decode cJ1_append 25 = .ok (.getfield 15, 3) := dk_180 0 15 (dk_at dksJ1_append_1 1 rfl rfl)
theorem dJ1_append_28 : decode cJ1_append 28 = .ok (.aload_n 0, 1) := dk_42 (dk_at dksJ1_append_1 4 rfl rfl)
theorem dJ1_append_29 : decode cJ1_append 29 = .ok (.dup, 1) := dk_89 (dk_at dksJ1_append_1 5 rfl rfl)
theorem dJ1_append_30 : decode cJ1_append 30 = .ok (.getfield 79, 3) := dk_180 0 79 (dk_at dksJ1_append_1 6 rfl rfl)
theorem dJ1_append_33 : decode cJ1_append 33 = .ok (.dup_x1, 1) := dk_90 (dk_at dksJ1_append_1 9 rfl rfl)
theorem dJ1_append_34 : decode cJ1_append 34 = .ok (.iconst 1, 1) := dk_4 (dk_at dksJ1_append_1 10 rfl rfl)
theorem dJ1_append_35 : decode cJ1_append 35 = .ok (.iadd, 1) := dk_96 (dk_at dksJ1_append_1 11 rfl rfl)
theorem dJ1_append_36 : decode cJ1_append 36 = .ok (.putfield 79, 3) := dk_181 0 79 (dk_at dksJ1_append_1 12 rfl rfl)
theorem dJ1_append_39 : decode cJ1_append 39 = .ok (.iload_n 1, 1) := dk_27 (dk_at dksJ1_append_1 15 rfl rfl)
theorem dJ1_append_40 : decode cJ1_append 40 = .ok (.i2b, 1) := dk_145 (dk_at dksJ1_append_1 16 rfl rfl)
theorem dJ1_append_41 : decode cJ1_append 41 = .ok (.bastore, 1) := dk_84 (dk_at dksJ1_append_1 17 rfl rfl)
theorem dJ1_append_42 : decode cJ1_append 42 = .ok (.goto 33, 3) := dk_167 0 33 (dk_at dksJ1_append_1 18 rfl rfl)
theorem dJ1_append_45 : decode cJ1_append 45 = .ok (.aload_n 0, 1) := dk_42 (dk_at dksJ1_append_1 21 rfl rfl)
theorem dJ1_append_46 : decode cJ1_append 46 = .ok (.invokevirtual 83, 3) := dk_182 0 83 (dk_at dksJ1_append_2 0 rfl rfl)
theorem dJ1_append_49 : decode cJ1_append 49 = .ok (.ifCond .eq 7, 3) := dk_153 0 7 (dk_at dksJ1_append_2 3 rfl rfl)
theorem dJ1_append_52 : decode cJ1_append 52 = .ok (.aload_n 0, 1) := dk_42 (dk_at dksJ1_append_2 6 rfl rfl)
theorem dJ1_append_53 : decode cJ1_append 53 = .ok (.invokevirtual 195, 3) := dk_182 0 195 (dk_at dksJ1_append_2 7 rfl rfl)
theorem dJ1_append_56 : decode cJ1_append 56 = .ok (.aload_n 0, 1) := dk_42 (dk_at dksJ1_append_2 10 rfl rfl)
theorem dJ1_append_57 : decode cJ1_append 57 = .ok (.getfield 15, 3) := dk_180 0 15 (dk_at dksJ1_append_2 11 rfl rfl)
theorem dJ1_append_60 : decode cJ1_append 60 = .ok (.aload_n 0, 1) := dk_42 (dk_at dksJ1_append_2 14 rfl rfl)
theorem dJ1_append_61 : decode cJ1_append 61 = .ok (.dup, 1) := dk_89 (dk_at dksJ1_append_2 15 rfl rfl)
theorem dJ1_append_62 : decode cJ1_append 62 = .ok (.getfield 79, 3) := dk_180 0 79 (dk_at dksJ1_append_2 16 rfl rfl)
theorem dJ1_append_65 : decode cJ1_append 65 = .ok (.dup_x1, 1) := dk_90 (dk_at dksJ1_append_2 19 rfl rfl)
theorem dJ1_append_66 : decode cJ1_append 66 = .ok (.iconst 1, 1) := dk_4 (dk_at dksJ1_append_2 20 rfl rfl)
theorem dJ1_append_67 : decode cJ1_append 67 = .ok (.iadd, 1) := dk_96 (dk_at dksJ1_append_2 21 rfl rfl)
theorem dJ1_append_68 : decode cJ1_append 68 = .ok (.putfield 79, 3) := dk_181 0 79 (dk_at dksJ1_append_3 0 rfl rfl)
theorem dJ1_append_71 : decode cJ1_append 71 = .ok (.iload_n 1, 1) := dk_27 (dk_at dksJ1_append_3 3 rfl rfl)
theorem dJ1_append_72 : decode cJ1_append 72 = .ok (.invokestatic 197, 3) := dk_184 0 197 (dk_at dksJ1_append_3 4 rfl rfl)
theorem dJ1_append_75 : decode cJ1_append 75 = .ok (.aload_n 0, 1) := dk_42 (dk_at dksJ1_append_3 7 rfl rfl)
theorem dJ1_append_76 : decode cJ1_append 76 = .ok (.areturn, 1) := dk_176 (dk_at dksJ1_append_3 8 rfl rfl)
abbrev cJ1_ensureCapacityInternal : ByteArray := prog_16_method_9_code
def yJ1_ensureCapacityInternal : MethodName := ⟨RJ1, "ensureCapacityInternal", "(I)V"⟩
def dkwJ1_ensureCapacityInternal_1 : List UInt8 := [182, 0, 104, 42, 180, 0, 22, 120, 184, 0, 108, 181, 0, 15, 177]
abbrev dktJ1_ensureCapacityInternal_1 : List UInt8 := dkwJ1_ensureCapacityInternal_1 ++ []
def dkwJ1_ensureCapacityInternal_0 : List UInt8 := [42, 180, 0, 15, 190, 42, 180, 0, 22, 122, 61, 27, 28, 100, 158, 0, 24, 42, 42, 180, 0, 15, 42, 27]
abbrev dktJ1_ensureCapacityInternal_0 : List UInt8 := dkwJ1_ensureCapacityInternal_0 ++ dktJ1_ensureCapacityInternal_1
theorem dksJ1_ensureCapacityInternal_0 : cJ1_ensureCapacityInternal.data.toList.drop 0 = dktJ1_ensureCapacityInternal_0 := by decide +kernel
theorem dksJ1_ensureCapacityInternal_1 : cJ1_ensureCapacityInternal.data.toList.drop 24 = dktJ1_ensureCapacityInternal_1 := dk_seg dksJ1_ensureCapacityInternal_0 24 rfl rfl
theorem dJ1_ensureCapacityInternal_0 : decode cJ1_ensureCapacityInternal 0 = .ok (.aload_n 0, 1) := dk_42 (dk_at dksJ1_ensureCapacityInternal_0 0 rfl rfl)
theorem dJ1_ensureCapacityInternal_1 : decode cJ1_ensureCapacityInternal 1 = .ok (.getfield 15, 3) := dk_180 0 15 (dk_at dksJ1_ensureCapacityInternal_0 1 rfl rfl)
theorem dJ1_ensureCapacityInternal_4 : decode cJ1_ensureCapacityInternal 4 = .ok (.arraylength, 1) := dk_190 (dk_at dksJ1_ensureCapacityInternal_0 4 rfl rfl)
theorem dJ1_ensureCapacityInternal_5 : decode cJ1_ensureCapacityInternal 5 = .ok (.aload_n 0, 1) := dk_42 (dk_at dksJ1_ensureCapacityInternal_0 5 rfl rfl)
theorem dJ1_ensureCapacityInternal_6 : decode cJ1_ensureCapacityInternal 6 = .ok (.getfield 22, 3) := dk_180 0 22 (dk_at dksJ1_ensureCapacityInternal_0 6 rfl rfl)
theorem dJ1_ensureCapacityInternal_9 : decode cJ1_ensureCapacityInternal 9 = .ok (.ishr, 1) := dk_122 (dk_at dksJ1_ensureCapacityInternal_0 9 rfl rfl)
theorem dJ1_ensureCapacityInternal_10 : decode cJ1_ensureCapacityInternal 10 = .ok (.istore_n 2, 1) := dk_61 (dk_at dksJ1_ensureCapacityInternal_0 10 rfl rfl)
theorem dJ1_ensureCapacityInternal_11 : decode cJ1_ensureCapacityInternal 11 = .ok (.iload_n 1, 1) := dk_27 (dk_at dksJ1_ensureCapacityInternal_0 11 rfl rfl)
theorem dJ1_ensureCapacityInternal_12 : decode cJ1_ensureCapacityInternal 12 = .ok (.iload_n 2, 1) := dk_28 (dk_at dksJ1_ensureCapacityInternal_0 12 rfl rfl)
theorem dJ1_ensureCapacityInternal_13 : decode cJ1_ensureCapacityInternal 13 = .ok (.isub, 1) := dk_100 (dk_at dksJ1_ensureCapacityInternal_0 13 rfl rfl)
theorem dJ1_ensureCapacityInternal_14 : decode cJ1_ensureCapacityInternal 14 = .ok (.ifCond .le 24, 3) := dk_158 0 24 (dk_at dksJ1_ensureCapacityInternal_0 14 rfl rfl)
theorem dJ1_ensureCapacityInternal_17 : decode cJ1_ensureCapacityInternal 17 = .ok (.aload_n 0, 1) := dk_42 (dk_at dksJ1_ensureCapacityInternal_0 17 rfl rfl)
theorem dJ1_ensureCapacityInternal_18 : decode cJ1_ensureCapacityInternal 18 = .ok (.aload_n 0, 1) := dk_42 (dk_at dksJ1_ensureCapacityInternal_0 18 rfl rfl)
theorem dJ1_ensureCapacityInternal_19 : decode cJ1_ensureCapacityInternal 19 = .ok (.getfield 15, 3) := dk_180 0 15 (dk_at dksJ1_ensureCapacityInternal_0 19 rfl rfl)
theorem dJ1_ensureCapacityInternal_22 : decode cJ1_ensureCapacityInternal 22 = .ok (.aload_n 0, 1) := dk_42 (dk_at dksJ1_ensureCapacityInternal_0 22 rfl rfl)
theorem dJ1_ensureCapacityInternal_23 : decode cJ1_ensureCapacityInternal 23 = .ok (.iload_n 1, 1) := dk_27 (dk_at dksJ1_ensureCapacityInternal_0 23 rfl rfl)
theorem dJ1_ensureCapacityInternal_24 : decode cJ1_ensureCapacityInternal 24 = .ok (.invokevirtual 104, 3) := dk_182 0 104 (dk_at dksJ1_ensureCapacityInternal_1 0 rfl rfl)
theorem dJ1_ensureCapacityInternal_27 : decode cJ1_ensureCapacityInternal 27 = .ok (.aload_n 0, 1) := dk_42 (dk_at dksJ1_ensureCapacityInternal_1 3 rfl rfl)
theorem dJ1_ensureCapacityInternal_28 : decode cJ1_ensureCapacityInternal 28 = .ok (.getfield 22, 3) := dk_180 0 22 (dk_at dksJ1_ensureCapacityInternal_1 4 rfl rfl)
theorem dJ1_ensureCapacityInternal_31 : decode cJ1_ensureCapacityInternal 31 = .ok (.ishl, 1) := dk_120 (dk_at dksJ1_ensureCapacityInternal_1 7 rfl rfl)
theorem dJ1_ensureCapacityInternal_32 : decode cJ1_ensureCapacityInternal 32 = .ok (.invokestatic 108, 3) := dk_184 0 108 (dk_at dksJ1_ensureCapacityInternal_1 8 rfl rfl)
theorem dJ1_ensureCapacityInternal_35 : decode cJ1_ensureCapacityInternal 35 = .ok (.putfield 15, 3) := dk_181 0 15 (dk_at dksJ1_ensureCapacityInternal_1 11 rfl rfl)
theorem dJ1_ensureCapacityInternal_38 : decode cJ1_ensureCapacityInternal 38 = .ok (.return_, 1) := dk_177 (dk_at dksJ1_ensureCapacityInternal_1 14 rfl rfl)
abbrev cJ1_newCapacity : ByteArray := prog_16_method_10_code
def yJ1_newCapacity : MethodName := ⟨RJ1, "newCapacity", "(I)I"⟩
def dkwJ1_newCapacity_2 : List UInt8 := [183, 0, 124, 191, 21, 5, 42, 180, 0, 22, 122, 172]
abbrev dktJ1_newCapacity_2 : List UInt8 := dkwJ1_newCapacity_2 ++ []
def dkwJ1_newCapacity_1 : List UInt8 := [180, 0, 22, 120, 96, 184, 0, 114, 54, 5, 21, 5, 18, 39, 160, 0, 13, 187, 0, 120, 89, 18, 122]
abbrev dktJ1_newCapacity_1 : List UInt8 := dkwJ1_newCapacity_1 ++ dktJ1_newCapacity_2
def dkwJ1_newCapacity_0 : List UInt8 := [42, 180, 0, 15, 190, 61, 27, 42, 180, 0, 22, 120, 62, 29, 28, 100, 54, 4, 28, 21, 4, 28, 5, 42]
abbrev dktJ1_newCapacity_0 : List UInt8 := dkwJ1_newCapacity_0 ++ dktJ1_newCapacity_1
theorem dksJ1_newCapacity_0 : cJ1_newCapacity.data.toList.drop 0 = dktJ1_newCapacity_0 := by decide +kernel
theorem dksJ1_newCapacity_1 : cJ1_newCapacity.data.toList.drop 24 = dktJ1_newCapacity_1 := dk_seg dksJ1_newCapacity_0 24 rfl rfl
theorem dksJ1_newCapacity_2 : cJ1_newCapacity.data.toList.drop 47 = dktJ1_newCapacity_2 := dk_seg dksJ1_newCapacity_1 23 rfl rfl
theorem dJ1_newCapacity_0 : decode cJ1_newCapacity 0 = .ok (.aload_n 0, 1) := dk_42 (dk_at dksJ1_newCapacity_0 0 rfl rfl)
theorem dJ1_newCapacity_1 : decode cJ1_newCapacity 1 = .ok (.getfield 15, 3) := dk_180 0 15 (dk_at dksJ1_newCapacity_0 1 rfl rfl)
theorem dJ1_newCapacity_4 : decode cJ1_newCapacity 4 = .ok (.arraylength, 1) := dk_190 (dk_at dksJ1_newCapacity_0 4 rfl rfl)
theorem dJ1_newCapacity_5 : decode cJ1_newCapacity 5 = .ok (.istore_n 2, 1) := dk_61 (dk_at dksJ1_newCapacity_0 5 rfl rfl)
theorem dJ1_newCapacity_6 : decode cJ1_newCapacity 6 = .ok (.iload_n 1, 1) := dk_27 (dk_at dksJ1_newCapacity_0 6 rfl rfl)
theorem dJ1_newCapacity_7 : decode cJ1_newCapacity 7 = .ok (.aload_n 0, 1) := dk_42 (dk_at dksJ1_newCapacity_0 7 rfl rfl)
theorem dJ1_newCapacity_8 : decode cJ1_newCapacity 8 = .ok (.getfield 22, 3) := dk_180 0 22 (dk_at dksJ1_newCapacity_0 8 rfl rfl)
theorem dJ1_newCapacity_11 : decode cJ1_newCapacity 11 = .ok (.ishl, 1) := dk_120 (dk_at dksJ1_newCapacity_0 11 rfl rfl)
theorem dJ1_newCapacity_12 : decode cJ1_newCapacity 12 = .ok (.istore_n 3, 1) := dk_62 (dk_at dksJ1_newCapacity_0 12 rfl rfl)
theorem dJ1_newCapacity_13 : decode cJ1_newCapacity 13 = .ok (.iload_n 3, 1) := dk_29 (dk_at dksJ1_newCapacity_0 13 rfl rfl)
theorem dJ1_newCapacity_14 : decode cJ1_newCapacity 14 = .ok (.iload_n 2, 1) := dk_28 (dk_at dksJ1_newCapacity_0 14 rfl rfl)
theorem dJ1_newCapacity_15 : decode cJ1_newCapacity 15 = .ok (.isub, 1) := dk_100 (dk_at dksJ1_newCapacity_0 15 rfl rfl)
theorem dJ1_newCapacity_16 : decode cJ1_newCapacity 16 = .ok (.istore 4, 2) := dk_54 4 (dk_at dksJ1_newCapacity_0 16 rfl rfl)
theorem dJ1_newCapacity_18 : decode cJ1_newCapacity 18 = .ok (.iload_n 2, 1) := dk_28 (dk_at dksJ1_newCapacity_0 18 rfl rfl)
theorem dJ1_newCapacity_19 : decode cJ1_newCapacity 19 = .ok (.iload 4, 2) := dk_21 4 (dk_at dksJ1_newCapacity_0 19 rfl rfl)
theorem dJ1_newCapacity_21 : decode cJ1_newCapacity 21 = .ok (.iload_n 2, 1) := dk_28 (dk_at dksJ1_newCapacity_0 21 rfl rfl)
theorem dJ1_newCapacity_22 : decode cJ1_newCapacity 22 = .ok (.iconst 2, 1) := dk_5 (dk_at dksJ1_newCapacity_0 22 rfl rfl)
theorem dJ1_newCapacity_23 : decode cJ1_newCapacity 23 = .ok (.aload_n 0, 1) := dk_42 (dk_at dksJ1_newCapacity_0 23 rfl rfl)
theorem dJ1_newCapacity_24 : decode cJ1_newCapacity 24 = .ok (.getfield 22, 3) := dk_180 0 22 (dk_at dksJ1_newCapacity_1 0 rfl rfl)
theorem dJ1_newCapacity_27 : decode cJ1_newCapacity 27 = .ok (.ishl, 1) := dk_120 (dk_at dksJ1_newCapacity_1 3 rfl rfl)
theorem dJ1_newCapacity_28 : decode cJ1_newCapacity 28 = .ok (.iadd, 1) := dk_96 (dk_at dksJ1_newCapacity_1 4 rfl rfl)
theorem dJ1_newCapacity_29 : decode cJ1_newCapacity 29 = .ok (.invokestatic 114, 3) := dk_184 0 114 (dk_at dksJ1_newCapacity_1 5 rfl rfl)
theorem dJ1_newCapacity_32 : decode cJ1_newCapacity 32 = .ok (.istore 5, 2) := dk_54 5 (dk_at dksJ1_newCapacity_1 8 rfl rfl)
theorem dJ1_newCapacity_34 : decode cJ1_newCapacity 34 = .ok (.iload 5, 2) := dk_21 5 (dk_at dksJ1_newCapacity_1 10 rfl rfl)
theorem dJ1_newCapacity_36 : decode cJ1_newCapacity 36 = .ok (.ldc 39, 2) := dk_18 39 (dk_at dksJ1_newCapacity_1 12 rfl rfl)
theorem dJ1_newCapacity_38 : decode cJ1_newCapacity 38 = .ok (.if_icmp .ne 13, 3) := dk_160 0 13 (dk_at dksJ1_newCapacity_1 14 rfl rfl)
theorem dJ1_newCapacity_41 : decode cJ1_newCapacity 41 = .ok (.new 120, 3) := dk_187 0 120 (dk_at dksJ1_newCapacity_1 17 rfl rfl)
theorem dJ1_newCapacity_44 : decode cJ1_newCapacity 44 = .ok (.dup, 1) := dk_89 (dk_at dksJ1_newCapacity_1 20 rfl rfl)
theorem dJ1_newCapacity_45 : decode cJ1_newCapacity 45 = .ok (.ldc 122, 2) := dk_18 122 (dk_at dksJ1_newCapacity_1 21 rfl rfl)
theorem dJ1_newCapacity_47 : decode cJ1_newCapacity 47 = .ok (.invokespecial 124, 3) := dk_183 0 124 (dk_at dksJ1_newCapacity_2 0 rfl rfl)
theorem dJ1_newCapacity_50 : decode cJ1_newCapacity 50 = .ok (.athrow, 1) := dk_191 (dk_at dksJ1_newCapacity_2 3 rfl rfl)
theorem dJ1_newCapacity_51 : decode cJ1_newCapacity 51 = .ok (.iload 5, 2) := dk_21 5 (dk_at dksJ1_newCapacity_2 4 rfl rfl)
theorem dJ1_newCapacity_53 : decode cJ1_newCapacity 53 = .ok (.aload_n 0, 1) := dk_42 (dk_at dksJ1_newCapacity_2 6 rfl rfl)
theorem dJ1_newCapacity_54 : decode cJ1_newCapacity 54 = .ok (.getfield 22, 3) := dk_180 0 22 (dk_at dksJ1_newCapacity_2 7 rfl rfl)
theorem dJ1_newCapacity_57 : decode cJ1_newCapacity 57 = .ok (.ishr, 1) := dk_122 (dk_at dksJ1_newCapacity_2 10 rfl rfl)
theorem dJ1_newCapacity_58 : decode cJ1_newCapacity 58 = .ok (.ireturn, 1) := dk_172 (dk_at dksJ1_newCapacity_2 11 rfl rfl)
abbrev cJ1_isLatin1 : ByteArray := prog_16_method_68_code
def yJ1_isLatin1 : MethodName := ⟨RJ1, "isLatin1", "()Z"⟩
def dkwJ1_isLatin1_0 : List UInt8 := [178, 0, 18, 153, 0, 14, 42, 180, 0, 22, 154, 0, 7, 4, 167, 0, 4, 3, 172]
abbrev dktJ1_isLatin1_0 : List UInt8 := dkwJ1_isLatin1_0 ++ []
theorem dksJ1_isLatin1_0 : cJ1_isLatin1.data.toList.drop 0 = dktJ1_isLatin1_0 := by decide +kernel
theorem dJ1_isLatin1_0 : decode cJ1_isLatin1 0 = .ok (.getstatic 18, 3) := dk_178 0 18 (dk_at dksJ1_isLatin1_0 0 rfl rfl)
theorem dJ1_isLatin1_3 : decode cJ1_isLatin1 3 = .ok (.ifCond .eq 14, 3) := dk_153 0 14 (dk_at dksJ1_isLatin1_0 3 rfl rfl)
theorem dJ1_isLatin1_6 : decode cJ1_isLatin1 6 = .ok (.aload_n 0, 1) := dk_42 (dk_at dksJ1_isLatin1_0 6 rfl rfl)
theorem dJ1_isLatin1_7 : decode cJ1_isLatin1 7 = .ok (.getfield 22, 3) := dk_180 0 22 (dk_at dksJ1_isLatin1_0 7 rfl rfl)
theorem dJ1_isLatin1_10 : decode cJ1_isLatin1 10 = .ok (.ifCond .ne 7, 3) := dk_154 0 7 (dk_at dksJ1_isLatin1_0 10 rfl rfl)
theorem dJ1_isLatin1_13 : decode cJ1_isLatin1 13 = .ok (.iconst 1, 1) := dk_4 (dk_at dksJ1_isLatin1_0 13 rfl rfl)
theorem dJ1_isLatin1_14 : decode cJ1_isLatin1 14 = .ok (.goto 4, 3) := dk_167 0 4 (dk_at dksJ1_isLatin1_0 14 rfl rfl)
theorem dJ1_isLatin1_17 : decode cJ1_isLatin1 17 = .ok (.iconst 0, 1) := dk_3 (dk_at dksJ1_isLatin1_0 17 rfl rfl)
theorem dJ1_isLatin1_18 : decode cJ1_isLatin1 18 = .ok (.ireturn, 1) := dk_172 (dk_at dksJ1_isLatin1_0 18 rfl rfl)
abbrev cJ1_inflate : ByteArray := prog_16_method_11_code
def yJ1_inflate : MethodName := ⟨RJ1, "inflate", "()V"⟩
def dkwJ1_inflate_1 : List UInt8 := [42, 180, 0, 79, 184, 0, 125, 42, 43, 181, 0, 15, 42, 4, 181, 0, 22, 177]
abbrev dktJ1_inflate_1 : List UInt8 := dkwJ1_inflate_1 ++ []
def dkwJ1_inflate_0 : List UInt8 := [42, 182, 0, 83, 154, 0, 4, 177, 42, 180, 0, 15, 190, 184, 0, 26, 76, 42, 180, 0, 15, 3, 43, 3]
abbrev dktJ1_inflate_0 : List UInt8 := dkwJ1_inflate_0 ++ dktJ1_inflate_1
theorem dksJ1_inflate_0 : cJ1_inflate.data.toList.drop 0 = dktJ1_inflate_0 := by decide +kernel
theorem dksJ1_inflate_1 : cJ1_inflate.data.toList.drop 24 = dktJ1_inflate_1 := dk_seg dksJ1_inflate_0 24 rfl rfl
theorem dJ1_inflate_0 : decode cJ1_inflate 0 = .ok (.aload_n 0, 1) := dk_42 (dk_at dksJ1_inflate_0 0 rfl rfl)
theorem dJ1_inflate_1 : decode cJ1_inflate 1 = .ok (.invokevirtual 83, 3) := dk_182 0 83 (dk_at dksJ1_inflate_0 1 rfl rfl)
theorem dJ1_inflate_4 : decode cJ1_inflate 4 = .ok (.ifCond .ne 4, 3) := dk_154 0 4 (dk_at dksJ1_inflate_0 4 rfl rfl)
theorem dJ1_inflate_7 : decode cJ1_inflate 7 = .ok (.return_, 1) := dk_177 (dk_at dksJ1_inflate_0 7 rfl rfl)
theorem dJ1_inflate_8 : decode cJ1_inflate 8 = .ok (.aload_n 0, 1) := dk_42 (dk_at dksJ1_inflate_0 8 rfl rfl)
theorem dJ1_inflate_9 : decode cJ1_inflate 9 = .ok (.getfield 15, 3) := dk_180 0 15 (dk_at dksJ1_inflate_0 9 rfl rfl)
theorem dJ1_inflate_12 : decode cJ1_inflate 12 = .ok (.arraylength, 1) := dk_190 (dk_at dksJ1_inflate_0 12 rfl rfl)
theorem dJ1_inflate_13 : decode cJ1_inflate 13 = .ok (.invokestatic 26, 3) := dk_184 0 26 (dk_at dksJ1_inflate_0 13 rfl rfl)
theorem dJ1_inflate_16 : decode cJ1_inflate 16 = .ok (.astore_n 1, 1) := dk_76 (dk_at dksJ1_inflate_0 16 rfl rfl)
theorem dJ1_inflate_17 : decode cJ1_inflate 17 = .ok (.aload_n 0, 1) := dk_42 (dk_at dksJ1_inflate_0 17 rfl rfl)
theorem dJ1_inflate_18 : decode cJ1_inflate 18 = .ok (.getfield 15, 3) := dk_180 0 15 (dk_at dksJ1_inflate_0 18 rfl rfl)
theorem dJ1_inflate_21 : decode cJ1_inflate 21 = .ok (.iconst 0, 1) := dk_3 (dk_at dksJ1_inflate_0 21 rfl rfl)
theorem dJ1_inflate_22 : decode cJ1_inflate 22 = .ok (.aload_n 1, 1) := dk_43 (dk_at dksJ1_inflate_0 22 rfl rfl)
theorem dJ1_inflate_23 : decode cJ1_inflate 23 = .ok (.iconst 0, 1) := dk_3 (dk_at dksJ1_inflate_0 23 rfl rfl)
theorem dJ1_inflate_24 : decode cJ1_inflate 24 = .ok (.aload_n 0, 1) := dk_42 (dk_at dksJ1_inflate_1 0 rfl rfl)
theorem dJ1_inflate_25 : decode cJ1_inflate 25 = .ok (.getfield 79, 3) := dk_180 0 79 (dk_at dksJ1_inflate_1 1 rfl rfl)
theorem dJ1_inflate_28 : decode cJ1_inflate 28 = .ok (.invokestatic 125, 3) := dk_184 0 125 (dk_at dksJ1_inflate_1 4 rfl rfl)
theorem dJ1_inflate_31 : decode cJ1_inflate 31 = .ok (.aload_n 0, 1) := dk_42 (dk_at dksJ1_inflate_1 7 rfl rfl)
theorem dJ1_inflate_32 : decode cJ1_inflate 32 = .ok (.aload_n 1, 1) := dk_43 (dk_at dksJ1_inflate_1 8 rfl rfl)
theorem dJ1_inflate_33 : decode cJ1_inflate 33 = .ok (.putfield 15, 3) := dk_181 0 15 (dk_at dksJ1_inflate_1 9 rfl rfl)
theorem dJ1_inflate_36 : decode cJ1_inflate 36 = .ok (.aload_n 0, 1) := dk_42 (dk_at dksJ1_inflate_1 12 rfl rfl)
theorem dJ1_inflate_37 : decode cJ1_inflate 37 = .ok (.iconst 1, 1) := dk_4 (dk_at dksJ1_inflate_1 13 rfl rfl)
theorem dJ1_inflate_38 : decode cJ1_inflate 38 = .ok (.putfield 22, 3) := dk_181 0 22 (dk_at dksJ1_inflate_1 14 rfl rfl)
theorem dJ1_inflate_41 : decode cJ1_inflate 41 = .ok (.return_, 1) := dk_177 (dk_at dksJ1_inflate_1 17 rfl rfl)
abbrev cJ1_getValue : ByteArray := prog_16_method_64_code
def yJ1_getValue : MethodName := ⟨RJ1, "getValue", "()[B"⟩
theorem dJ1_getValue_0 : decode cJ1_getValue 0 = .ok (.aload_n 0, 1) := by decide +kernel
theorem dJ1_getValue_1 : decode cJ1_getValue 1 = .ok (.getfield 15, 3) := by decide +kernel
theorem dJ1_getValue_4 : decode cJ1_getValue 4 = .ok (.areturn, 1) := by decide +kernel
abbrev cJ1_length : ByteArray := prog_16_method_6_code
def yJ1_length : MethodName := ⟨RJ1, "length", "()I"⟩
theorem dJ1_length_0 : decode cJ1_length 0 = .ok (.aload_n 0, 1) := by decide +kernel
theorem dJ1_length_1 : decode cJ1_length 1 = .ok (.getfield 79, 3) := by decide +kernel
theorem dJ1_length_4 : decode cJ1_length 4 = .ok (.ireturn, 1) := by decide +kernel
abbrev cJ1_append_2 : ByteArray := prog_16_method_22_code
def yJ1_append_2 : MethodName := ⟨RJ1, "append", "(Ljava/lang/String;)Ljava/lang/AbstractStringBuilder;"⟩
def dkwJ1_append_2_1 : List UInt8 := [42, 42, 180, 0, 79, 43, 182, 0, 208, 42, 89, 180, 0, 79, 28, 96, 181, 0, 79, 42, 176]
abbrev dktJ1_append_2_1 : List UInt8 := dkwJ1_append_2_1 ++ []
def dkwJ1_append_2_0 : List UInt8 := [43, 199, 0, 8, 42, 182, 0, 204, 176, 43, 182, 0, 32, 61, 42, 42, 180, 0, 79, 28, 96, 182, 0, 100]
abbrev dktJ1_append_2_0 : List UInt8 := dkwJ1_append_2_0 ++ dktJ1_append_2_1
theorem dksJ1_append_2_0 : cJ1_append_2.data.toList.drop 0 = dktJ1_append_2_0 := by decide +kernel
theorem dksJ1_append_2_1 : cJ1_append_2.data.toList.drop 24 = dktJ1_append_2_1 := dk_seg dksJ1_append_2_0 24 rfl rfl
theorem dJ1_append_2_0 : decode cJ1_append_2 0 = .ok (.aload_n 1, 1) := dk_43 (dk_at dksJ1_append_2_0 0 rfl rfl)
theorem dJ1_append_2_1 : decode cJ1_append_2 1 = .ok (.ifnonnull 8, 3) := dk_199 0 8 (dk_at dksJ1_append_2_0 1 rfl rfl)
theorem dJ1_append_2_4 : decode cJ1_append_2 4 = .ok (.aload_n 0, 1) := dk_42 (dk_at dksJ1_append_2_0 4 rfl rfl)
theorem dJ1_append_2_5 : decode cJ1_append_2 5 = .ok (.invokevirtual 204, 3) := dk_182 0 204 (dk_at dksJ1_append_2_0 5 rfl rfl)
theorem dJ1_append_2_8 : decode cJ1_append_2 8 = .ok (.areturn, 1) := dk_176 (dk_at dksJ1_append_2_0 8 rfl rfl)
theorem dJ1_append_2_9 : decode cJ1_append_2 9 = .ok (.aload_n 1, 1) := dk_43 (dk_at dksJ1_append_2_0 9 rfl rfl)
theorem dJ1_append_2_10 : decode cJ1_append_2 10 = .ok (.invokevirtual 32, 3) := dk_182 0 32 (dk_at dksJ1_append_2_0 10 rfl rfl)
theorem dJ1_append_2_13 : decode cJ1_append_2 13 = .ok (.istore_n 2, 1) := dk_61 (dk_at dksJ1_append_2_0 13 rfl rfl)
theorem dJ1_append_2_14 : decode cJ1_append_2 14 = .ok (.aload_n 0, 1) := dk_42 (dk_at dksJ1_append_2_0 14 rfl rfl)
theorem dJ1_append_2_15 : decode cJ1_append_2 15 = .ok (.aload_n 0, 1) := dk_42 (dk_at dksJ1_append_2_0 15 rfl rfl)
theorem dJ1_append_2_16 : decode cJ1_append_2 16 = .ok (.getfield 79, 3) := dk_180 0 79 (dk_at dksJ1_append_2_0 16 rfl rfl)
theorem dJ1_append_2_19 : decode cJ1_append_2 19 = .ok (.iload_n 2, 1) := dk_28 (dk_at dksJ1_append_2_0 19 rfl rfl)
theorem dJ1_append_2_20 : decode cJ1_append_2 20 = .ok (.iadd, 1) := dk_96 (dk_at dksJ1_append_2_0 20 rfl rfl)
theorem dJ1_append_2_21 : decode cJ1_append_2 21 = .ok (.invokevirtual 100, 3) := dk_182 0 100 (dk_at dksJ1_append_2_0 21 rfl rfl)
theorem dJ1_append_2_24 : decode cJ1_append_2 24 = .ok (.aload_n 0, 1) := dk_42 (dk_at dksJ1_append_2_1 0 rfl rfl)
theorem dJ1_append_2_25 : decode cJ1_append_2 25 = .ok (.aload_n 0, 1) := dk_42 (dk_at dksJ1_append_2_1 1 rfl rfl)
theorem dJ1_append_2_26 : decode cJ1_append_2 26 = .ok (.getfield 79, 3) := dk_180 0 79 (dk_at dksJ1_append_2_1 2 rfl rfl)
theorem dJ1_append_2_29 : decode cJ1_append_2 29 = .ok (.aload_n 1, 1) := dk_43 (dk_at dksJ1_append_2_1 5 rfl rfl)
theorem dJ1_append_2_30 : decode cJ1_append_2 30 = .ok (.invokevirtual 208, 3) := dk_182 0 208 (dk_at dksJ1_append_2_1 6 rfl rfl)
theorem dJ1_append_2_33 : decode cJ1_append_2 33 = .ok (.aload_n 0, 1) := dk_42 (dk_at dksJ1_append_2_1 9 rfl rfl)
theorem dJ1_append_2_34 : decode cJ1_append_2 34 = .ok (.dup, 1) := dk_89 (dk_at dksJ1_append_2_1 10 rfl rfl)
theorem dJ1_append_2_35 : decode cJ1_append_2 35 = .ok (.getfield 79, 3) := dk_180 0 79 (dk_at dksJ1_append_2_1 11 rfl rfl)
theorem dJ1_append_2_38 : decode cJ1_append_2 38 = .ok (.iload_n 2, 1) := dk_28 (dk_at dksJ1_append_2_1 14 rfl rfl)
theorem dJ1_append_2_39 : decode cJ1_append_2 39 = .ok (.iadd, 1) := dk_96 (dk_at dksJ1_append_2_1 15 rfl rfl)
theorem dJ1_append_2_40 : decode cJ1_append_2 40 = .ok (.putfield 79, 3) := dk_181 0 79 (dk_at dksJ1_append_2_1 16 rfl rfl)
theorem dJ1_append_2_43 : decode cJ1_append_2 43 = .ok (.aload_n 0, 1) := dk_42 (dk_at dksJ1_append_2_1 19 rfl rfl)
theorem dJ1_append_2_44 : decode cJ1_append_2 44 = .ok (.areturn, 1) := dk_176 (dk_at dksJ1_append_2_1 20 rfl rfl)
abbrev cJ1_appendNull : ByteArray := prog_16_method_26_code
def yJ1_appendNull : MethodName := ⟨RJ1, "appendNull", "()Ljava/lang/AbstractStringBuilder;"⟩
def dkwJ1_appendNull_3 : List UInt8 := [184, 0, 226, 60, 42, 27, 181, 0, 79, 42, 176]
abbrev dktJ1_appendNull_3 : List UInt8 := dkwJ1_appendNull_3 ++ []
def dkwJ1_appendNull_2 : List UInt8 := [16, 108, 84, 44, 27, 132, 1, 1, 16, 108, 84, 167, 0, 17, 44, 27, 16, 110, 16, 117, 16, 108, 16, 108]
abbrev dktJ1_appendNull_2 : List UInt8 := dkwJ1_appendNull_2 ++ dktJ1_appendNull_3
def dkwJ1_appendNull_1 : List UInt8 := [153, 0, 38, 44, 27, 132, 1, 1, 16, 110, 84, 44, 27, 132, 1, 1, 16, 117, 84, 44, 27, 132, 1, 1]
abbrev dktJ1_appendNull_1 : List UInt8 := dkwJ1_appendNull_1 ++ dktJ1_appendNull_2
def dkwJ1_appendNull_0 : List UInt8 := [42, 42, 180, 0, 79, 7, 96, 182, 0, 100, 42, 180, 0, 79, 60, 42, 180, 0, 15, 77, 42, 182, 0, 83]
abbrev dktJ1_appendNull_0 : List UInt8 := dkwJ1_appendNull_0 ++ dktJ1_appendNull_1
theorem dksJ1_appendNull_0 : cJ1_appendNull.data.toList.drop 0 = dktJ1_appendNull_0 := by decide +kernel
theorem dksJ1_appendNull_1 : cJ1_appendNull.data.toList.drop 24 = dktJ1_appendNull_1 := dk_seg dksJ1_appendNull_0 24 rfl rfl
theorem dksJ1_appendNull_2 : cJ1_appendNull.data.toList.drop 48 = dktJ1_appendNull_2 := dk_seg dksJ1_appendNull_1 24 rfl rfl
theorem dksJ1_appendNull_3 : cJ1_appendNull.data.toList.drop 72 = dktJ1_appendNull_3 := dk_seg dksJ1_appendNull_2 24 rfl rfl
theorem dJ1_appendNull_0 : decode cJ1_appendNull 0 = .ok (.aload_n 0, 1) := dk_42 (dk_at dksJ1_appendNull_0 0 rfl rfl)
theorem dJ1_appendNull_1 : decode cJ1_appendNull 1 = .ok (.aload_n 0, 1) := dk_42 (dk_at dksJ1_appendNull_0 1 rfl rfl)
theorem dJ1_appendNull_2 : decode cJ1_appendNull 2 = .ok (.getfield 79, 3) := dk_180 0 79 (dk_at dksJ1_appendNull_0 2 rfl rfl)
theorem dJ1_appendNull_5 : decode cJ1_appendNull 5 = .ok (.iconst 4, 1) := dk_7 (dk_at dksJ1_appendNull_0 5 rfl rfl)
theorem dJ1_appendNull_6 : decode cJ1_appendNull 6 = .ok (.iadd, 1) := dk_96 (dk_at dksJ1_appendNull_0 6 rfl rfl)
theorem dJ1_appendNull_7 : decode cJ1_appendNull 7 = .ok (.invokevirtual 100, 3) := dk_182 0 100 (dk_at dksJ1_appendNull_0 7 rfl rfl)
theorem dJ1_appendNull_10 : decode cJ1_appendNull 10 = .ok (.aload_n 0, 1) := dk_42 (dk_at dksJ1_appendNull_0 10 rfl rfl)
theorem dJ1_appendNull_11 : decode cJ1_appendNull 11 = .ok (.getfield 79, 3) := dk_180 0 79 (dk_at dksJ1_appendNull_0 11 rfl rfl)
theorem dJ1_appendNull_14 : decode cJ1_appendNull 14 = .ok (.istore_n 1, 1) := dk_60 (dk_at dksJ1_appendNull_0 14 rfl rfl)
theorem dJ1_appendNull_15 : decode cJ1_appendNull 15 = .ok (.aload_n 0, 1) := dk_42 (dk_at dksJ1_appendNull_0 15 rfl rfl)
theorem dJ1_appendNull_16 : decode cJ1_appendNull 16 = .ok (.getfield 15, 3) := dk_180 0 15 (dk_at dksJ1_appendNull_0 16 rfl rfl)
theorem dJ1_appendNull_19 : decode cJ1_appendNull 19 = .ok (.astore_n 2, 1) := dk_77 (dk_at dksJ1_appendNull_0 19 rfl rfl)
theorem dJ1_appendNull_20 : decode cJ1_appendNull 20 = .ok (.aload_n 0, 1) := dk_42 (dk_at dksJ1_appendNull_0 20 rfl rfl)
theorem dJ1_appendNull_21 : decode cJ1_appendNull 21 = .ok (.invokevirtual 83, 3) := dk_182 0 83 (dk_at dksJ1_appendNull_0 21 rfl rfl)
theorem dJ1_appendNull_24 : decode cJ1_appendNull 24 = .ok (.ifCond .eq 38, 3) := dk_153 0 38 (dk_at dksJ1_appendNull_1 0 rfl rfl)
theorem dJ1_appendNull_27 : decode cJ1_appendNull 27 = .ok (.aload_n 2, 1) := dk_44 (dk_at dksJ1_appendNull_1 3 rfl rfl)
theorem dJ1_appendNull_28 : decode cJ1_appendNull 28 = .ok (.iload_n 1, 1) := dk_27 (dk_at dksJ1_appendNull_1 4 rfl rfl)
theorem dJ1_appendNull_29 : decode cJ1_appendNull 29 = .ok (.iinc 1 1, 3) := dk_132 1 1 (dk_at dksJ1_appendNull_1 5 rfl rfl)
theorem dJ1_appendNull_32 : decode cJ1_appendNull 32 = .ok (.bipush 110, 2) := dk_16 110 (dk_at dksJ1_appendNull_1 8 rfl rfl)
theorem dJ1_appendNull_34 : decode cJ1_appendNull 34 = .ok (.bastore, 1) := dk_84 (dk_at dksJ1_appendNull_1 10 rfl rfl)
theorem dJ1_appendNull_35 : decode cJ1_appendNull 35 = .ok (.aload_n 2, 1) := dk_44 (dk_at dksJ1_appendNull_1 11 rfl rfl)
theorem dJ1_appendNull_36 : decode cJ1_appendNull 36 = .ok (.iload_n 1, 1) := dk_27 (dk_at dksJ1_appendNull_1 12 rfl rfl)
theorem dJ1_appendNull_37 : decode cJ1_appendNull 37 = .ok (.iinc 1 1, 3) := dk_132 1 1 (dk_at dksJ1_appendNull_1 13 rfl rfl)
theorem dJ1_appendNull_40 : decode cJ1_appendNull 40 = .ok (.bipush 117, 2) := dk_16 117 (dk_at dksJ1_appendNull_1 16 rfl rfl)
theorem dJ1_appendNull_42 : decode cJ1_appendNull 42 = .ok (.bastore, 1) := dk_84 (dk_at dksJ1_appendNull_1 18 rfl rfl)
theorem dJ1_appendNull_43 : decode cJ1_appendNull 43 = .ok (.aload_n 2, 1) := dk_44 (dk_at dksJ1_appendNull_1 19 rfl rfl)
theorem dJ1_appendNull_44 : decode cJ1_appendNull 44 = .ok (.iload_n 1, 1) := dk_27 (dk_at dksJ1_appendNull_1 20 rfl rfl)
theorem dJ1_appendNull_45 : decode cJ1_appendNull 45 = .ok (.iinc 1 1, 3) := dk_132 1 1 (dk_at dksJ1_appendNull_1 21 rfl rfl)
theorem dJ1_appendNull_48 : decode cJ1_appendNull 48 = .ok (.bipush 108, 2) := dk_16 108 (dk_at dksJ1_appendNull_2 0 rfl rfl)
theorem dJ1_appendNull_50 : decode cJ1_appendNull 50 = .ok (.bastore, 1) := dk_84 (dk_at dksJ1_appendNull_2 2 rfl rfl)
theorem dJ1_appendNull_51 : decode cJ1_appendNull 51 = .ok (.aload_n 2, 1) := dk_44 (dk_at dksJ1_appendNull_2 3 rfl rfl)
theorem dJ1_appendNull_52 : decode cJ1_appendNull 52 = .ok (.iload_n 1, 1) := dk_27 (dk_at dksJ1_appendNull_2 4 rfl rfl)
theorem dJ1_appendNull_53 : decode cJ1_appendNull 53 = .ok (.iinc 1 1, 3) := dk_132 1 1 (dk_at dksJ1_appendNull_2 5 rfl rfl)
theorem dJ1_appendNull_56 : decode cJ1_appendNull 56 = .ok (.bipush 108, 2) := dk_16 108 (dk_at dksJ1_appendNull_2 8 rfl rfl)
theorem dJ1_appendNull_58 : decode cJ1_appendNull 58 = .ok (.bastore, 1) := dk_84 (dk_at dksJ1_appendNull_2 10 rfl rfl)
theorem dJ1_appendNull_59 : decode cJ1_appendNull 59 = .ok (.goto 17, 3) := dk_167 0 17 (dk_at dksJ1_appendNull_2 11 rfl rfl)
theorem dJ1_appendNull_62 : decode cJ1_appendNull 62 = .ok (.aload_n 2, 1) := dk_44 (dk_at dksJ1_appendNull_2 14 rfl rfl)
theorem dJ1_appendNull_63 : decode cJ1_appendNull 63 = .ok (.iload_n 1, 1) := dk_27 (dk_at dksJ1_appendNull_2 15 rfl rfl)
theorem dJ1_appendNull_64 : decode cJ1_appendNull 64 = .ok (.bipush 110, 2) := dk_16 110 (dk_at dksJ1_appendNull_2 16 rfl rfl)
theorem dJ1_appendNull_66 : decode cJ1_appendNull 66 = .ok (.bipush 117, 2) := dk_16 117 (dk_at dksJ1_appendNull_2 18 rfl rfl)
theorem dJ1_appendNull_68 : decode cJ1_appendNull 68 = .ok (.bipush 108, 2) := dk_16 108 (dk_at dksJ1_appendNull_2 20 rfl rfl)
theorem dJ1_appendNull_70 : decode cJ1_appendNull 70 = .ok (.bipush 108, 2) := dk_16 108 (dk_at dksJ1_appendNull_2 22 rfl rfl)
theorem dJ1_appendNull_72 : decode cJ1_appendNull 72 = .ok (.invokestatic 226, 3) := dk_184 0 226 (dk_at dksJ1_appendNull_3 0 rfl rfl)
theorem dJ1_appendNull_75 : decode cJ1_appendNull 75 = .ok (.istore_n 1, 1) := dk_60 (dk_at dksJ1_appendNull_3 3 rfl rfl)
theorem dJ1_appendNull_76 : decode cJ1_appendNull 76 = .ok (.aload_n 0, 1) := dk_42 (dk_at dksJ1_appendNull_3 4 rfl rfl)
theorem dJ1_appendNull_77 : decode cJ1_appendNull 77 = .ok (.iload_n 1, 1) := dk_27 (dk_at dksJ1_appendNull_3 5 rfl rfl)
theorem dJ1_appendNull_78 : decode cJ1_appendNull 78 = .ok (.putfield 79, 3) := dk_181 0 79 (dk_at dksJ1_appendNull_3 6 rfl rfl)
theorem dJ1_appendNull_81 : decode cJ1_appendNull 81 = .ok (.aload_n 0, 1) := dk_42 (dk_at dksJ1_appendNull_3 9 rfl rfl)
theorem dJ1_appendNull_82 : decode cJ1_appendNull 82 = .ok (.areturn, 1) := dk_176 (dk_at dksJ1_appendNull_3 10 rfl rfl)
abbrev cJ1_putStringAt : ByteArray := prog_16_method_73_code
def yJ1_putStringAt : MethodName := ⟨RJ1, "putStringAt", "(ILjava/lang/String;)V"⟩
def dkwJ1_putStringAt_0 : List UInt8 := [42, 44, 182, 1, 141, 44, 42, 180, 0, 15, 27, 42, 180, 0, 22, 182, 1, 143, 177]
abbrev dktJ1_putStringAt_0 : List UInt8 := dkwJ1_putStringAt_0 ++ []
theorem dksJ1_putStringAt_0 : cJ1_putStringAt.data.toList.drop 0 = dktJ1_putStringAt_0 := by decide +kernel
theorem dJ1_putStringAt_0 : decode cJ1_putStringAt 0 = .ok (.aload_n 0, 1) := dk_42 (dk_at dksJ1_putStringAt_0 0 rfl rfl)
theorem dJ1_putStringAt_1 : decode cJ1_putStringAt 1 = .ok (.aload_n 2, 1) := dk_44 (dk_at dksJ1_putStringAt_0 1 rfl rfl)
theorem dJ1_putStringAt_2 : decode cJ1_putStringAt 2 = .ok (.invokevirtual 397, 3) := dk_182 1 141 (dk_at dksJ1_putStringAt_0 2 rfl rfl)
theorem dJ1_putStringAt_5 : decode cJ1_putStringAt 5 = .ok (.aload_n 2, 1) := dk_44 (dk_at dksJ1_putStringAt_0 5 rfl rfl)
theorem dJ1_putStringAt_6 : decode cJ1_putStringAt 6 = .ok (.aload_n 0, 1) := dk_42 (dk_at dksJ1_putStringAt_0 6 rfl rfl)
theorem dJ1_putStringAt_7 : decode cJ1_putStringAt 7 = .ok (.getfield 15, 3) := dk_180 0 15 (dk_at dksJ1_putStringAt_0 7 rfl rfl)
theorem dJ1_putStringAt_10 : decode cJ1_putStringAt 10 = .ok (.iload_n 1, 1) := dk_27 (dk_at dksJ1_putStringAt_0 10 rfl rfl)
theorem dJ1_putStringAt_11 : decode cJ1_putStringAt 11 = .ok (.aload_n 0, 1) := dk_42 (dk_at dksJ1_putStringAt_0 11 rfl rfl)
theorem dJ1_putStringAt_12 : decode cJ1_putStringAt 12 = .ok (.getfield 22, 3) := dk_180 0 22 (dk_at dksJ1_putStringAt_0 12 rfl rfl)
theorem dJ1_putStringAt_15 : decode cJ1_putStringAt 15 = .ok (.invokevirtual 399, 3) := dk_182 1 143 (dk_at dksJ1_putStringAt_0 15 rfl rfl)
theorem dJ1_putStringAt_18 : decode cJ1_putStringAt 18 = .ok (.return_, 1) := dk_177 (dk_at dksJ1_putStringAt_0 18 rfl rfl)
abbrev cJ1_inflateIfNeededFor : ByteArray := prog_16_method_71_code
def yJ1_inflateIfNeededFor : MethodName := ⟨RJ1, "inflateIfNeededFor", "(Ljava/lang/String;)V"⟩
def dkwJ1_inflateIfNeededFor_0 : List UInt8 := [178, 0, 18, 153, 0, 18, 42, 180, 0, 22, 43, 182, 0, 40, 159, 0, 7, 42, 182, 0, 195, 177]
abbrev dktJ1_inflateIfNeededFor_0 : List UInt8 := dkwJ1_inflateIfNeededFor_0 ++ []
theorem dksJ1_inflateIfNeededFor_0 : cJ1_inflateIfNeededFor.data.toList.drop 0 = dktJ1_inflateIfNeededFor_0 := by decide +kernel
theorem dJ1_inflateIfNeededFor_0 : decode cJ1_inflateIfNeededFor 0 = .ok (.getstatic 18, 3) := dk_178 0 18 (dk_at dksJ1_inflateIfNeededFor_0 0 rfl rfl)
theorem dJ1_inflateIfNeededFor_3 : decode cJ1_inflateIfNeededFor 3 = .ok (.ifCond .eq 18, 3) := dk_153 0 18 (dk_at dksJ1_inflateIfNeededFor_0 3 rfl rfl)
theorem dJ1_inflateIfNeededFor_6 : decode cJ1_inflateIfNeededFor 6 = .ok (.aload_n 0, 1) := dk_42 (dk_at dksJ1_inflateIfNeededFor_0 6 rfl rfl)
theorem dJ1_inflateIfNeededFor_7 : decode cJ1_inflateIfNeededFor 7 = .ok (.getfield 22, 3) := dk_180 0 22 (dk_at dksJ1_inflateIfNeededFor_0 7 rfl rfl)
theorem dJ1_inflateIfNeededFor_10 : decode cJ1_inflateIfNeededFor 10 = .ok (.aload_n 1, 1) := dk_43 (dk_at dksJ1_inflateIfNeededFor_0 10 rfl rfl)
theorem dJ1_inflateIfNeededFor_11 : decode cJ1_inflateIfNeededFor 11 = .ok (.invokevirtual 40, 3) := dk_182 0 40 (dk_at dksJ1_inflateIfNeededFor_0 11 rfl rfl)
theorem dJ1_inflateIfNeededFor_14 : decode cJ1_inflateIfNeededFor 14 = .ok (.if_icmp .eq 7, 3) := dk_159 0 7 (dk_at dksJ1_inflateIfNeededFor_0 14 rfl rfl)
theorem dJ1_inflateIfNeededFor_17 : decode cJ1_inflateIfNeededFor 17 = .ok (.aload_n 0, 1) := dk_42 (dk_at dksJ1_inflateIfNeededFor_0 17 rfl rfl)
theorem dJ1_inflateIfNeededFor_18 : decode cJ1_inflateIfNeededFor 18 = .ok (.invokevirtual 195, 3) := dk_182 0 195 (dk_at dksJ1_inflateIfNeededFor_0 18 rfl rfl)
theorem dJ1_inflateIfNeededFor_21 : decode cJ1_inflateIfNeededFor 21 = .ok (.return_, 1) := dk_177 (dk_at dksJ1_inflateIfNeededFor_0 21 rfl rfl)
theorem q55 : (Jvm.Cond.initialized "java/lang/AbstractStringBuilder") ∈ lw_all := lw_g (lw_at lw_m1 7 rfl) rfl
theorem q294 : (Jvm.Cond.instanceMethod ({ cls := "java/lang/AbstractStringBuilder", name := "<init>", desc := "(I)V" } : Jvm.MethodName)) ∈ lw_all := lw_g (lw_at lw_m2 6 rfl) rfl
theorem q295 : (Jvm.Cond.code ({ cls := "java/lang/AbstractStringBuilder", name := "<init>", desc := "(I)V" } : Jvm.MethodName) prog_16_method_2_code (2 : Nat) (Option.none : Option Jvm.ClassFile.FieldType)) ∈ lw_all := lw_g (lw_at lw_m2 7 rfl) rfl
theorem q296 : (Jvm.Cond.methodLink "java/lang/AbstractStringBuilder" (3 : Nat) ({ cls := "java/lang/Object", name := "<init>", desc := "()V" } : Jvm.MethodName)) ∈ lw_all := lw_g (lw_at lw_m2 8 rfl) rfl
theorem q297 : (Jvm.Cond.fieldLink "java/lang/AbstractStringBuilder" (18 : Nat) "java/lang/String" "COMPACT_STRINGS" "Z") ∈ lw_all := lw_g (lw_at lw_m2 9 rfl) rfl
theorem q299 : (Jvm.Cond.methodLink "java/lang/AbstractStringBuilder" (26 : Nat) ({ cls := "java/lang/StringUTF16", name := "newBytesFor", desc := "(I)[B" } : Jvm.MethodName)) ∈ lw_all := lw_g (lw_at lw_m2 11 rfl) rfl
theorem q306 : (Jvm.Cond.fieldLink "java/lang/AbstractStringBuilder" (15 : Nat) "java/lang/AbstractStringBuilder" "value" "[B") ∈ lw_all := lw_g (lw_at lw_m2 18 rfl) rfl
theorem q307 : (Jvm.Cond.fieldLink "java/lang/AbstractStringBuilder" (22 : Nat) "java/lang/AbstractStringBuilder" "coder" "B") ∈ lw_all := lw_g (lw_at lw_m2 19 rfl) rfl
theorem q309 : (Jvm.Cond.fieldLink "java/lang/AbstractStringBuilder" (79 : Nat) "java/lang/AbstractStringBuilder" "count" "I") ∈ lw_all := lw_g (lw_at lw_m2 21 rfl) rfl
theorem q311 : (Jvm.Cond.soleField "java/lang/AbstractStringBuilder" "value") ∈ lw_all := lw_g (lw_at lw_m2 23 rfl) rfl
theorem q313 : (Jvm.Cond.soleField "java/lang/AbstractStringBuilder" "coder") ∈ lw_all := lw_g (lw_at lw_m2 25 rfl) rfl
theorem q315 : (Jvm.Cond.soleField "java/lang/AbstractStringBuilder" "maybeLatin1") ∈ lw_all := lw_g (lw_at lw_m2 27 rfl) rfl
theorem q317 : (Jvm.Cond.soleField "java/lang/AbstractStringBuilder" "count") ∈ lw_all := lw_g (lw_at lw_m2 29 rfl) rfl
theorem q324 : (Jvm.Cond.instanceMethod ({ cls := "java/lang/AbstractStringBuilder", name := "append", desc := "(C)Ljava/lang/AbstractStringBuilder;" } : Jvm.MethodName)) ∈ lw_all := lw_g (lw_at lw_m2 36 rfl) rfl
theorem q325 : (Jvm.Cond.code ({ cls := "java/lang/AbstractStringBuilder", name := "append", desc := "(C)Ljava/lang/AbstractStringBuilder;" } : Jvm.MethodName) prog_16_method_31_code (2 : Nat) (Option.some (Jvm.ClassFile.FieldType.object "java/lang/AbstractStringBuilder"))) ∈ lw_all := lw_g (lw_at lw_m2 37 rfl) rfl
theorem q326 : (Jvm.Cond.methodLink "java/lang/AbstractStringBuilder" (100 : Nat) ({ cls := "java/lang/AbstractStringBuilder", name := "ensureCapacityInternal", desc := "(I)V" } : Jvm.MethodName)) ∈ lw_all := lw_g (lw_at lw_m2 38 rfl) rfl
theorem q327 : (Jvm.Cond.privateMethod ({ cls := "java/lang/AbstractStringBuilder", name := "ensureCapacityInternal", desc := "(I)V" } : Jvm.MethodName)) ∈ lw_tbl := lw_at lw_m2 39 rfl
theorem q328 : (Jvm.Cond.instanceMethod ({ cls := "java/lang/AbstractStringBuilder", name := "ensureCapacityInternal", desc := "(I)V" } : Jvm.MethodName)) ∈ lw_all := lw_g (lw_at lw_m2 40 rfl) rfl
theorem q329 : (Jvm.Cond.code ({ cls := "java/lang/AbstractStringBuilder", name := "ensureCapacityInternal", desc := "(I)V" } : Jvm.MethodName) prog_16_method_9_code (3 : Nat) (Option.none : Option Jvm.ClassFile.FieldType)) ∈ lw_all := lw_g (lw_at lw_m2 41 rfl) rfl
theorem q330 : (Jvm.Cond.methodLink "java/lang/AbstractStringBuilder" (104 : Nat) ({ cls := "java/lang/AbstractStringBuilder", name := "newCapacity", desc := "(I)I" } : Jvm.MethodName)) ∈ lw_all := lw_g (lw_at lw_m2 42 rfl) rfl
theorem q331 : (Jvm.Cond.privateMethod ({ cls := "java/lang/AbstractStringBuilder", name := "newCapacity", desc := "(I)I" } : Jvm.MethodName)) ∈ lw_tbl := lw_at lw_m2 43 rfl
theorem q332 : (Jvm.Cond.instanceMethod ({ cls := "java/lang/AbstractStringBuilder", name := "newCapacity", desc := "(I)I" } : Jvm.MethodName)) ∈ lw_all := lw_g (lw_at lw_m2 44 rfl) rfl
theorem q333 : (Jvm.Cond.code ({ cls := "java/lang/AbstractStringBuilder", name := "newCapacity", desc := "(I)I" } : Jvm.MethodName) prog_16_method_10_code (6 : Nat) (Option.some Jvm.ClassFile.FieldType.int)) ∈ lw_all := lw_g (lw_at lw_m2 45 rfl) rfl
theorem q334 : (Jvm.Cond.methodLink "java/lang/AbstractStringBuilder" (114 : Nat) ({ cls := "jdk/internal/util/ArraysSupport", name := "newLength", desc := "(III)I" } : Jvm.MethodName)) ∈ lw_all := lw_g (lw_at lw_m2 46 rfl) rfl
theorem q344 : (Jvm.Cond.constant "java/lang/AbstractStringBuilder" (39 : Nat) (2147483647 : Int32)) ∈ lw_all := lw_g (lw_at lw_m2 56 rfl) rfl
theorem q345 : (Jvm.Cond.methodLink "java/lang/AbstractStringBuilder" (108 : Nat) ({ cls := "java/util/Arrays", name := "copyOf", desc := "([BI)[B" } : Jvm.MethodName)) ∈ lw_all := lw_g (lw_at lw_m2 57 rfl) rfl
theorem q359 : (Jvm.Cond.methodLink "java/lang/AbstractStringBuilder" (83 : Nat) ({ cls := "java/lang/AbstractStringBuilder", name := "isLatin1", desc := "()Z" } : Jvm.MethodName)) ∈ lw_all := lw_g (lw_at lw_m2 71 rfl) rfl
theorem q360 : (Jvm.Cond.instanceMethod ({ cls := "java/lang/AbstractStringBuilder", name := "isLatin1", desc := "()Z" } : Jvm.MethodName)) ∈ lw_all := lw_g (lw_at lw_m2 72 rfl) rfl
theorem q361 : (Jvm.Cond.sameMethod "java/lang/AbstractStringBuilder" "java/lang/AbstractStringBuilder" "isLatin1" "()Z") ∈ lw_all := lw_g (lw_at lw_m2 73 rfl) rfl
theorem q363 : (Jvm.Cond.code ({ cls := "java/lang/AbstractStringBuilder", name := "isLatin1", desc := "()Z" } : Jvm.MethodName) prog_16_method_68_code (1 : Nat) (Option.some Jvm.ClassFile.FieldType.boolean)) ∈ lw_all := lw_g (lw_at lw_m2 75 rfl) rfl
theorem q364 : (Jvm.Cond.methodLink "java/lang/AbstractStringBuilder" (191 : Nat) ({ cls := "java/lang/StringLatin1", name := "canEncode", desc := "(C)Z" } : Jvm.MethodName)) ∈ lw_all := lw_g (lw_at lw_m2 76 rfl) rfl
theorem q367 : (Jvm.Cond.methodLink "java/lang/AbstractStringBuilder" (195 : Nat) ({ cls := "java/lang/AbstractStringBuilder", name := "inflate", desc := "()V" } : Jvm.MethodName)) ∈ lw_all := lw_g (lw_at lw_m2 79 rfl) rfl
theorem q368 : (Jvm.Cond.privateMethod ({ cls := "java/lang/AbstractStringBuilder", name := "inflate", desc := "()V" } : Jvm.MethodName)) ∈ lw_tbl := lw_at lw_m2 80 rfl
theorem q369 : (Jvm.Cond.instanceMethod ({ cls := "java/lang/AbstractStringBuilder", name := "inflate", desc := "()V" } : Jvm.MethodName)) ∈ lw_all := lw_g (lw_at lw_m2 81 rfl) rfl
theorem q370 : (Jvm.Cond.code ({ cls := "java/lang/AbstractStringBuilder", name := "inflate", desc := "()V" } : Jvm.MethodName) prog_16_method_11_code (2 : Nat) (Option.none : Option Jvm.ClassFile.FieldType)) ∈ lw_all := lw_g (lw_at lw_m2 82 rfl) rfl
theorem q371 : (Jvm.Cond.methodLink "java/lang/AbstractStringBuilder" (125 : Nat) ({ cls := "java/lang/StringLatin1", name := "inflate", desc := "([BI[BII)V" } : Jvm.MethodName)) ∈ lw_all := lw_g (lw_at lw_m2 83 rfl) rfl
theorem q400 : (Jvm.Cond.methodLink "java/lang/AbstractStringBuilder" (197 : Nat) ({ cls := "java/lang/StringUTF16", name := "putCharSB", desc := "([BII)V" } : Jvm.MethodName)) ∈ lw_all := lw_g (lw_at lw_m2 112 rfl) rfl
theorem q426 : (Jvm.Cond.instanceMethod ({ cls := "java/lang/AbstractStringBuilder", name := "getValue", desc := "()[B" } : Jvm.MethodName)) ∈ lw_all := lw_g (lw_at lw_m2 138 rfl) rfl
theorem q427 : (Jvm.Cond.sameMethod "java/lang/AbstractStringBuilder" "java/lang/AbstractStringBuilder" "getValue" "()[B") ∈ lw_all := lw_g (lw_at lw_m2 139 rfl) rfl
theorem q429 : (Jvm.Cond.code ({ cls := "java/lang/AbstractStringBuilder", name := "getValue", desc := "()[B" } : Jvm.MethodName) prog_16_method_64_code (1 : Nat) (Option.some (Jvm.ClassFile.FieldType.array Jvm.ClassFile.FieldType.byte))) ∈ lw_all := lw_g (lw_at lw_m2 141 rfl) rfl
theorem q431 : (Jvm.Cond.instanceMethod ({ cls := "java/lang/AbstractStringBuilder", name := "length", desc := "()I" } : Jvm.MethodName)) ∈ lw_all := lw_g (lw_at lw_m2 143 rfl) rfl
theorem q432 : (Jvm.Cond.sameMethod "java/lang/AbstractStringBuilder" "java/lang/AbstractStringBuilder" "length" "()I") ∈ lw_all := lw_g (lw_at lw_m2 144 rfl) rfl
theorem q437 : (Jvm.Cond.code ({ cls := "java/lang/AbstractStringBuilder", name := "length", desc := "()I" } : Jvm.MethodName) prog_16_method_6_code (1 : Nat) (Option.some Jvm.ClassFile.FieldType.int)) ∈ lw_all := lw_g (lw_at lw_m2 149 rfl) rfl
theorem q1479 : (Jvm.Cond.instanceMethod ({ cls := "java/lang/AbstractStringBuilder", name := "append", desc := "(Ljava/lang/String;)Ljava/lang/AbstractStringBuilder;" } : Jvm.MethodName)) ∈ lw_all := lw_g (lw_at lw_m6 231 rfl) rfl
theorem q1480 : (Jvm.Cond.code ({ cls := "java/lang/AbstractStringBuilder", name := "append", desc := "(Ljava/lang/String;)Ljava/lang/AbstractStringBuilder;" } : Jvm.MethodName) prog_16_method_22_code (3 : Nat) (Option.some (Jvm.ClassFile.FieldType.object "java/lang/AbstractStringBuilder"))) ∈ lw_all := lw_g (lw_at lw_m6 232 rfl) rfl
theorem q1481 : (Jvm.Cond.methodLink "java/lang/AbstractStringBuilder" (204 : Nat) ({ cls := "java/lang/AbstractStringBuilder", name := "appendNull", desc := "()Ljava/lang/AbstractStringBuilder;" } : Jvm.MethodName)) ∈ lw_all := lw_g (lw_at lw_m6 233 rfl) rfl
theorem q1482 : (Jvm.Cond.privateMethod ({ cls := "java/lang/AbstractStringBuilder", name := "appendNull", desc := "()Ljava/lang/AbstractStringBuilder;" } : Jvm.MethodName)) ∈ lw_tbl := lw_at lw_m6 234 rfl
theorem q1483 : (Jvm.Cond.instanceMethod ({ cls := "java/lang/AbstractStringBuilder", name := "appendNull", desc := "()Ljava/lang/AbstractStringBuilder;" } : Jvm.MethodName)) ∈ lw_all := lw_g (lw_at lw_m6 235 rfl) rfl
theorem q1484 : (Jvm.Cond.code ({ cls := "java/lang/AbstractStringBuilder", name := "appendNull", desc := "()Ljava/lang/AbstractStringBuilder;" } : Jvm.MethodName) prog_16_method_26_code (3 : Nat) (Option.some (Jvm.ClassFile.FieldType.object "java/lang/AbstractStringBuilder"))) ∈ lw_all := lw_g (lw_at lw_m6 236 rfl) rfl
theorem q1485 : (Jvm.Cond.methodLink "java/lang/AbstractStringBuilder" (226 : Nat) ({ cls := "java/lang/StringUTF16", name := "putCharsAt", desc := "([BICCCC)I" } : Jvm.MethodName)) ∈ lw_all := lw_g (lw_at lw_m6 237 rfl) rfl
theorem q1497 : (Jvm.Cond.methodLink "java/lang/AbstractStringBuilder" (32 : Nat) ({ cls := "java/lang/String", name := "length", desc := "()I" } : Jvm.MethodName)) ∈ lw_all := lw_g (lw_at lw_m7 9 rfl) rfl
theorem q1498 : (Jvm.Cond.methodLink "java/lang/AbstractStringBuilder" (208 : Nat) ({ cls := "java/lang/AbstractStringBuilder", name := "putStringAt", desc := "(ILjava/lang/String;)V" } : Jvm.MethodName)) ∈ lw_all := lw_g (lw_at lw_m7 10 rfl) rfl
theorem q1499 : (Jvm.Cond.privateMethod ({ cls := "java/lang/AbstractStringBuilder", name := "putStringAt", desc := "(ILjava/lang/String;)V" } : Jvm.MethodName)) ∈ lw_tbl := lw_at lw_m7 11 rfl
theorem q1500 : (Jvm.Cond.instanceMethod ({ cls := "java/lang/AbstractStringBuilder", name := "putStringAt", desc := "(ILjava/lang/String;)V" } : Jvm.MethodName)) ∈ lw_all := lw_g (lw_at lw_m7 12 rfl) rfl
theorem q1501 : (Jvm.Cond.code ({ cls := "java/lang/AbstractStringBuilder", name := "putStringAt", desc := "(ILjava/lang/String;)V" } : Jvm.MethodName) prog_16_method_73_code (3 : Nat) (Option.none : Option Jvm.ClassFile.FieldType)) ∈ lw_all := lw_g (lw_at lw_m7 13 rfl) rfl
theorem q1502 : (Jvm.Cond.methodLink "java/lang/AbstractStringBuilder" (397 : Nat) ({ cls := "java/lang/AbstractStringBuilder", name := "inflateIfNeededFor", desc := "(Ljava/lang/String;)V" } : Jvm.MethodName)) ∈ lw_all := lw_g (lw_at lw_m7 14 rfl) rfl
theorem q1503 : (Jvm.Cond.privateMethod ({ cls := "java/lang/AbstractStringBuilder", name := "inflateIfNeededFor", desc := "(Ljava/lang/String;)V" } : Jvm.MethodName)) ∈ lw_tbl := lw_at lw_m7 15 rfl
theorem q1504 : (Jvm.Cond.instanceMethod ({ cls := "java/lang/AbstractStringBuilder", name := "inflateIfNeededFor", desc := "(Ljava/lang/String;)V" } : Jvm.MethodName)) ∈ lw_all := lw_g (lw_at lw_m7 16 rfl) rfl
theorem q1505 : (Jvm.Cond.code ({ cls := "java/lang/AbstractStringBuilder", name := "inflateIfNeededFor", desc := "(Ljava/lang/String;)V" } : Jvm.MethodName) prog_16_method_71_code (2 : Nat) (Option.none : Option Jvm.ClassFile.FieldType)) ∈ lw_all := lw_g (lw_at lw_m7 17 rfl) rfl
theorem q1506 : (Jvm.Cond.methodLink "java/lang/AbstractStringBuilder" (40 : Nat) ({ cls := "java/lang/String", name := "coder", desc := "()B" } : Jvm.MethodName)) ∈ lw_all := lw_g (lw_at lw_m7 18 rfl) rfl
theorem q1507 : (Jvm.Cond.methodLink "java/lang/AbstractStringBuilder" (399 : Nat) ({ cls := "java/lang/String", name := "getBytes", desc := "([BIB)V" } : Jvm.MethodName)) ∈ lw_all := lw_g (lw_at lw_m7 19 rfl) rfl
theorem q2172 : (Jvm.Cond.sameMethod "java/lang/AbstractStringBuilder" "java/lang/AbstractStringBuilder" "append" "(C)Ljava/lang/AbstractStringBuilder;") ∈ lw_all := lw_g (lw_at lw_m9 204 rfl) rfl
theorem q2173 : (Jvm.Cond.sameMethod "java/lang/AbstractStringBuilder" "java/lang/AbstractStringBuilder" "ensureCapacityInternal" "(I)V") ∈ lw_all := lw_g (lw_at lw_m9 205 rfl) rfl
theorem q2174 : (Jvm.Cond.sameMethod "java/lang/AbstractStringBuilder" "java/lang/AbstractStringBuilder" "newCapacity" "(I)I") ∈ lw_all := lw_g (lw_at lw_m9 206 rfl) rfl
theorem q2175 : (Jvm.Cond.sameMethod "java/lang/AbstractStringBuilder" "java/lang/AbstractStringBuilder" "inflate" "()V") ∈ lw_all := lw_g (lw_at lw_m9 207 rfl) rfl
theorem q2183 : (Jvm.Cond.sameMethod "java/lang/AbstractStringBuilder" "java/lang/AbstractStringBuilder" "append" "(Ljava/lang/String;)Ljava/lang/AbstractStringBuilder;") ∈ lw_all := lw_g (lw_at lw_m9 215 rfl) rfl
theorem q2184 : (Jvm.Cond.sameMethod "java/lang/AbstractStringBuilder" "java/lang/AbstractStringBuilder" "appendNull" "()Ljava/lang/AbstractStringBuilder;") ∈ lw_all := lw_g (lw_at lw_m9 216 rfl) rfl
theorem q2185 : (Jvm.Cond.sameMethod "java/lang/AbstractStringBuilder" "java/lang/AbstractStringBuilder" "putStringAt" "(ILjava/lang/String;)V") ∈ lw_all := lw_g (lw_at lw_m9 217 rfl) rfl
theorem q2186 : (Jvm.Cond.sameMethod "java/lang/AbstractStringBuilder" "java/lang/AbstractStringBuilder" "inflateIfNeededFor" "(Ljava/lang/String;)V") ∈ lw_all := lw_g (lw_at lw_m9 218 rfl) rfl
/-! java/util/AbstractList -/
set_option maxRecDepth 100000
def RJ10 : String := "java/util/AbstractList"
abbrev cJ10_init : ByteArray := prog_45_method_1_code
def yJ10_init : MethodName := ⟨RJ10, "<init>", "()V"⟩
def dkwJ10_init_0 : List UInt8 := [42, 183, 0, 1, 42, 3, 181, 0, 7, 177]
abbrev dktJ10_init_0 : List UInt8 := dkwJ10_init_0 ++ []
theorem dksJ10_init_0 : cJ10_init.data.toList.drop 0 = dktJ10_init_0 := by decide +kernel
theorem dJ10_init_0 : decode cJ10_init 0 = .ok (.aload_n 0, 1) := dk_42 (dk_at dksJ10_init_0 0 rfl rfl)
theorem dJ10_init_1 : decode cJ10_init 1 = .ok (.invokespecial 1, 3) := dk_183 0 1 (dk_at dksJ10_init_0 1 rfl rfl)
theorem dJ10_init_4 : decode cJ10_init 4 = .ok (.aload_n 0, 1) := dk_42 (dk_at dksJ10_init_0 4 rfl rfl)
theorem dJ10_init_5 : decode cJ10_init 5 = .ok (.iconst 0, 1) := dk_3 (dk_at dksJ10_init_0 5 rfl rfl)
theorem dJ10_init_6 : decode cJ10_init 6 = .ok (.putfield 7, 3) := dk_181 0 7 (dk_at dksJ10_init_0 6 rfl rfl)
theorem dJ10_init_9 : decode cJ10_init 9 = .ok (.return_, 1) := dk_177 (dk_at dksJ10_init_0 9 rfl rfl)
abbrev cJ10_listIterator : ByteArray := prog_45_method_12_code
def yJ10_listIterator : MethodName := ⟨RJ10, "listIterator", "()Ljava/util/ListIterator;"⟩
def dkwJ10_listIterator_0 : List UInt8 := [42, 3, 182, 0, 47, 176]
abbrev dktJ10_listIterator_0 : List UInt8 := dkwJ10_listIterator_0 ++ []
theorem dksJ10_listIterator_0 : cJ10_listIterator.data.toList.drop 0 = dktJ10_listIterator_0 := by decide +kernel
theorem dJ10_listIterator_0 : decode cJ10_listIterator 0 = .ok (.aload_n 0, 1) := dk_42 (dk_at dksJ10_listIterator_0 0 rfl rfl)
theorem dJ10_listIterator_1 : decode cJ10_listIterator 1 = .ok (.iconst 0, 1) := dk_3 (dk_at dksJ10_listIterator_0 1 rfl rfl)
theorem dJ10_listIterator_2 : decode cJ10_listIterator 2 = .ok (.invokevirtual 47, 3) := dk_182 0 47 (dk_at dksJ10_listIterator_0 2 rfl rfl)
theorem dJ10_listIterator_5 : decode cJ10_listIterator 5 = .ok (.areturn, 1) := dk_176 (dk_at dksJ10_listIterator_0 5 rfl rfl)
abbrev cJ10_listIterator_2 : ByteArray := prog_45_method_13_code
def yJ10_listIterator_2 : MethodName := ⟨RJ10, "listIterator", "(I)Ljava/util/ListIterator;"⟩
def dkwJ10_listIterator_2_0 : List UInt8 := [42, 27, 182, 0, 63, 187, 0, 82, 89, 42, 27, 183, 0, 84, 176]
abbrev dktJ10_listIterator_2_0 : List UInt8 := dkwJ10_listIterator_2_0 ++ []
theorem dksJ10_listIterator_2_0 : cJ10_listIterator_2.data.toList.drop 0 = dktJ10_listIterator_2_0 := by decide +kernel
theorem dJ10_listIterator_2_0 : decode cJ10_listIterator_2 0 = .ok (.aload_n 0, 1) := dk_42 (dk_at dksJ10_listIterator_2_0 0 rfl rfl)
theorem dJ10_listIterator_2_1 : decode cJ10_listIterator_2 1 = .ok (.iload_n 1, 1) := dk_27 (dk_at dksJ10_listIterator_2_0 1 rfl rfl)
theorem dJ10_listIterator_2_2 : decode cJ10_listIterator_2 2 = .ok (.invokevirtual 63, 3) := dk_182 0 63 (dk_at dksJ10_listIterator_2_0 2 rfl rfl)
theorem dJ10_listIterator_2_5 : decode cJ10_listIterator_2 5 = .ok (.new 82, 3) := dk_187 0 82 (dk_at dksJ10_listIterator_2_0 5 rfl rfl)
theorem dJ10_listIterator_2_8 : decode cJ10_listIterator_2 8 = .ok (.dup, 1) := dk_89 (dk_at dksJ10_listIterator_2_0 8 rfl rfl)
theorem dJ10_listIterator_2_9 : decode cJ10_listIterator_2 9 = .ok (.aload_n 0, 1) := dk_42 (dk_at dksJ10_listIterator_2_0 9 rfl rfl)
theorem dJ10_listIterator_2_10 : decode cJ10_listIterator_2 10 = .ok (.iload_n 1, 1) := dk_27 (dk_at dksJ10_listIterator_2_0 10 rfl rfl)
theorem dJ10_listIterator_2_11 : decode cJ10_listIterator_2 11 = .ok (.invokespecial 84, 3) := dk_183 0 84 (dk_at dksJ10_listIterator_2_0 11 rfl rfl)
theorem dJ10_listIterator_2_14 : decode cJ10_listIterator_2 14 = .ok (.areturn, 1) := dk_176 (dk_at dksJ10_listIterator_2_0 14 rfl rfl)
abbrev cJ10_rangeCheckForAdd : ByteArray := prog_45_method_19_code
def yJ10_rangeCheckForAdd : MethodName := ⟨RJ10, "rangeCheckForAdd", "(I)V"⟩
def dkwJ10_rangeCheckForAdd_1 : List UInt8 := [191, 177]
abbrev dktJ10_rangeCheckForAdd_1 : List UInt8 := dkwJ10_rangeCheckForAdd_1 ++ []
def dkwJ10_rangeCheckForAdd_0 : List UInt8 := [27, 155, 0, 11, 27, 42, 182, 0, 13, 164, 0, 16, 187, 0, 101, 89, 42, 27, 182, 0, 143, 183, 0, 119]
abbrev dktJ10_rangeCheckForAdd_0 : List UInt8 := dkwJ10_rangeCheckForAdd_0 ++ dktJ10_rangeCheckForAdd_1
theorem dksJ10_rangeCheckForAdd_0 : cJ10_rangeCheckForAdd.data.toList.drop 0 = dktJ10_rangeCheckForAdd_0 := by decide +kernel
theorem dksJ10_rangeCheckForAdd_1 : cJ10_rangeCheckForAdd.data.toList.drop 24 = dktJ10_rangeCheckForAdd_1 := dk_seg dksJ10_rangeCheckForAdd_0 24 rfl rfl
theorem dJ10_rangeCheckForAdd_0 : decode cJ10_rangeCheckForAdd 0 = .ok (.iload_n 1, 1) := dk_27 (dk_at dksJ10_rangeCheckForAdd_0 0 rfl rfl)
theorem dJ10_rangeCheckForAdd_1 : decode cJ10_rangeCheckForAdd 1 = .ok (.ifCond .lt 11, 3) := dk_155 0 11 (dk_at dksJ10_rangeCheckForAdd_0 1 rfl rfl)
theorem dJ10_rangeCheckForAdd_4 : decode cJ10_rangeCheckForAdd 4 = .ok (.iload_n 1, 1) := dk_27 (dk_at dksJ10_rangeCheckForAdd_0 4 rfl rfl)
theorem dJ10_rangeCheckForAdd_5 : decode cJ10_rangeCheckForAdd 5 = .ok (.aload_n 0, 1) := dk_42 (dk_at dksJ10_rangeCheckForAdd_0 5 rfl rfl)
theorem dJ10_rangeCheckForAdd_6 : decode cJ10_rangeCheckForAdd 6 = .ok (.invokevirtual 13, 3) := dk_182 0 13 (dk_at dksJ10_rangeCheckForAdd_0 6 rfl rfl)
theorem dJ10_rangeCheckForAdd_9 : decode cJ10_rangeCheckForAdd 9 = .ok (.if_icmp .le 16, 3) := dk_164 0 16 (dk_at dksJ10_rangeCheckForAdd_0 9 rfl rfl)
theorem dJ10_rangeCheckForAdd_12 : decode cJ10_rangeCheckForAdd 12 = .ok (.new 101, 3) := dk_187 0 101 (dk_at dksJ10_rangeCheckForAdd_0 12 rfl rfl)
theorem dJ10_rangeCheckForAdd_15 : decode cJ10_rangeCheckForAdd 15 = .ok (.dup, 1) := dk_89 (dk_at dksJ10_rangeCheckForAdd_0 15 rfl rfl)
theorem dJ10_rangeCheckForAdd_16 : decode cJ10_rangeCheckForAdd 16 = .ok (.aload_n 0, 1) := dk_42 (dk_at dksJ10_rangeCheckForAdd_0 16 rfl rfl)
theorem dJ10_rangeCheckForAdd_17 : decode cJ10_rangeCheckForAdd 17 = .ok (.iload_n 1, 1) := dk_27 (dk_at dksJ10_rangeCheckForAdd_0 17 rfl rfl)
theorem dJ10_rangeCheckForAdd_18 : decode cJ10_rangeCheckForAdd 18 = .ok (.invokevirtual 143, 3) := dk_182 0 143 (dk_at dksJ10_rangeCheckForAdd_0 18 rfl rfl)
theorem dJ10_rangeCheckForAdd_21 : decode cJ10_rangeCheckForAdd 21 = .ok (.invokespecial 119, 3) := dk_183 0 119 (dk_at dksJ10_rangeCheckForAdd_0 21 rfl rfl)
theorem dJ10_rangeCheckForAdd_24 : decode cJ10_rangeCheckForAdd 24 = .ok (.athrow, 1) := dk_191 (dk_at dksJ10_rangeCheckForAdd_1 0 rfl rfl)
theorem dJ10_rangeCheckForAdd_25 : decode cJ10_rangeCheckForAdd 25 = .ok (.return_, 1) := dk_177 (dk_at dksJ10_rangeCheckForAdd_1 1 rfl rfl)
abbrev cJ10_add : ByteArray := prog_45_method_5_code
def yJ10_add : MethodName := ⟨RJ10, "add", "(ILjava/lang/Object;)V"⟩
def dkwJ10_add_0 : List UInt8 := [187, 0, 21, 89, 183, 0, 23, 191]
abbrev dktJ10_add_0 : List UInt8 := dkwJ10_add_0 ++ []
theorem dksJ10_add_0 : cJ10_add.data.toList.drop 0 = dktJ10_add_0 := by decide +kernel
theorem dJ10_add_0 : decode cJ10_add 0 = .ok (.new 21, 3) := dk_187 0 21 (dk_at dksJ10_add_0 0 rfl rfl)
theorem dJ10_add_3 : decode cJ10_add 3 = .ok (.dup, 1) := dk_89 (dk_at dksJ10_add_0 3 rfl rfl)
theorem dJ10_add_4 : decode cJ10_add 4 = .ok (.invokespecial 23, 3) := dk_183 0 23 (dk_at dksJ10_add_0 4 rfl rfl)
theorem dJ10_add_7 : decode cJ10_add 7 = .ok (.athrow, 1) := dk_191 (dk_at dksJ10_add_0 7 rfl rfl)
abbrev cJ10_remove : ByteArray := prog_45_method_6_code
def yJ10_remove : MethodName := ⟨RJ10, "remove", "(I)Ljava/lang/Object;"⟩
def dkwJ10_remove_0 : List UInt8 := [187, 0, 21, 89, 183, 0, 23, 191]
abbrev dktJ10_remove_0 : List UInt8 := dkwJ10_remove_0 ++ []
theorem dksJ10_remove_0 : cJ10_remove.data.toList.drop 0 = dktJ10_remove_0 := by decide +kernel
theorem dJ10_remove_0 : decode cJ10_remove 0 = .ok (.new 21, 3) := dk_187 0 21 (dk_at dksJ10_remove_0 0 rfl rfl)
theorem dJ10_remove_3 : decode cJ10_remove 3 = .ok (.dup, 1) := dk_89 (dk_at dksJ10_remove_0 3 rfl rfl)
theorem dJ10_remove_4 : decode cJ10_remove 4 = .ok (.invokespecial 23, 3) := dk_183 0 23 (dk_at dksJ10_remove_0 4 rfl rfl)
theorem dJ10_remove_7 : decode cJ10_remove 7 = .ok (.athrow, 1) := dk_191 (dk_at dksJ10_remove_0 7 rfl rfl)
theorem q64 : (Jvm.Cond.initialized "java/util/AbstractList") ∈ lw_all := lw_g (lw_at lw_m1 16 rfl) rfl
theorem q484 : (Jvm.Cond.instanceMethod ({ cls := "java/util/AbstractList", name := "<init>", desc := "()V" } : Jvm.MethodName)) ∈ lw_all := lw_g (lw_at lw_m2 196 rfl) rfl
theorem q485 : (Jvm.Cond.code ({ cls := "java/util/AbstractList", name := "<init>", desc := "()V" } : Jvm.MethodName) prog_45_method_1_code (1 : Nat) (Option.none : Option Jvm.ClassFile.FieldType)) ∈ lw_all := lw_g (lw_at lw_m2 197 rfl) rfl
theorem q486 : (Jvm.Cond.methodLink "java/util/AbstractList" (1 : Nat) ({ cls := "java/util/AbstractCollection", name := "<init>", desc := "()V" } : Jvm.MethodName)) ∈ lw_all := lw_g (lw_at lw_m2 198 rfl) rfl
theorem q579 : (Jvm.Cond.fieldLink "java/util/AbstractList" (7 : Nat) "java/util/AbstractList" "modCount" "I") ∈ lw_all := lw_g (lw_at lw_m3 51 rfl) rfl
theorem q589 : (Jvm.Cond.soleField "java/util/AbstractList" "modCount") ∈ lw_all := lw_g (lw_at lw_m3 61 rfl) rfl
theorem q1187 : (Jvm.Cond.instanceMethod ({ cls := "java/util/AbstractList", name := "listIterator", desc := "()Ljava/util/ListIterator;" } : Jvm.MethodName)) ∈ lw_all := lw_g (lw_at lw_m5 179 rfl) rfl
theorem q1188 : (Jvm.Cond.publicMethod ({ cls := "java/util/AbstractList", name := "listIterator", desc := "()Ljava/util/ListIterator;" } : Jvm.MethodName)) ∈ lw_tbl := lw_at lw_m5 180 rfl
theorem q1189 : (Jvm.Cond.code ({ cls := "java/util/AbstractList", name := "listIterator", desc := "()Ljava/util/ListIterator;" } : Jvm.MethodName) prog_45_method_12_code (1 : Nat) (Option.some (Jvm.ClassFile.FieldType.object "java/util/ListIterator"))) ∈ lw_all := lw_g (lw_at lw_m5 181 rfl) rfl
theorem q1190 : (Jvm.Cond.methodLink "java/util/AbstractList" (47 : Nat) ({ cls := "java/util/AbstractList", name := "listIterator", desc := "(I)Ljava/util/ListIterator;" } : Jvm.MethodName)) ∈ lw_all := lw_g (lw_at lw_m5 182 rfl) rfl
theorem q1191 : (Jvm.Cond.instanceMethod ({ cls := "java/util/AbstractList", name := "listIterator", desc := "(I)Ljava/util/ListIterator;" } : Jvm.MethodName)) ∈ lw_all := lw_g (lw_at lw_m5 183 rfl) rfl
theorem q1192 : (Jvm.Cond.sameMethod "java/util/AbstractList" "java/util/AbstractList" "listIterator" "(I)Ljava/util/ListIterator;") ∈ lw_all := lw_g (lw_at lw_m5 184 rfl) rfl
theorem q1201 : (Jvm.Cond.code ({ cls := "java/util/AbstractList", name := "listIterator", desc := "(I)Ljava/util/ListIterator;" } : Jvm.MethodName) prog_45_method_13_code (2 : Nat) (Option.some (Jvm.ClassFile.FieldType.object "java/util/ListIterator"))) ∈ lw_all := lw_g (lw_at lw_m5 193 rfl) rfl
theorem q1202 : (Jvm.Cond.methodLink "java/util/AbstractList" (63 : Nat) ({ cls := "java/util/AbstractList", name := "rangeCheckForAdd", desc := "(I)V" } : Jvm.MethodName)) ∈ lw_all := lw_g (lw_at lw_m5 194 rfl) rfl
theorem q1203 : (Jvm.Cond.privateMethod ({ cls := "java/util/AbstractList", name := "rangeCheckForAdd", desc := "(I)V" } : Jvm.MethodName)) ∈ lw_tbl := lw_at lw_m5 195 rfl
theorem q1204 : (Jvm.Cond.instanceMethod ({ cls := "java/util/AbstractList", name := "rangeCheckForAdd", desc := "(I)V" } : Jvm.MethodName)) ∈ lw_all := lw_g (lw_at lw_m5 196 rfl) rfl
theorem q1205 : (Jvm.Cond.code ({ cls := "java/util/AbstractList", name := "rangeCheckForAdd", desc := "(I)V" } : Jvm.MethodName) prog_45_method_19_code (2 : Nat) (Option.none : Option Jvm.ClassFile.FieldType)) ∈ lw_all := lw_g (lw_at lw_m5 197 rfl) rfl
theorem q1206 : (Jvm.Cond.methodLink "java/util/AbstractList" (13 : Nat) ({ cls := "java/util/AbstractList", name := "size", desc := "()I" } : Jvm.MethodName)) ∈ lw_all := lw_g (lw_at lw_m5 198 rfl) rfl
theorem q1207 : (Jvm.Cond.sameMethod "java/util/AbstractList" "java/util/AbstractCollection" "size" "()I") ∈ lw_all := lw_g (lw_at lw_m5 199 rfl) rfl
theorem q1215 : (Jvm.Cond.classLink "java/util/AbstractList" (82 : Nat) "java/util/AbstractList$ListItr") ∈ lw_all := lw_g (lw_at lw_m5 207 rfl) rfl
theorem q1217 : (Jvm.Cond.methodLink "java/util/AbstractList" (84 : Nat) ({ cls := "java/util/AbstractList$ListItr", name := "<init>", desc := "(Ljava/util/AbstractList;I)V" } : Jvm.MethodName)) ∈ lw_all := lw_g (lw_at lw_m5 209 rfl) rfl
theorem q1392 : (Jvm.Cond.declares ({ cls := "java/util/AbstractList", name := "get", desc := "(I)Ljava/lang/Object;" } : Jvm.MethodName)) ∈ lw_tbl := lw_at lw_m6 144 rfl
theorem q1393 : (Jvm.Cond.sameMethod "java/util/AbstractList" "java/util/AbstractList" "get" "(I)Ljava/lang/Object;") ∈ lw_all := lw_g (lw_at lw_m6 145 rfl) rfl
theorem q1619 : (Jvm.Cond.instanceMethod ({ cls := "java/util/AbstractList", name := "add", desc := "(ILjava/lang/Object;)V" } : Jvm.MethodName)) ∈ lw_all := lw_g (lw_at lw_m7 131 rfl) rfl
theorem q1620 : (Jvm.Cond.sameMethod "java/util/AbstractList" "java/util/AbstractList" "add" "(ILjava/lang/Object;)V") ∈ lw_all := lw_g (lw_at lw_m7 132 rfl) rfl
theorem q1646 : (Jvm.Cond.code ({ cls := "java/util/AbstractList", name := "add", desc := "(ILjava/lang/Object;)V" } : Jvm.MethodName) prog_45_method_5_code (3 : Nat) (Option.none : Option Jvm.ClassFile.FieldType)) ∈ lw_all := lw_g (lw_at lw_m7 158 rfl) rfl
theorem q1703 : (Jvm.Cond.instanceMethod ({ cls := "java/util/AbstractList", name := "set", desc := "(ILjava/lang/Object;)Ljava/lang/Object;" } : Jvm.MethodName)) ∈ lw_all := lw_g (lw_at lw_m7 215 rfl) rfl
theorem q1704 : (Jvm.Cond.sameMethod "java/util/AbstractList" "java/util/AbstractList" "set" "(ILjava/lang/Object;)Ljava/lang/Object;") ∈ lw_all := lw_g (lw_at lw_m7 216 rfl) rfl
theorem q1711 : (Jvm.Cond.declares ({ cls := "java/util/AbstractList", name := "set", desc := "(ILjava/lang/Object;)Ljava/lang/Object;" } : Jvm.MethodName)) ∈ lw_tbl := lw_at lw_m7 223 rfl
theorem q1740 : (Jvm.Cond.instanceMethod ({ cls := "java/util/AbstractList", name := "remove", desc := "(I)Ljava/lang/Object;" } : Jvm.MethodName)) ∈ lw_all := lw_g (lw_at lw_m8 12 rfl) rfl
theorem q1741 : (Jvm.Cond.sameMethod "java/util/AbstractList" "java/util/AbstractList" "remove" "(I)Ljava/lang/Object;") ∈ lw_all := lw_g (lw_at lw_m8 13 rfl) rfl
theorem q1750 : (Jvm.Cond.code ({ cls := "java/util/AbstractList", name := "remove", desc := "(I)Ljava/lang/Object;" } : Jvm.MethodName) prog_45_method_6_code (2 : Nat) (Option.some (Jvm.ClassFile.FieldType.object "java/lang/Object"))) ∈ lw_all := lw_g (lw_at lw_m8 22 rfl) rfl
theorem q2182 : (Jvm.Cond.sameMethod "java/util/AbstractList" "java/util/AbstractList" "rangeCheckForAdd" "(I)V") ∈ lw_all := lw_g (lw_at lw_m9 214 rfl) rfl
/-! java/util/Arrays$ArrayList -/
set_option maxRecDepth 100000
def RJ11 : String := "java/util/Arrays$ArrayList"
def TJ11 : u_T := fun k => match k with
  | 0 => ("java/util/AbstractList", "modCount", "I", false)
  | _ => ("java/util/Arrays$ArrayList", "a", "[Ljava/lang/Object;", true)
def tyJ11 : Nat → FieldType := fun k => match k with
  | 0 => .int
  | _ => .array (.object "java/lang/Object")
abbrev wsJ110 : List Cond := u_ws RJ11 TJ11 2
theorem nmJ11 : ∀ a, a < 2 → ∀ b, b < 2 → a ≠ b → (TJ11 a).2.1 ≠ (TJ11 b).2.1 := by decide +kernel
theorem tyJ11_ok : ∀ k, k < 2 → parseFieldDescriptor (TJ11 k).2.2.1 = some (tyJ11 k) := by decide +kernel
abbrev cJ11_init : ByteArray := prog_52_method_1_code
def yJ11_init : MethodName := ⟨RJ11, "<init>", "([Ljava/lang/Object;)V"⟩
def dkwJ11_init_0 : List UInt8 := [42, 183, 0, 1, 42, 43, 184, 0, 7, 192, 0, 13, 181, 0, 15, 177]
abbrev dktJ11_init_0 : List UInt8 := dkwJ11_init_0 ++ []
theorem dksJ11_init_0 : cJ11_init.data.toList.drop 0 = dktJ11_init_0 := by decide +kernel
theorem dJ11_init_0 : decode cJ11_init 0 = .ok (.aload_n 0, 1) := dk_42 (dk_at dksJ11_init_0 0 rfl rfl)
theorem dJ11_init_1 : decode cJ11_init 1 = .ok (.invokespecial 1, 3) := dk_183 0 1 (dk_at dksJ11_init_0 1 rfl rfl)
theorem dJ11_init_4 : decode cJ11_init 4 = .ok (.aload_n 0, 1) := dk_42 (dk_at dksJ11_init_0 4 rfl rfl)
theorem dJ11_init_5 : decode cJ11_init 5 = .ok (.aload_n 1, 1) := dk_43 (dk_at dksJ11_init_0 5 rfl rfl)
theorem dJ11_init_6 : decode cJ11_init 6 = .ok (.invokestatic 7, 3) := dk_184 0 7 (dk_at dksJ11_init_0 6 rfl rfl)
theorem dJ11_init_9 : decode cJ11_init 9 = .ok (.checkcast 13, 3) := dk_192 0 13 (dk_at dksJ11_init_0 9 rfl rfl)
theorem dJ11_init_12 : decode cJ11_init 12 = .ok (.putfield 15, 3) := dk_181 0 15 (dk_at dksJ11_init_0 12 rfl rfl)
theorem dJ11_init_15 : decode cJ11_init 15 = .ok (.return_, 1) := dk_177 (dk_at dksJ11_init_0 15 rfl rfl)
abbrev cJ11_indexOf : ByteArray := prog_52_method_7_code
def yJ11_indexOf : MethodName := ⟨RJ11, "indexOf", "(Ljava/lang/Object;)I"⟩
def dkwJ11_indexOf_2 : List UInt8 := [182, 0, 42, 153, 0, 5, 29, 172, 132, 3, 1, 167, 255, 235, 2, 172]
abbrev dktJ11_indexOf_2 : List UInt8 := dkwJ11_indexOf_2 ++ []
def dkwJ11_indexOf_1 : List UInt8 := [172, 132, 3, 1, 167, 255, 239, 167, 0, 29, 3, 62, 29, 44, 190, 162, 0, 21, 43, 44, 29, 50]
abbrev dktJ11_indexOf_1 : List UInt8 := dkwJ11_indexOf_1 ++ dktJ11_indexOf_2
def dkwJ11_indexOf_0 : List UInt8 := [42, 180, 0, 15, 77, 43, 199, 0, 28, 3, 62, 29, 44, 190, 162, 0, 17, 44, 29, 50, 199, 0, 5, 29]
abbrev dktJ11_indexOf_0 : List UInt8 := dkwJ11_indexOf_0 ++ dktJ11_indexOf_1
theorem dksJ11_indexOf_0 : cJ11_indexOf.data.toList.drop 0 = dktJ11_indexOf_0 := by decide +kernel
theorem dksJ11_indexOf_1 : cJ11_indexOf.data.toList.drop 24 = dktJ11_indexOf_1 := dk_seg dksJ11_indexOf_0 24 rfl rfl
theorem dksJ11_indexOf_2 : cJ11_indexOf.data.toList.drop 46 = dktJ11_indexOf_2 := dk_seg dksJ11_indexOf_1 22 rfl rfl
theorem dJ11_indexOf_0 : decode cJ11_indexOf 0 = .ok (.aload_n 0, 1) := dk_42 (dk_at dksJ11_indexOf_0 0 rfl rfl)
theorem dJ11_indexOf_1 : decode cJ11_indexOf 1 = .ok (.getfield 15, 3) := dk_180 0 15 (dk_at dksJ11_indexOf_0 1 rfl rfl)
theorem dJ11_indexOf_4 : decode cJ11_indexOf 4 = .ok (.astore_n 2, 1) := dk_77 (dk_at dksJ11_indexOf_0 4 rfl rfl)
theorem dJ11_indexOf_5 : decode cJ11_indexOf 5 = .ok (.aload_n 1, 1) := dk_43 (dk_at dksJ11_indexOf_0 5 rfl rfl)
theorem dJ11_indexOf_6 : decode cJ11_indexOf 6 = .ok (.ifnonnull 28, 3) := dk_199 0 28 (dk_at dksJ11_indexOf_0 6 rfl rfl)
theorem dJ11_indexOf_9 : decode cJ11_indexOf 9 = .ok (.iconst 0, 1) := dk_3 (dk_at dksJ11_indexOf_0 9 rfl rfl)
theorem dJ11_indexOf_10 : decode cJ11_indexOf 10 = .ok (.istore_n 3, 1) := dk_62 (dk_at dksJ11_indexOf_0 10 rfl rfl)
theorem dJ11_indexOf_11 : decode cJ11_indexOf 11 = .ok (.iload_n 3, 1) := dk_29 (dk_at dksJ11_indexOf_0 11 rfl rfl)
theorem dJ11_indexOf_12 : decode cJ11_indexOf 12 = .ok (.aload_n 2, 1) := dk_44 (dk_at dksJ11_indexOf_0 12 rfl rfl)
theorem dJ11_indexOf_13 : decode cJ11_indexOf 13 = .ok (.arraylength, 1) := dk_190 (dk_at dksJ11_indexOf_0 13 rfl rfl)
theorem dJ11_indexOf_14 : decode cJ11_indexOf 14 = .ok (.if_icmp .ge 17, 3) := dk_162 0 17 (dk_at dksJ11_indexOf_0 14 rfl rfl)
theorem dJ11_indexOf_17 : decode cJ11_indexOf 17 = .ok (.aload_n 2, 1) := dk_44 (dk_at dksJ11_indexOf_0 17 rfl rfl)
theorem dJ11_indexOf_18 : decode cJ11_indexOf 18 = .ok (.iload_n 3, 1) := dk_29 (dk_at dksJ11_indexOf_0 18 rfl rfl)
theorem dJ11_indexOf_19 : decode cJ11_indexOf 19 = .ok (.aaload, 1) := dk_50 (dk_at dksJ11_indexOf_0 19 rfl rfl)
theorem dJ11_indexOf_20 : decode cJ11_indexOf 20 = .ok (.ifnonnull 5, 3) := dk_199 0 5 (dk_at dksJ11_indexOf_0 20 rfl rfl)
theorem dJ11_indexOf_23 : decode cJ11_indexOf 23 = .ok (.iload_n 3, 1) := dk_29 (dk_at dksJ11_indexOf_0 23 rfl rfl)
theorem dJ11_indexOf_24 : decode cJ11_indexOf 24 = .ok (.ireturn, 1) := dk_172 (dk_at dksJ11_indexOf_1 0 rfl rfl)
theorem dJ11_indexOf_25 : decode cJ11_indexOf 25 = .ok (.iinc 3 1, 3) := dk_132 3 1 (dk_at dksJ11_indexOf_1 1 rfl rfl)
theorem dJ11_indexOf_28 : decode cJ11_indexOf 28 = .ok (.goto (-17), 3) := dk_167 255 239 (dk_at dksJ11_indexOf_1 4 rfl rfl)
theorem dJ11_indexOf_31 : decode cJ11_indexOf 31 = .ok (.goto 29, 3) := dk_167 0 29 (dk_at dksJ11_indexOf_1 7 rfl rfl)
theorem dJ11_indexOf_34 : decode cJ11_indexOf 34 = .ok (.iconst 0, 1) := dk_3 (dk_at dksJ11_indexOf_1 10 rfl rfl)
theorem dJ11_indexOf_35 : decode cJ11_indexOf 35 = .ok (.istore_n 3, 1) := dk_62 (dk_at dksJ11_indexOf_1 11 rfl rfl)
theorem dJ11_indexOf_36 : decode cJ11_indexOf 36 = .ok (.iload_n 3, 1) := dk_29 (dk_at dksJ11_indexOf_1 12 rfl rfl)
theorem dJ11_indexOf_37 : decode cJ11_indexOf 37 = .ok (.aload_n 2, 1) := dk_44 (dk_at dksJ11_indexOf_1 13 rfl rfl)
theorem dJ11_indexOf_38 : decode cJ11_indexOf 38 = .ok (.arraylength, 1) := dk_190 (dk_at dksJ11_indexOf_1 14 rfl rfl)
theorem dJ11_indexOf_39 : decode cJ11_indexOf 39 = .ok (.if_icmp .ge 21, 3) := dk_162 0 21 (dk_at dksJ11_indexOf_1 15 rfl rfl)
theorem dJ11_indexOf_42 : decode cJ11_indexOf 42 = .ok (.aload_n 1, 1) := dk_43 (dk_at dksJ11_indexOf_1 18 rfl rfl)
theorem dJ11_indexOf_43 : decode cJ11_indexOf 43 = .ok (.aload_n 2, 1) := dk_44 (dk_at dksJ11_indexOf_1 19 rfl rfl)
theorem dJ11_indexOf_44 : decode cJ11_indexOf 44 = .ok (.iload_n 3, 1) := dk_29 (dk_at dksJ11_indexOf_1 20 rfl rfl)
theorem dJ11_indexOf_45 : decode cJ11_indexOf 45 = .ok (.aaload, 1) := dk_50 (dk_at dksJ11_indexOf_1 21 rfl rfl)
theorem dJ11_indexOf_46 : decode cJ11_indexOf 46 = .ok (.invokevirtual 42, 3) := dk_182 0 42 (dk_at dksJ11_indexOf_2 0 rfl rfl)
theorem dJ11_indexOf_49 : decode cJ11_indexOf 49 = .ok (.ifCond .eq 5, 3) := dk_153 0 5 (dk_at dksJ11_indexOf_2 3 rfl rfl)
theorem dJ11_indexOf_52 : decode cJ11_indexOf 52 = .ok (.iload_n 3, 1) := dk_29 (dk_at dksJ11_indexOf_2 6 rfl rfl)
theorem dJ11_indexOf_53 : decode cJ11_indexOf 53 = .ok (.ireturn, 1) := dk_172 (dk_at dksJ11_indexOf_2 7 rfl rfl)
theorem dJ11_indexOf_54 : decode cJ11_indexOf 54 = .ok (.iinc 3 1, 3) := dk_132 3 1 (dk_at dksJ11_indexOf_2 8 rfl rfl)
theorem dJ11_indexOf_57 : decode cJ11_indexOf 57 = .ok (.goto (-21), 3) := dk_167 255 235 (dk_at dksJ11_indexOf_2 11 rfl rfl)
theorem dJ11_indexOf_60 : decode cJ11_indexOf 60 = .ok (.iconst (-1), 1) := dk_2 (dk_at dksJ11_indexOf_2 14 rfl rfl)
theorem dJ11_indexOf_61 : decode cJ11_indexOf 61 = .ok (.ireturn, 1) := dk_172 (dk_at dksJ11_indexOf_2 15 rfl rfl)
abbrev cJ11_size : ByteArray := prog_52_method_2_code
def yJ11_size : MethodName := ⟨RJ11, "size", "()I"⟩
def dkwJ11_size_0 : List UInt8 := [42, 180, 0, 15, 190, 172]
abbrev dktJ11_size_0 : List UInt8 := dkwJ11_size_0 ++ []
theorem dksJ11_size_0 : cJ11_size.data.toList.drop 0 = dktJ11_size_0 := by decide +kernel
theorem dJ11_size_0 : decode cJ11_size 0 = .ok (.aload_n 0, 1) := dk_42 (dk_at dksJ11_size_0 0 rfl rfl)
theorem dJ11_size_1 : decode cJ11_size 1 = .ok (.getfield 15, 3) := dk_180 0 15 (dk_at dksJ11_size_0 1 rfl rfl)
theorem dJ11_size_4 : decode cJ11_size 4 = .ok (.arraylength, 1) := dk_190 (dk_at dksJ11_size_0 4 rfl rfl)
theorem dJ11_size_5 : decode cJ11_size 5 = .ok (.ireturn, 1) := dk_172 (dk_at dksJ11_size_0 5 rfl rfl)
abbrev cJ11_get : ByteArray := prog_52_method_5_code
def yJ11_get : MethodName := ⟨RJ11, "get", "(I)Ljava/lang/Object;"⟩
def dkwJ11_get_0 : List UInt8 := [42, 180, 0, 15, 27, 50, 176]
abbrev dktJ11_get_0 : List UInt8 := dkwJ11_get_0 ++ []
theorem dksJ11_get_0 : cJ11_get.data.toList.drop 0 = dktJ11_get_0 := by decide +kernel
theorem dJ11_get_0 : decode cJ11_get 0 = .ok (.aload_n 0, 1) := dk_42 (dk_at dksJ11_get_0 0 rfl rfl)
theorem dJ11_get_1 : decode cJ11_get 1 = .ok (.getfield 15, 3) := dk_180 0 15 (dk_at dksJ11_get_0 1 rfl rfl)
theorem dJ11_get_4 : decode cJ11_get 4 = .ok (.iload_n 1, 1) := dk_27 (dk_at dksJ11_get_0 4 rfl rfl)
theorem dJ11_get_5 : decode cJ11_get 5 = .ok (.aaload, 1) := dk_50 (dk_at dksJ11_get_0 5 rfl rfl)
theorem dJ11_get_6 : decode cJ11_get 6 = .ok (.areturn, 1) := dk_176 (dk_at dksJ11_get_0 6 rfl rfl)
abbrev cJ11_set : ByteArray := prog_52_method_6_code
def yJ11_set : MethodName := ⟨RJ11, "set", "(ILjava/lang/Object;)Ljava/lang/Object;"⟩
def dkwJ11_set_0 : List UInt8 := [42, 180, 0, 15, 27, 50, 78, 42, 180, 0, 15, 27, 44, 83, 45, 176]
abbrev dktJ11_set_0 : List UInt8 := dkwJ11_set_0 ++ []
theorem dksJ11_set_0 : cJ11_set.data.toList.drop 0 = dktJ11_set_0 := by decide +kernel
theorem dJ11_set_0 : decode cJ11_set 0 = .ok (.aload_n 0, 1) := dk_42 (dk_at dksJ11_set_0 0 rfl rfl)
theorem dJ11_set_1 : decode cJ11_set 1 = .ok (.getfield 15, 3) := dk_180 0 15 (dk_at dksJ11_set_0 1 rfl rfl)
theorem dJ11_set_4 : decode cJ11_set 4 = .ok (.iload_n 1, 1) := dk_27 (dk_at dksJ11_set_0 4 rfl rfl)
theorem dJ11_set_5 : decode cJ11_set 5 = .ok (.aaload, 1) := dk_50 (dk_at dksJ11_set_0 5 rfl rfl)
theorem dJ11_set_6 : decode cJ11_set 6 = .ok (.astore_n 3, 1) := dk_78 (dk_at dksJ11_set_0 6 rfl rfl)
theorem dJ11_set_7 : decode cJ11_set 7 = .ok (.aload_n 0, 1) := dk_42 (dk_at dksJ11_set_0 7 rfl rfl)
theorem dJ11_set_8 : decode cJ11_set 8 = .ok (.getfield 15, 3) := dk_180 0 15 (dk_at dksJ11_set_0 8 rfl rfl)
theorem dJ11_set_11 : decode cJ11_set 11 = .ok (.iload_n 1, 1) := dk_27 (dk_at dksJ11_set_0 11 rfl rfl)
theorem dJ11_set_12 : decode cJ11_set 12 = .ok (.aload_n 2, 1) := dk_44 (dk_at dksJ11_set_0 12 rfl rfl)
theorem dJ11_set_13 : decode cJ11_set 13 = .ok (.aastore, 1) := dk_83 (dk_at dksJ11_set_0 13 rfl rfl)
theorem dJ11_set_14 : decode cJ11_set 14 = .ok (.aload_n 3, 1) := dk_45 (dk_at dksJ11_set_0 14 rfl rfl)
theorem dJ11_set_15 : decode cJ11_set 15 = .ok (.areturn, 1) := dk_176 (dk_at dksJ11_set_0 15 rfl rfl)
theorem q65 : (Jvm.Cond.initialized "java/util/Arrays$ArrayList") ∈ lw_all := lw_g (lw_at lw_m1 17 rfl) rfl
theorem q479 : (Jvm.Cond.instantiable "java/util/Arrays$ArrayList" (2 : Nat)) ∈ lw_all := lw_g (lw_at lw_m2 191 rfl) rfl
theorem q481 : (Jvm.Cond.instanceMethod ({ cls := "java/util/Arrays$ArrayList", name := "<init>", desc := "([Ljava/lang/Object;)V" } : Jvm.MethodName)) ∈ lw_all := lw_g (lw_at lw_m2 193 rfl) rfl
theorem q482 : (Jvm.Cond.code ({ cls := "java/util/Arrays$ArrayList", name := "<init>", desc := "([Ljava/lang/Object;)V" } : Jvm.MethodName) prog_52_method_1_code (2 : Nat) (Option.none : Option Jvm.ClassFile.FieldType)) ∈ lw_all := lw_g (lw_at lw_m2 194 rfl) rfl
theorem q483 : (Jvm.Cond.methodLink "java/util/Arrays$ArrayList" (1 : Nat) ({ cls := "java/util/AbstractList", name := "<init>", desc := "()V" } : Jvm.MethodName)) ∈ lw_all := lw_g (lw_at lw_m2 195 rfl) rfl
theorem q490 : (Jvm.Cond.methodLink "java/util/Arrays$ArrayList" (7 : Nat) ({ cls := "java/util/Objects", name := "requireNonNull", desc := "(Ljava/lang/Object;)Ljava/lang/Object;" } : Jvm.MethodName)) ∈ lw_all := lw_g (lw_at lw_m2 202 rfl) rfl
theorem q577 : (Jvm.Cond.classLink "java/util/Arrays$ArrayList" (13 : Nat) "[Ljava/lang/Object;") ∈ lw_all := lw_g (lw_at lw_m3 49 rfl) rfl
theorem q578 : (Jvm.Cond.fieldLink "java/util/Arrays$ArrayList" (15 : Nat) "java/util/Arrays$ArrayList" "a" "[Ljava/lang/Object;") ∈ lw_all := lw_g (lw_at lw_m3 50 rfl) rfl
theorem q586 : (Jvm.Cond.laysFinal "java/util/Arrays$ArrayList" "java/util/Arrays$ArrayList" "a" "[Ljava/lang/Object;") ∈ lw_all := lw_g (lw_at lw_m3 58 rfl) rfl
theorem q587 : (Jvm.Cond.soleField "java/util/Arrays$ArrayList" "a") ∈ lw_all := lw_g (lw_at lw_m3 59 rfl) rfl
theorem q588 : (Jvm.Cond.lays "java/util/Arrays$ArrayList" "java/util/AbstractList" "modCount" "I") ∈ lw_all := lw_g (lw_at lw_m3 60 rfl) rfl
theorem q590 : (Jvm.Cond.superclass "java/util/Arrays$ArrayList" "java/util/AbstractList") ∈ lw_all := lw_g (lw_at lw_m3 62 rfl) rfl
theorem q641 : (Jvm.Cond.castable "java/util/Arrays$ArrayList" "java/util/List") ∈ lw_tbl := lw_at lw_m3 113 rfl
theorem q642 : (Jvm.Cond.selects "java/util/Arrays$ArrayList" ({ cls := "java/util/List", name := "indexOf", desc := "(Ljava/lang/Object;)I" } : Jvm.MethodName) ({ cls := "java/util/Arrays$ArrayList", name := "indexOf", desc := "(Ljava/lang/Object;)I" } : Jvm.MethodName)) ∈ lw_all := lw_g (lw_at lw_m3 114 rfl) rfl
theorem q643 : (Jvm.Cond.unhidden "java/util/Arrays$ArrayList" "indexOf" "(Ljava/lang/Object;)I") ∈ lw_tbl := lw_at lw_m3 115 rfl
theorem q644 : (Jvm.Cond.instanceMethod ({ cls := "java/util/Arrays$ArrayList", name := "indexOf", desc := "(Ljava/lang/Object;)I" } : Jvm.MethodName)) ∈ lw_all := lw_g (lw_at lw_m3 116 rfl) rfl
theorem q645 : (Jvm.Cond.publicMethod ({ cls := "java/util/Arrays$ArrayList", name := "indexOf", desc := "(Ljava/lang/Object;)I" } : Jvm.MethodName)) ∈ lw_tbl := lw_at lw_m3 117 rfl
theorem q646 : (Jvm.Cond.code ({ cls := "java/util/Arrays$ArrayList", name := "indexOf", desc := "(Ljava/lang/Object;)I" } : Jvm.MethodName) prog_52_method_7_code (4 : Nat) (Option.some Jvm.ClassFile.FieldType.int)) ∈ lw_all := lw_g (lw_at lw_m3 118 rfl) rfl
theorem q647 : (Jvm.Cond.methodLink "java/util/Arrays$ArrayList" (42 : Nat) ({ cls := "java/lang/Object", name := "equals", desc := "(Ljava/lang/Object;)Z" } : Jvm.MethodName)) ∈ lw_all := lw_g (lw_at lw_m3 119 rfl) rfl
theorem q1185 : (Jvm.Cond.selects "java/util/Arrays$ArrayList" ({ cls := "java/util/List", name := "listIterator", desc := "()Ljava/util/ListIterator;" } : Jvm.MethodName) ({ cls := "java/util/AbstractList", name := "listIterator", desc := "()Ljava/util/ListIterator;" } : Jvm.MethodName)) ∈ lw_all := lw_g (lw_at lw_m5 177 rfl) rfl
theorem q1186 : (Jvm.Cond.unhidden "java/util/Arrays$ArrayList" "listIterator" "()Ljava/util/ListIterator;") ∈ lw_tbl := lw_at lw_m5 178 rfl
theorem q1200 : (Jvm.Cond.selects "java/util/Arrays$ArrayList" ({ cls := "java/util/AbstractList", name := "listIterator", desc := "(I)Ljava/util/ListIterator;" } : Jvm.MethodName) ({ cls := "java/util/AbstractList", name := "listIterator", desc := "(I)Ljava/util/ListIterator;" } : Jvm.MethodName)) ∈ lw_all := lw_g (lw_at lw_m5 192 rfl) rfl
theorem q1212 : (Jvm.Cond.selects "java/util/Arrays$ArrayList" ({ cls := "java/util/AbstractList", name := "size", desc := "()I" } : Jvm.MethodName) ({ cls := "java/util/Arrays$ArrayList", name := "size", desc := "()I" } : Jvm.MethodName)) ∈ lw_all := lw_g (lw_at lw_m5 204 rfl) rfl
theorem q1213 : (Jvm.Cond.instanceMethod ({ cls := "java/util/Arrays$ArrayList", name := "size", desc := "()I" } : Jvm.MethodName)) ∈ lw_all := lw_g (lw_at lw_m5 205 rfl) rfl
theorem q1214 : (Jvm.Cond.code ({ cls := "java/util/Arrays$ArrayList", name := "size", desc := "()I" } : Jvm.MethodName) prog_52_method_2_code (1 : Nat) (Option.some Jvm.ClassFile.FieldType.int)) ∈ lw_all := lw_g (lw_at lw_m5 206 rfl) rfl
theorem q1356 : (Jvm.Cond.selects "java/util/Arrays$ArrayList" ({ cls := "java/util/List", name := "get", desc := "(I)Ljava/lang/Object;" } : Jvm.MethodName) ({ cls := "java/util/Arrays$ArrayList", name := "get", desc := "(I)Ljava/lang/Object;" } : Jvm.MethodName)) ∈ lw_all := lw_g (lw_at lw_m6 108 rfl) rfl
theorem q1357 : (Jvm.Cond.unhidden "java/util/Arrays$ArrayList" "get" "(I)Ljava/lang/Object;") ∈ lw_tbl := lw_at lw_m6 109 rfl
theorem q1358 : (Jvm.Cond.instanceMethod ({ cls := "java/util/Arrays$ArrayList", name := "get", desc := "(I)Ljava/lang/Object;" } : Jvm.MethodName)) ∈ lw_all := lw_g (lw_at lw_m6 110 rfl) rfl
theorem q1359 : (Jvm.Cond.publicMethod ({ cls := "java/util/Arrays$ArrayList", name := "get", desc := "(I)Ljava/lang/Object;" } : Jvm.MethodName)) ∈ lw_tbl := lw_at lw_m6 111 rfl
theorem q1360 : (Jvm.Cond.code ({ cls := "java/util/Arrays$ArrayList", name := "get", desc := "(I)Ljava/lang/Object;" } : Jvm.MethodName) prog_52_method_5_code (2 : Nat) (Option.some (Jvm.ClassFile.FieldType.object "java/lang/Object"))) ∈ lw_all := lw_g (lw_at lw_m6 112 rfl) rfl
theorem q1395 : (Jvm.Cond.selects "java/util/Arrays$ArrayList" ({ cls := "java/util/AbstractList", name := "get", desc := "(I)Ljava/lang/Object;" } : Jvm.MethodName) ({ cls := "java/util/Arrays$ArrayList", name := "get", desc := "(I)Ljava/lang/Object;" } : Jvm.MethodName)) ∈ lw_all := lw_g (lw_at lw_m6 147 rfl) rfl
theorem q1443 : (Jvm.Cond.selects "java/util/Arrays$ArrayList" ({ cls := "java/lang/Object", name := "getClass", desc := "()Ljava/lang/Class;" } : Jvm.MethodName) ({ cls := "java/lang/Object", name := "getClass", desc := "()Ljava/lang/Class;" } : Jvm.MethodName)) ∈ lw_all := lw_g (lw_at lw_m6 195 rfl) rfl
theorem q1606 : (Jvm.Cond.selects "java/util/Arrays$ArrayList" ({ cls := "java/util/List", name := "size", desc := "()I" } : Jvm.MethodName) ({ cls := "java/util/Arrays$ArrayList", name := "size", desc := "()I" } : Jvm.MethodName)) ∈ lw_all := lw_g (lw_at lw_m7 118 rfl) rfl
theorem q1607 : (Jvm.Cond.unhidden "java/util/Arrays$ArrayList" "size" "()I") ∈ lw_tbl := lw_at lw_m7 119 rfl
theorem q1608 : (Jvm.Cond.publicMethod ({ cls := "java/util/Arrays$ArrayList", name := "size", desc := "()I" } : Jvm.MethodName)) ∈ lw_tbl := lw_at lw_m7 120 rfl
theorem q1645 : (Jvm.Cond.selects "java/util/Arrays$ArrayList" ({ cls := "java/util/AbstractList", name := "add", desc := "(ILjava/lang/Object;)V" } : Jvm.MethodName) ({ cls := "java/util/AbstractList", name := "add", desc := "(ILjava/lang/Object;)V" } : Jvm.MethodName)) ∈ lw_all := lw_g (lw_at lw_m7 157 rfl) rfl
theorem q1708 : (Jvm.Cond.selects "java/util/Arrays$ArrayList" ({ cls := "java/util/AbstractList", name := "set", desc := "(ILjava/lang/Object;)Ljava/lang/Object;" } : Jvm.MethodName) ({ cls := "java/util/Arrays$ArrayList", name := "set", desc := "(ILjava/lang/Object;)Ljava/lang/Object;" } : Jvm.MethodName)) ∈ lw_all := lw_g (lw_at lw_m7 220 rfl) rfl
theorem q1709 : (Jvm.Cond.instanceMethod ({ cls := "java/util/Arrays$ArrayList", name := "set", desc := "(ILjava/lang/Object;)Ljava/lang/Object;" } : Jvm.MethodName)) ∈ lw_all := lw_g (lw_at lw_m7 221 rfl) rfl
theorem q1710 : (Jvm.Cond.code ({ cls := "java/util/Arrays$ArrayList", name := "set", desc := "(ILjava/lang/Object;)Ljava/lang/Object;" } : Jvm.MethodName) prog_52_method_6_code (4 : Nat) (Option.some (Jvm.ClassFile.FieldType.object "java/lang/Object"))) ∈ lw_all := lw_g (lw_at lw_m7 222 rfl) rfl
theorem q1749 : (Jvm.Cond.selects "java/util/Arrays$ArrayList" ({ cls := "java/util/AbstractList", name := "remove", desc := "(I)Ljava/lang/Object;" } : Jvm.MethodName) ({ cls := "java/util/AbstractList", name := "remove", desc := "(I)Ljava/lang/Object;" } : Jvm.MethodName)) ∈ lw_all := lw_g (lw_at lw_m8 21 rfl) rfl
theorem q2211 : (Jvm.Cond.castable "java/util/Arrays$ArrayList" "java/lang/Object") ∈ lw_tbl := lw_at lw_m10 3 rfl
theorem in_J11 : ∀ w ∈ wsJ110, w ∈ lw_all := lw_in wsJ110 [588, 586] (by decide +kernel) (by decide +kernel)
/-! java/util/Objects -/
set_option maxRecDepth 100000
def RJ12 : String := "java/util/Objects"
abbrev cJ12_requireNonNull : ByteArray := prog_59_method_10_code
def yJ12_requireNonNull : MethodName := ⟨RJ12, "requireNonNull", "(Ljava/lang/Object;)Ljava/lang/Object;"⟩
def dkwJ12_requireNonNull_0 : List UInt8 := [42, 199, 0, 11, 187, 0, 84, 89, 183, 0, 86, 191, 42, 176]
abbrev dktJ12_requireNonNull_0 : List UInt8 := dkwJ12_requireNonNull_0 ++ []
theorem dksJ12_requireNonNull_0 : cJ12_requireNonNull.data.toList.drop 0 = dktJ12_requireNonNull_0 := by decide +kernel
theorem dJ12_requireNonNull_0 : decode cJ12_requireNonNull 0 = .ok (.aload_n 0, 1) := dk_42 (dk_at dksJ12_requireNonNull_0 0 rfl rfl)
theorem dJ12_requireNonNull_1 : decode cJ12_requireNonNull 1 = .ok (.ifnonnull 11, 3) := dk_199 0 11 (dk_at dksJ12_requireNonNull_0 1 rfl rfl)
theorem dJ12_requireNonNull_4 : decode cJ12_requireNonNull 4 = .ok (.new 84, 3) := dk_187 0 84 (dk_at dksJ12_requireNonNull_0 4 rfl rfl)
theorem dJ12_requireNonNull_7 : decode cJ12_requireNonNull 7 = .ok (.dup, 1) := dk_89 (dk_at dksJ12_requireNonNull_0 7 rfl rfl)
theorem dJ12_requireNonNull_8 : decode cJ12_requireNonNull 8 = .ok (.invokespecial 86, 3) := dk_183 0 86 (dk_at dksJ12_requireNonNull_0 8 rfl rfl)
theorem dJ12_requireNonNull_11 : decode cJ12_requireNonNull 11 = .ok (.athrow, 1) := dk_191 (dk_at dksJ12_requireNonNull_0 11 rfl rfl)
theorem dJ12_requireNonNull_12 : decode cJ12_requireNonNull 12 = .ok (.aload_n 0, 1) := dk_42 (dk_at dksJ12_requireNonNull_0 12 rfl rfl)
theorem dJ12_requireNonNull_13 : decode cJ12_requireNonNull 13 = .ok (.areturn, 1) := dk_176 (dk_at dksJ12_requireNonNull_0 13 rfl rfl)
abbrev cJ12_checkIndex : ByteArray := prog_59_method_17_code
def yJ12_checkIndex : MethodName := ⟨RJ12, "checkIndex", "(II)I"⟩
def dkwJ12_checkIndex_0 : List UInt8 := [26, 27, 1, 184, 0, 105, 172]
abbrev dktJ12_checkIndex_0 : List UInt8 := dkwJ12_checkIndex_0 ++ []
theorem dksJ12_checkIndex_0 : cJ12_checkIndex.data.toList.drop 0 = dktJ12_checkIndex_0 := by decide +kernel
theorem dJ12_checkIndex_0 : decode cJ12_checkIndex 0 = .ok (.iload_n 0, 1) := dk_26 (dk_at dksJ12_checkIndex_0 0 rfl rfl)
theorem dJ12_checkIndex_1 : decode cJ12_checkIndex 1 = .ok (.iload_n 1, 1) := dk_27 (dk_at dksJ12_checkIndex_0 1 rfl rfl)
theorem dJ12_checkIndex_2 : decode cJ12_checkIndex 2 = .ok (.aconst_null, 1) := dk_1 (dk_at dksJ12_checkIndex_0 2 rfl rfl)
theorem dJ12_checkIndex_3 : decode cJ12_checkIndex 3 = .ok (.invokestatic 105, 3) := dk_184 0 105 (dk_at dksJ12_checkIndex_0 3 rfl rfl)
theorem dJ12_checkIndex_6 : decode cJ12_checkIndex 6 = .ok (.ireturn, 1) := dk_172 (dk_at dksJ12_checkIndex_0 6 rfl rfl)
theorem q66 : (Jvm.Cond.initialized "java/util/Objects") ∈ lw_all := lw_g (lw_at lw_m1 18 rfl) rfl
theorem q491 : (Jvm.Cond.static ({ cls := "java/util/Objects", name := "requireNonNull", desc := "(Ljava/lang/Object;)Ljava/lang/Object;" } : Jvm.MethodName)) ∈ lw_all := lw_g (lw_at lw_m2 203 rfl) rfl
theorem q492 : (Jvm.Cond.code ({ cls := "java/util/Objects", name := "requireNonNull", desc := "(Ljava/lang/Object;)Ljava/lang/Object;" } : Jvm.MethodName) prog_59_method_10_code (1 : Nat) (Option.some (Jvm.ClassFile.FieldType.object "java/lang/Object"))) ∈ lw_all := lw_g (lw_at lw_m2 204 rfl) rfl
theorem q493 : (Jvm.Cond.classLink "java/util/Objects" (84 : Nat) "java/lang/NullPointerException") ∈ lw_all := lw_g (lw_at lw_m2 205 rfl) rfl
theorem q549 : (Jvm.Cond.methodLink "java/util/Objects" (86 : Nat) ({ cls := "java/lang/NullPointerException", name := "<init>", desc := "()V" } : Jvm.MethodName)) ∈ lw_all := lw_g (lw_at lw_m3 21 rfl) rfl
theorem q1349 : (Jvm.Cond.static ({ cls := "java/util/Objects", name := "checkIndex", desc := "(II)I" } : Jvm.MethodName)) ∈ lw_all := lw_g (lw_at lw_m6 101 rfl) rfl
theorem q1350 : (Jvm.Cond.code ({ cls := "java/util/Objects", name := "checkIndex", desc := "(II)I" } : Jvm.MethodName) prog_59_method_17_code (2 : Nat) (Option.some Jvm.ClassFile.FieldType.int)) ∈ lw_all := lw_g (lw_at lw_m6 102 rfl) rfl
theorem q1351 : (Jvm.Cond.methodLink "java/util/Objects" (105 : Nat) ({ cls := "jdk/internal/util/Preconditions", name := "checkIndex", desc := "(IILjava/util/function/BiFunction;)I" } : Jvm.MethodName)) ∈ lw_all := lw_g (lw_at lw_m6 103 rfl) rfl
/-! java/lang/Throwable -/
set_option maxRecDepth 100000
def RJ13 : String := "java/lang/Throwable"
def TJ13 : u_T := fun k => match k with
  | 0 => ("java/lang/Throwable", "cause", "Ljava/lang/Throwable;", false)
  | 1 => ("java/lang/Throwable", "stackTrace", "[Ljava/lang/StackTraceElement;", false)
  | 2 => ("java/lang/Throwable", "suppressedExceptions", "Ljava/util/List;", false)
  | 3 => ("java/lang/Throwable", "detailMessage", "Ljava/lang/String;", false)
  | _ => ("java/lang/Throwable", "backtrace", "Ljava/lang/Object;", false)
def tyJ13 : Nat → FieldType := fun k => match k with
  | 0 => .object "java/lang/Throwable"
  | 1 => .array (.object "java/lang/StackTraceElement")
  | 2 => .object "java/util/List"
  | 3 => .object "java/lang/String"
  | _ => .object "java/lang/Object"
abbrev wsJ130 : List Cond := u_ws RJ13 TJ13 5
theorem nmJ13 : ∀ a, a < 5 → ∀ b, b < 5 → a ≠ b → (TJ13 a).2.1 ≠ (TJ13 b).2.1 := by decide +kernel
theorem tyJ13_ok : ∀ k, k < 5 → parseFieldDescriptor (TJ13 k).2.2.1 = some (tyJ13 k) := by decide +kernel
abbrev cJ13_init : ByteArray := prog_41_method_1_code
def yJ13_init : MethodName := ⟨RJ13, "<init>", "()V"⟩
def dkwJ13_init_1 : List UInt8 := [182, 0, 27, 87, 177]
abbrev dktJ13_init_1 : List UInt8 := dkwJ13_init_1 ++ []
def dkwJ13_init_0 : List UInt8 := [42, 183, 0, 1, 42, 42, 181, 0, 7, 42, 178, 0, 13, 181, 0, 17, 42, 178, 0, 20, 181, 0, 24, 42]
abbrev dktJ13_init_0 : List UInt8 := dkwJ13_init_0 ++ dktJ13_init_1
theorem dksJ13_init_0 : cJ13_init.data.toList.drop 0 = dktJ13_init_0 := by decide +kernel
theorem dksJ13_init_1 : cJ13_init.data.toList.drop 24 = dktJ13_init_1 := dk_seg dksJ13_init_0 24 rfl rfl
theorem dJ13_init_0 : decode cJ13_init 0 = .ok (.aload_n 0, 1) := dk_42 (dk_at dksJ13_init_0 0 rfl rfl)
theorem dJ13_init_1 : decode cJ13_init 1 = .ok (.invokespecial 1, 3) := dk_183 0 1 (dk_at dksJ13_init_0 1 rfl rfl)
theorem dJ13_init_4 : decode cJ13_init 4 = .ok (.aload_n 0, 1) := dk_42 (dk_at dksJ13_init_0 4 rfl rfl)
theorem dJ13_init_5 : decode cJ13_init 5 = .ok (.aload_n 0, 1) := dk_42 (dk_at dksJ13_init_0 5 rfl rfl)
theorem dJ13_init_6 : decode cJ13_init 6 = .ok (.putfield 7, 3) := dk_181 0 7 (dk_at dksJ13_init_0 6 rfl rfl)
theorem dJ13_init_9 : decode cJ13_init 9 = .ok (.aload_n 0, 1) := dk_42 (dk_at dksJ13_init_0 9 rfl rfl)
theorem dJ13_init_10 : decode cJ13_init 10 = .ok (.getstatic 13, 3) := dk_178 0 13 (dk_at dksJ13_init_0 10 rfl rfl)
theorem dJ13_init_13 : decode cJ13_init 13 = .ok (.putfield 17, 3) := dk_181 0 17 (dk_at dksJ13_init_0 13 rfl rfl)
theorem dJ13_init_16 : decode cJ13_init 16 = .ok (.aload_n 0, 1) := dk_42 (dk_at dksJ13_init_0 16 rfl rfl)
theorem dJ13_init_17 : decode cJ13_init 17 = .ok (.getstatic 20, 3) := dk_178 0 20 (dk_at dksJ13_init_0 17 rfl rfl)
theorem dJ13_init_20 : decode cJ13_init 20 = .ok (.putfield 24, 3) := dk_181 0 24 (dk_at dksJ13_init_0 20 rfl rfl)
theorem dJ13_init_23 : decode cJ13_init 23 = .ok (.aload_n 0, 1) := dk_42 (dk_at dksJ13_init_0 23 rfl rfl)
theorem dJ13_init_24 : decode cJ13_init 24 = .ok (.invokevirtual 27, 3) := dk_182 0 27 (dk_at dksJ13_init_1 0 rfl rfl)
theorem dJ13_init_27 : decode cJ13_init 27 = .ok (.pop, 1) := dk_87 (dk_at dksJ13_init_1 3 rfl rfl)
theorem dJ13_init_28 : decode cJ13_init 28 = .ok (.return_, 1) := dk_177 (dk_at dksJ13_init_1 4 rfl rfl)
abbrev cJ13_init_2 : ByteArray := prog_41_method_5_code
def yJ13_init_2 : MethodName := ⟨RJ13, "<init>", "(Ljava/lang/String;Ljava/lang/Throwable;ZZ)V"⟩
def dkwJ13_init_2_2 : List UInt8 := [44, 181, 0, 7, 29, 154, 0, 8, 42, 1, 181, 0, 24, 177]
abbrev dktJ13_init_2_2 : List UInt8 := dkwJ13_init_2_2 ++ []
def dkwJ13_init_2_1 : List UInt8 := [21, 4, 153, 0, 11, 42, 182, 0, 27, 87, 167, 0, 8, 42, 1, 181, 0, 17, 42, 43, 181, 0, 31, 42]
abbrev dktJ13_init_2_1 : List UInt8 := dkwJ13_init_2_1 ++ dktJ13_init_2_2
def dkwJ13_init_2_0 : List UInt8 := [42, 183, 0, 1, 42, 42, 181, 0, 7, 42, 178, 0, 13, 181, 0, 17, 42, 178, 0, 20, 181, 0, 24]
abbrev dktJ13_init_2_0 : List UInt8 := dkwJ13_init_2_0 ++ dktJ13_init_2_1
theorem dksJ13_init_2_0 : cJ13_init_2.data.toList.drop 0 = dktJ13_init_2_0 := by decide +kernel
theorem dksJ13_init_2_1 : cJ13_init_2.data.toList.drop 23 = dktJ13_init_2_1 := dk_seg dksJ13_init_2_0 23 rfl rfl
theorem dksJ13_init_2_2 : cJ13_init_2.data.toList.drop 47 = dktJ13_init_2_2 := dk_seg dksJ13_init_2_1 24 rfl rfl
theorem dJ13_init_2_0 : decode cJ13_init_2 0 = .ok (.aload_n 0, 1) := dk_42 (dk_at dksJ13_init_2_0 0 rfl rfl)
theorem dJ13_init_2_1 : decode cJ13_init_2 1 = .ok (.invokespecial 1, 3) := dk_183 0 1 (dk_at dksJ13_init_2_0 1 rfl rfl)
theorem dJ13_init_2_4 : decode cJ13_init_2 4 = .ok (.aload_n 0, 1) := dk_42 (dk_at dksJ13_init_2_0 4 rfl rfl)
theorem dJ13_init_2_5 : decode cJ13_init_2 5 = .ok (.aload_n 0, 1) := dk_42 (dk_at dksJ13_init_2_0 5 rfl rfl)
theorem dJ13_init_2_6 : decode cJ13_init_2 6 = .ok (.putfield 7, 3) := dk_181 0 7 (dk_at dksJ13_init_2_0 6 rfl rfl)
theorem dJ13_init_2_9 : decode cJ13_init_2 9 = .ok (.aload_n 0, 1) := dk_42 (dk_at dksJ13_init_2_0 9 rfl rfl)
theorem dJ13_init_2_10 : decode cJ13_init_2 10 = .ok (.getstatic 13, 3) := dk_178 0 13 (dk_at dksJ13_init_2_0 10 rfl rfl)
theorem dJ13_init_2_13 : decode cJ13_init_2 13 = .ok (.putfield 17, 3) := dk_181 0 17 (dk_at dksJ13_init_2_0 13 rfl rfl)
theorem dJ13_init_2_16 : decode cJ13_init_2 16 = .ok (.aload_n 0, 1) := dk_42 (dk_at dksJ13_init_2_0 16 rfl rfl)
theorem dJ13_init_2_17 : decode cJ13_init_2 17 = .ok (.getstatic 20, 3) := dk_178 0 20 (dk_at dksJ13_init_2_0 17 rfl rfl)
theorem dJ13_init_2_20 : decode cJ13_init_2 20 = .ok (.putfield 24, 3) := dk_181 0 24 (dk_at dksJ13_init_2_0 20 rfl rfl)
theorem dJ13_init_2_23 : decode cJ13_init_2 23 = .ok (.iload 4, 2) := dk_21 4 (dk_at dksJ13_init_2_1 0 rfl rfl)
theorem dJ13_init_2_25 : decode cJ13_init_2 25 = .ok (.ifCond .eq 11, 3) := dk_153 0 11 (dk_at dksJ13_init_2_1 2 rfl rfl)
theorem dJ13_init_2_28 : decode cJ13_init_2 28 = .ok (.aload_n 0, 1) := dk_42 (dk_at dksJ13_init_2_1 5 rfl rfl)
theorem dJ13_init_2_29 : decode cJ13_init_2 29 = .ok (.invokevirtual 27, 3) := dk_182 0 27 (dk_at dksJ13_init_2_1 6 rfl rfl)
theorem dJ13_init_2_32 : decode cJ13_init_2 32 = .ok (.pop, 1) := dk_87 (dk_at dksJ13_init_2_1 9 rfl rfl)
theorem dJ13_init_2_33 : decode cJ13_init_2 33 = .ok (.goto 8, 3) := dk_167 0 8 (dk_at dksJ13_init_2_1 10 rfl rfl)
theorem dJ13_init_2_36 : decode cJ13_init_2 36 = .ok (.aload_n 0, 1) := dk_42 (dk_at dksJ13_init_2_1 13 rfl rfl)
theorem dJ13_init_2_37 : decode cJ13_init_2 37 = .ok (.aconst_null, 1) := dk_1 (dk_at dksJ13_init_2_1 14 rfl rfl)
theorem dJ13_init_2_38 : decode cJ13_init_2 38 = .ok (.putfield 17, 3) := dk_181 0 17 (dk_at dksJ13_init_2_1 15 rfl rfl)
theorem dJ13_init_2_41 : decode cJ13_init_2 41 = .ok (.aload_n 0, 1) := dk_42 (dk_at dksJ13_init_2_1 18 rfl rfl)
theorem dJ13_init_2_42 : decode cJ13_init_2 42 = .ok (.aload_n 1, 1) := dk_43 (dk_at dksJ13_init_2_1 19 rfl rfl)
theorem dJ13_init_2_43 : decode cJ13_init_2 43 = .ok (.putfield 31, 3) := dk_181 0 31 (dk_at dksJ13_init_2_1 20 rfl rfl)
theorem dJ13_init_2_46 : decode cJ13_init_2 46 = .ok (.aload_n 0, 1) := dk_42 (dk_at dksJ13_init_2_1 23 rfl rfl)
theorem dJ13_init_2_47 : decode cJ13_init_2 47 = .ok (.aload_n 2, 1) := dk_44 (dk_at dksJ13_init_2_2 0 rfl rfl)
theorem dJ13_init_2_48 : decode cJ13_init_2 48 = .ok (.putfield 7, 3) := dk_181 0 7 (dk_at dksJ13_init_2_2 1 rfl rfl)
theorem dJ13_init_2_51 : decode cJ13_init_2 51 = .ok (.iload_n 3, 1) := dk_29 (dk_at dksJ13_init_2_2 4 rfl rfl)
theorem dJ13_init_2_52 : decode cJ13_init_2 52 = .ok (.ifCond .ne 8, 3) := dk_154 0 8 (dk_at dksJ13_init_2_2 5 rfl rfl)
theorem dJ13_init_2_55 : decode cJ13_init_2 55 = .ok (.aload_n 0, 1) := dk_42 (dk_at dksJ13_init_2_2 8 rfl rfl)
theorem dJ13_init_2_56 : decode cJ13_init_2 56 = .ok (.aconst_null, 1) := dk_1 (dk_at dksJ13_init_2_2 9 rfl rfl)
theorem dJ13_init_2_57 : decode cJ13_init_2 57 = .ok (.putfield 24, 3) := dk_181 0 24 (dk_at dksJ13_init_2_2 10 rfl rfl)
theorem dJ13_init_2_60 : decode cJ13_init_2 60 = .ok (.return_, 1) := dk_177 (dk_at dksJ13_init_2_2 13 rfl rfl)
abbrev cJ13_init_3 : ByteArray := prog_41_method_2_code
def yJ13_init_3 : MethodName := ⟨RJ13, "<init>", "(Ljava/lang/String;)V"⟩
def dkwJ13_init_3_1 : List UInt8 := [182, 0, 27, 87, 42, 43, 181, 0, 31, 177]
abbrev dktJ13_init_3_1 : List UInt8 := dkwJ13_init_3_1 ++ []
def dkwJ13_init_3_0 : List UInt8 := [42, 183, 0, 1, 42, 42, 181, 0, 7, 42, 178, 0, 13, 181, 0, 17, 42, 178, 0, 20, 181, 0, 24, 42]
abbrev dktJ13_init_3_0 : List UInt8 := dkwJ13_init_3_0 ++ dktJ13_init_3_1
theorem dksJ13_init_3_0 : cJ13_init_3.data.toList.drop 0 = dktJ13_init_3_0 := by decide +kernel
theorem dksJ13_init_3_1 : cJ13_init_3.data.toList.drop 24 = dktJ13_init_3_1 := dk_seg dksJ13_init_3_0 24 rfl rfl
theorem dJ13_init_3_0 : decode cJ13_init_3 0 = .ok (.aload_n 0, 1) := dk_42 (dk_at dksJ13_init_3_0 0 rfl rfl)
theorem dJ13_init_3_1 : decode cJ13_init_3 1 = .ok (.invokespecial 1, 3) := dk_183 0 1 (dk_at dksJ13_init_3_0 1 rfl rfl)
theorem dJ13_init_3_4 : decode cJ13_init_3 4 = .ok (.aload_n 0, 1) := dk_42 (dk_at dksJ13_init_3_0 4 rfl rfl)
theorem dJ13_init_3_5 : decode cJ13_init_3 5 = .ok (.aload_n 0, 1) := dk_42 (dk_at dksJ13_init_3_0 5 rfl rfl)
theorem dJ13_init_3_6 : decode cJ13_init_3 6 = .ok (.putfield 7, 3) := dk_181 0 7 (dk_at dksJ13_init_3_0 6 rfl rfl)
theorem dJ13_init_3_9 : decode cJ13_init_3 9 = .ok (.aload_n 0, 1) := dk_42 (dk_at dksJ13_init_3_0 9 rfl rfl)
theorem dJ13_init_3_10 : decode cJ13_init_3 10 = .ok (.getstatic 13, 3) := dk_178 0 13 (dk_at dksJ13_init_3_0 10 rfl rfl)
theorem dJ13_init_3_13 : decode cJ13_init_3 13 = .ok (.putfield 17, 3) := dk_181 0 17 (dk_at dksJ13_init_3_0 13 rfl rfl)
theorem dJ13_init_3_16 : decode cJ13_init_3 16 = .ok (.aload_n 0, 1) := dk_42 (dk_at dksJ13_init_3_0 16 rfl rfl)
theorem dJ13_init_3_17 : decode cJ13_init_3 17 = .ok (.getstatic 20, 3) := dk_178 0 20 (dk_at dksJ13_init_3_0 17 rfl rfl)
theorem dJ13_init_3_20 : decode cJ13_init_3 20 = .ok (.putfield 24, 3) := dk_181 0 24 (dk_at dksJ13_init_3_0 20 rfl rfl)
theorem dJ13_init_3_23 : decode cJ13_init_3 23 = .ok (.aload_n 0, 1) := dk_42 (dk_at dksJ13_init_3_0 23 rfl rfl)
theorem dJ13_init_3_24 : decode cJ13_init_3 24 = .ok (.invokevirtual 27, 3) := dk_182 0 27 (dk_at dksJ13_init_3_1 0 rfl rfl)
theorem dJ13_init_3_27 : decode cJ13_init_3 27 = .ok (.pop, 1) := dk_87 (dk_at dksJ13_init_3_1 3 rfl rfl)
theorem dJ13_init_3_28 : decode cJ13_init_3 28 = .ok (.aload_n 0, 1) := dk_42 (dk_at dksJ13_init_3_1 4 rfl rfl)
theorem dJ13_init_3_29 : decode cJ13_init_3 29 = .ok (.aload_n 1, 1) := dk_43 (dk_at dksJ13_init_3_1 5 rfl rfl)
theorem dJ13_init_3_30 : decode cJ13_init_3 30 = .ok (.putfield 31, 3) := dk_181 0 31 (dk_at dksJ13_init_3_1 6 rfl rfl)
theorem dJ13_init_3_33 : decode cJ13_init_3 33 = .ok (.return_, 1) := dk_177 (dk_at dksJ13_init_3_1 9 rfl rfl)
abbrev cJ13_init_4 : ByteArray := prog_41_method_4_code
def yJ13_init_4 : MethodName := ⟨RJ13, "<init>", "(Ljava/lang/Throwable;)V"⟩
def dkwJ13_init_4_2 : List UInt8 := [181, 0, 7, 177]
abbrev dktJ13_init_4_2 : List UInt8 := dkwJ13_init_4_2 ++ []
def dkwJ13_init_4_1 : List UInt8 := [182, 0, 27, 87, 42, 43, 199, 0, 7, 1, 167, 0, 7, 43, 182, 0, 35, 181, 0, 31, 42, 43]
abbrev dktJ13_init_4_1 : List UInt8 := dkwJ13_init_4_1 ++ dktJ13_init_4_2
def dkwJ13_init_4_0 : List UInt8 := [42, 183, 0, 1, 42, 42, 181, 0, 7, 42, 178, 0, 13, 181, 0, 17, 42, 178, 0, 20, 181, 0, 24, 42]
abbrev dktJ13_init_4_0 : List UInt8 := dkwJ13_init_4_0 ++ dktJ13_init_4_1
theorem dksJ13_init_4_0 : cJ13_init_4.data.toList.drop 0 = dktJ13_init_4_0 := by decide +kernel
theorem dksJ13_init_4_1 : cJ13_init_4.data.toList.drop 24 = dktJ13_init_4_1 := dk_seg dksJ13_init_4_0 24 rfl rfl
theorem dksJ13_init_4_2 : cJ13_init_4.data.toList.drop 46 = dktJ13_init_4_2 := dk_seg dksJ13_init_4_1 22 rfl rfl
theorem dJ13_init_4_0 : decode cJ13_init_4 0 = .ok (.aload_n 0, 1) := dk_42 (dk_at dksJ13_init_4_0 0 rfl rfl)
theorem dJ13_init_4_1 : decode cJ13_init_4 1 = .ok (.invokespecial 1, 3) := dk_183 0 1 (dk_at dksJ13_init_4_0 1 rfl rfl)
theorem dJ13_init_4_4 : decode cJ13_init_4 4 = .ok (.aload_n 0, 1) := dk_42 (dk_at dksJ13_init_4_0 4 rfl rfl)
theorem dJ13_init_4_5 : decode cJ13_init_4 5 = .ok (.aload_n 0, 1) := dk_42 (dk_at dksJ13_init_4_0 5 rfl rfl)
theorem dJ13_init_4_6 : decode cJ13_init_4 6 = .ok (.putfield 7, 3) := dk_181 0 7 (dk_at dksJ13_init_4_0 6 rfl rfl)
theorem dJ13_init_4_9 : decode cJ13_init_4 9 = .ok (.aload_n 0, 1) := dk_42 (dk_at dksJ13_init_4_0 9 rfl rfl)
theorem dJ13_init_4_10 : decode cJ13_init_4 10 = .ok (.getstatic 13, 3) := dk_178 0 13 (dk_at dksJ13_init_4_0 10 rfl rfl)
theorem dJ13_init_4_13 : decode cJ13_init_4 13 = .ok (.putfield 17, 3) := dk_181 0 17 (dk_at dksJ13_init_4_0 13 rfl rfl)
theorem dJ13_init_4_16 : decode cJ13_init_4 16 = .ok (.aload_n 0, 1) := dk_42 (dk_at dksJ13_init_4_0 16 rfl rfl)
theorem dJ13_init_4_17 : decode cJ13_init_4 17 = .ok (.getstatic 20, 3) := dk_178 0 20 (dk_at dksJ13_init_4_0 17 rfl rfl)
theorem dJ13_init_4_20 : decode cJ13_init_4 20 = .ok (.putfield 24, 3) := dk_181 0 24 (dk_at dksJ13_init_4_0 20 rfl rfl)
theorem dJ13_init_4_23 : decode cJ13_init_4 23 = .ok (.aload_n 0, 1) := dk_42 (dk_at dksJ13_init_4_0 23 rfl rfl)
theorem dJ13_init_4_24 : decode cJ13_init_4 24 = .ok (.invokevirtual 27, 3) := dk_182 0 27 (dk_at dksJ13_init_4_1 0 rfl rfl)
theorem dJ13_init_4_27 : decode cJ13_init_4 27 = .ok (.pop, 1) := dk_87 (dk_at dksJ13_init_4_1 3 rfl rfl)
theorem dJ13_init_4_28 : decode cJ13_init_4 28 = .ok (.aload_n 0, 1) := dk_42 (dk_at dksJ13_init_4_1 4 rfl rfl)
theorem dJ13_init_4_29 : decode cJ13_init_4 29 = .ok (.aload_n 1, 1) := dk_43 (dk_at dksJ13_init_4_1 5 rfl rfl)
theorem dJ13_init_4_30 : decode cJ13_init_4 30 = .ok (.ifnonnull 7, 3) := dk_199 0 7 (dk_at dksJ13_init_4_1 6 rfl rfl)
theorem dJ13_init_4_33 : decode cJ13_init_4 33 = .ok (.aconst_null, 1) := dk_1 (dk_at dksJ13_init_4_1 9 rfl rfl)
theorem dJ13_init_4_34 : decode cJ13_init_4 34 = .ok (.goto 7, 3) := dk_167 0 7 (dk_at dksJ13_init_4_1 10 rfl rfl)
theorem dJ13_init_4_37 : decode cJ13_init_4 37 = .ok (.aload_n 1, 1) := dk_43 (dk_at dksJ13_init_4_1 13 rfl rfl)
theorem dJ13_init_4_38 : decode cJ13_init_4 38 = .ok (.invokevirtual 35, 3) := dk_182 0 35 (dk_at dksJ13_init_4_1 14 rfl rfl)
theorem dJ13_init_4_41 : decode cJ13_init_4 41 = .ok (.putfield 31, 3) := dk_181 0 31 (dk_at dksJ13_init_4_1 17 rfl rfl)
theorem dJ13_init_4_44 : decode cJ13_init_4 44 = .ok (.aload_n 0, 1) := dk_42 (dk_at dksJ13_init_4_1 20 rfl rfl)
theorem dJ13_init_4_45 : decode cJ13_init_4 45 = .ok (.aload_n 1, 1) := dk_43 (dk_at dksJ13_init_4_1 21 rfl rfl)
theorem dJ13_init_4_46 : decode cJ13_init_4 46 = .ok (.putfield 7, 3) := dk_181 0 7 (dk_at dksJ13_init_4_2 0 rfl rfl)
theorem dJ13_init_4_49 : decode cJ13_init_4 49 = .ok (.return_, 1) := dk_177 (dk_at dksJ13_init_4_2 3 rfl rfl)
abbrev cJ13_toString : ByteArray := prog_41_method_11_code
def yJ13_toString : MethodName := ⟨RJ13, "toString", "()Ljava/lang/String;"⟩
def dkwJ13_toString_1 : List UInt8 := [43, 182, 0, 49, 18, 81, 182, 0, 49, 44, 182, 0, 49, 182, 0, 60, 167, 0, 4, 43, 176]
abbrev dktJ13_toString_1 : List UInt8 := dkwJ13_toString_1 ++ []
def dkwJ13_toString_0 : List UInt8 := [42, 182, 0, 69, 182, 0, 73, 76, 42, 182, 0, 78, 77, 44, 198, 0, 29, 187, 0, 44, 89, 183, 0, 46]
abbrev dktJ13_toString_0 : List UInt8 := dkwJ13_toString_0 ++ dktJ13_toString_1
theorem dksJ13_toString_0 : cJ13_toString.data.toList.drop 0 = dktJ13_toString_0 := by decide +kernel
theorem dksJ13_toString_1 : cJ13_toString.data.toList.drop 24 = dktJ13_toString_1 := dk_seg dksJ13_toString_0 24 rfl rfl
theorem dJ13_toString_0 : decode cJ13_toString 0 = .ok (.aload_n 0, 1) := dk_42 (dk_at dksJ13_toString_0 0 rfl rfl)
theorem dJ13_toString_1 : decode cJ13_toString 1 = .ok (.invokevirtual 69, 3) := dk_182 0 69 (dk_at dksJ13_toString_0 1 rfl rfl)
theorem dJ13_toString_4 : decode cJ13_toString 4 = .ok (.invokevirtual 73, 3) := dk_182 0 73 (dk_at dksJ13_toString_0 4 rfl rfl)
theorem dJ13_toString_7 : decode cJ13_toString 7 = .ok (.astore_n 1, 1) := dk_76 (dk_at dksJ13_toString_0 7 rfl rfl)
theorem dJ13_toString_8 : decode cJ13_toString 8 = .ok (.aload_n 0, 1) := dk_42 (dk_at dksJ13_toString_0 8 rfl rfl)
theorem dJ13_toString_9 : decode cJ13_toString 9 = .ok (.invokevirtual 78, 3) := dk_182 0 78 (dk_at dksJ13_toString_0 9 rfl rfl)
theorem dJ13_toString_12 : decode cJ13_toString 12 = .ok (.astore_n 2, 1) := dk_77 (dk_at dksJ13_toString_0 12 rfl rfl)
theorem dJ13_toString_13 : decode cJ13_toString 13 = .ok (.aload_n 2, 1) := dk_44 (dk_at dksJ13_toString_0 13 rfl rfl)
theorem dJ13_toString_14 : decode cJ13_toString 14 = .ok (.ifnull 29, 3) := dk_198 0 29 (dk_at dksJ13_toString_0 14 rfl rfl)
theorem dJ13_toString_17 : decode cJ13_toString 17 = .ok (.new 44, 3) := dk_187 0 44 (dk_at dksJ13_toString_0 17 rfl rfl)
theorem dJ13_toString_20 : decode cJ13_toString 20 = .ok (.dup, 1) := dk_89 (dk_at dksJ13_toString_0 20 rfl rfl)
theorem dJ13_toString_21 : decode cJ13_toString 21 = .ok (.invokespecial 46, 3) := dk_183 0 46 (dk_at dksJ13_toString_0 21 rfl rfl)
theorem dJ13_toString_24 : decode cJ13_toString 24 = .ok (.aload_n 1, 1) := dk_43 (dk_at dksJ13_toString_1 0 rfl rfl)
theorem dJ13_toString_25 : decode cJ13_toString 25 = .ok (.invokevirtual 49, 3) := dk_182 0 49 (dk_at dksJ13_toString_1 1 rfl rfl)
theorem dJ13_toString_28 : decode cJ13_toString 28 = .ok (.ldc 81, 2) := dk_18 81 (dk_at dksJ13_toString_1 4 rfl rfl)
theorem dJ13_toString_30 : decode cJ13_toString 30 = .ok (.invokevirtual 49, 3) := dk_182 0 49 (dk_at dksJ13_toString_1 6 rfl rfl)
theorem dJ13_toString_33 : decode cJ13_toString 33 = .ok (.aload_n 2, 1) := dk_44 (dk_at dksJ13_toString_1 9 rfl rfl)
theorem dJ13_toString_34 : decode cJ13_toString 34 = .ok (.invokevirtual 49, 3) := dk_182 0 49 (dk_at dksJ13_toString_1 10 rfl rfl)
theorem dJ13_toString_37 : decode cJ13_toString 37 = .ok (.invokevirtual 60, 3) := dk_182 0 60 (dk_at dksJ13_toString_1 13 rfl rfl)
theorem dJ13_toString_40 : decode cJ13_toString 40 = .ok (.goto 4, 3) := dk_167 0 4 (dk_at dksJ13_toString_1 16 rfl rfl)
theorem dJ13_toString_43 : decode cJ13_toString 43 = .ok (.aload_n 1, 1) := dk_43 (dk_at dksJ13_toString_1 19 rfl rfl)
theorem dJ13_toString_44 : decode cJ13_toString 44 = .ok (.areturn, 1) := dk_176 (dk_at dksJ13_toString_1 20 rfl rfl)
abbrev cJ13_getLocalizedMessage : ByteArray := prog_41_method_7_code
def yJ13_getLocalizedMessage : MethodName := ⟨RJ13, "getLocalizedMessage", "()Ljava/lang/String;"⟩
theorem dJ13_getLocalizedMessage_0 : decode cJ13_getLocalizedMessage 0 = .ok (.aload_n 0, 1) := by decide +kernel
theorem dJ13_getLocalizedMessage_1 : decode cJ13_getLocalizedMessage 1 = .ok (.invokevirtual 39, 3) := by decide +kernel
theorem dJ13_getLocalizedMessage_4 : decode cJ13_getLocalizedMessage 4 = .ok (.areturn, 1) := by decide +kernel
abbrev cJ13_getMessage : ByteArray := prog_41_method_6_code
def yJ13_getMessage : MethodName := ⟨RJ13, "getMessage", "()Ljava/lang/String;"⟩
theorem dJ13_getMessage_0 : decode cJ13_getMessage 0 = .ok (.aload_n 0, 1) := by decide +kernel
theorem dJ13_getMessage_1 : decode cJ13_getMessage 1 = .ok (.getfield 31, 3) := by decide +kernel
theorem dJ13_getMessage_4 : decode cJ13_getMessage 4 = .ok (.areturn, 1) := by decide +kernel
theorem q67 : (Jvm.Cond.initialized "java/lang/Throwable") ∈ lw_all := lw_g (lw_at lw_m1 19 rfl) rfl
theorem q500 : (Jvm.Cond.declares ({ cls := "java/lang/Throwable", name := "<init>", desc := "()V" } : Jvm.MethodName)) ∈ lw_tbl := lw_at lw_m2 212 rfl
theorem q501 : (Jvm.Cond.declares ({ cls := "java/lang/Throwable", name := "<init>", desc := "(Ljava/lang/String;)V" } : Jvm.MethodName)) ∈ lw_tbl := lw_at lw_m2 213 rfl
theorem q504 : (Jvm.Cond.lays "java/lang/Throwable" "java/lang/Throwable" "cause" "Ljava/lang/Throwable;") ∈ lw_all := lw_g (lw_at lw_m2 216 rfl) rfl
theorem q506 : (Jvm.Cond.lays "java/lang/Throwable" "java/lang/Throwable" "stackTrace" "[Ljava/lang/StackTraceElement;") ∈ lw_all := lw_g (lw_at lw_m2 218 rfl) rfl
theorem q508 : (Jvm.Cond.lays "java/lang/Throwable" "java/lang/Throwable" "suppressedExceptions" "Ljava/util/List;") ∈ lw_all := lw_g (lw_at lw_m2 220 rfl) rfl
theorem q510 : (Jvm.Cond.lays "java/lang/Throwable" "java/lang/Throwable" "detailMessage" "Ljava/lang/String;") ∈ lw_all := lw_g (lw_at lw_m2 222 rfl) rfl
theorem q512 : (Jvm.Cond.lays "java/lang/Throwable" "java/lang/Throwable" "backtrace" "Ljava/lang/Object;") ∈ lw_all := lw_g (lw_at lw_m2 224 rfl) rfl
theorem q513 : (Jvm.Cond.fieldLink "java/lang/Throwable" (198 : Nat) "java/lang/Throwable" "backtrace" "Ljava/lang/Object;") ∈ lw_all := lw_g (lw_at lw_m2 225 rfl) rfl
theorem q514 : (Jvm.Cond.superclass "java/lang/Throwable" "java/lang/Object") ∈ lw_all := lw_g (lw_at lw_m2 226 rfl) rfl
theorem q515 : (Jvm.Cond.instanceMethod ({ cls := "java/lang/Throwable", name := "<init>", desc := "()V" } : Jvm.MethodName)) ∈ lw_all := lw_g (lw_at lw_m2 227 rfl) rfl
theorem q516 : (Jvm.Cond.code ({ cls := "java/lang/Throwable", name := "<init>", desc := "()V" } : Jvm.MethodName) prog_41_method_1_code (1 : Nat) (Option.none : Option Jvm.ClassFile.FieldType)) ∈ lw_all := lw_g (lw_at lw_m2 228 rfl) rfl
theorem q517 : (Jvm.Cond.methodLink "java/lang/Throwable" (1 : Nat) ({ cls := "java/lang/Object", name := "<init>", desc := "()V" } : Jvm.MethodName)) ∈ lw_all := lw_g (lw_at lw_m2 229 rfl) rfl
theorem q518 : (Jvm.Cond.fieldLink "java/lang/Throwable" (13 : Nat) "java/lang/Throwable" "UNASSIGNED_STACK" "[Ljava/lang/StackTraceElement;") ∈ lw_all := lw_g (lw_at lw_m2 230 rfl) rfl
theorem q519 : (Jvm.Cond.laysStatic "java/lang/Throwable" "UNASSIGNED_STACK" "[Ljava/lang/StackTraceElement;") ∈ lw_tbl := lw_at lw_m2 231 rfl
theorem q520 : (Jvm.Cond.fieldLink "java/lang/Throwable" (20 : Nat) "java/lang/Throwable" "SUPPRESSED_SENTINEL" "Ljava/util/List;") ∈ lw_all := lw_g (lw_at lw_m2 232 rfl) rfl
theorem q521 : (Jvm.Cond.laysStatic "java/lang/Throwable" "SUPPRESSED_SENTINEL" "Ljava/util/List;") ∈ lw_tbl := lw_at lw_m2 233 rfl
theorem q522 : (Jvm.Cond.methodLink "java/lang/Throwable" (27 : Nat) ({ cls := "java/lang/Throwable", name := "fillInStackTrace", desc := "()Ljava/lang/Throwable;" } : Jvm.MethodName)) ∈ lw_all := lw_g (lw_at lw_m2 234 rfl) rfl
theorem q523 : (Jvm.Cond.instanceMethod ({ cls := "java/lang/Throwable", name := "fillInStackTrace", desc := "()Ljava/lang/Throwable;" } : Jvm.MethodName)) ∈ lw_all := lw_g (lw_at lw_m2 235 rfl) rfl
theorem q524 : (Jvm.Cond.sameMethod "java/lang/Throwable" "java/lang/Throwable" "fillInStackTrace" "()Ljava/lang/Throwable;") ∈ lw_all := lw_g (lw_at lw_m2 236 rfl) rfl
theorem q537 : (Jvm.Cond.declares ({ cls := "java/lang/Throwable", name := "fillInStackTrace", desc := "()Ljava/lang/Throwable;" } : Jvm.MethodName)) ∈ lw_tbl := lw_at lw_m3 9 rfl
theorem q541 : (Jvm.Cond.codeSync ({ cls := "java/lang/Throwable", name := "fillInStackTrace", desc := "()Ljava/lang/Throwable;" } : Jvm.MethodName) prog_41_method_18_code (1 : Nat) (Option.some (Jvm.ClassFile.FieldType.object "java/lang/Throwable"))) ∈ lw_all := lw_g (lw_at lw_m3 13 rfl) rfl
theorem q542 : (Jvm.Cond.methodLink "java/lang/Throwable" (202 : Nat) ({ cls := "java/lang/Throwable", name := "fillInStackTrace", desc := "(I)Ljava/lang/Throwable;" } : Jvm.MethodName)) ∈ lw_all := lw_g (lw_at lw_m3 14 rfl) rfl
theorem q543 : (Jvm.Cond.privateMethod ({ cls := "java/lang/Throwable", name := "fillInStackTrace", desc := "(I)Ljava/lang/Throwable;" } : Jvm.MethodName)) ∈ lw_tbl := lw_at lw_m3 15 rfl
theorem q544 : (Jvm.Cond.instanceMethod ({ cls := "java/lang/Throwable", name := "fillInStackTrace", desc := "(I)Ljava/lang/Throwable;" } : Jvm.MethodName)) ∈ lw_all := lw_g (lw_at lw_m3 16 rfl) rfl
theorem q545 : (Jvm.Cond.instantiable "java/lang/Throwable" (6 : Nat)) ∈ lw_all := lw_g (lw_at lw_m3 17 rfl) rfl
theorem q546 : (Jvm.Cond.native ({ cls := "java/lang/Throwable", name := "fillInStackTrace", desc := "(I)Ljava/lang/Throwable;" } : Jvm.MethodName)) ∈ lw_all := lw_g (lw_at lw_m3 18 rfl) rfl
theorem q561 : (Jvm.Cond.fieldLink "java/lang/Throwable" (198 : Nat) "java/lang/Throwable" "backtrace" "Ljava/lang/Object;") ∈ lw_all := lw_g (lw_at lw_m3 33 rfl) rfl
theorem q562 : (Jvm.Cond.fieldLink "java/lang/Throwable" (31 : Nat) "java/lang/Throwable" "detailMessage" "Ljava/lang/String;") ∈ lw_all := lw_g (lw_at lw_m3 34 rfl) rfl
theorem q563 : (Jvm.Cond.fieldLink "java/lang/Throwable" (7 : Nat) "java/lang/Throwable" "cause" "Ljava/lang/Throwable;") ∈ lw_all := lw_g (lw_at lw_m3 35 rfl) rfl
theorem q564 : (Jvm.Cond.fieldLink "java/lang/Throwable" (17 : Nat) "java/lang/Throwable" "stackTrace" "[Ljava/lang/StackTraceElement;") ∈ lw_all := lw_g (lw_at lw_m3 36 rfl) rfl
theorem q565 : (Jvm.Cond.fieldLink "java/lang/Throwable" (24 : Nat) "java/lang/Throwable" "suppressedExceptions" "Ljava/util/List;") ∈ lw_all := lw_g (lw_at lw_m3 37 rfl) rfl
theorem q570 : (Jvm.Cond.soleField "java/lang/Throwable" "backtrace") ∈ lw_all := lw_g (lw_at lw_m3 42 rfl) rfl
theorem q571 : (Jvm.Cond.soleField "java/lang/Throwable" "detailMessage") ∈ lw_all := lw_g (lw_at lw_m3 43 rfl) rfl
theorem q572 : (Jvm.Cond.soleField "java/lang/Throwable" "cause") ∈ lw_all := lw_g (lw_at lw_m3 44 rfl) rfl
theorem q573 : (Jvm.Cond.soleField "java/lang/Throwable" "stackTrace") ∈ lw_all := lw_g (lw_at lw_m3 45 rfl) rfl
theorem q575 : (Jvm.Cond.soleField "java/lang/Throwable" "depth") ∈ lw_all := lw_g (lw_at lw_m3 47 rfl) rfl
theorem q576 : (Jvm.Cond.soleField "java/lang/Throwable" "suppressedExceptions") ∈ lw_all := lw_g (lw_at lw_m3 48 rfl) rfl
theorem q668 : (Jvm.Cond.instanceMethod ({ cls := "java/lang/Throwable", name := "<init>", desc := "(Ljava/lang/String;Ljava/lang/Throwable;ZZ)V" } : Jvm.MethodName)) ∈ lw_all := lw_g (lw_at lw_m3 140 rfl) rfl
theorem q669 : (Jvm.Cond.code ({ cls := "java/lang/Throwable", name := "<init>", desc := "(Ljava/lang/String;Ljava/lang/Throwable;ZZ)V" } : Jvm.MethodName) prog_41_method_5_code (5 : Nat) (Option.none : Option Jvm.ClassFile.FieldType)) ∈ lw_all := lw_g (lw_at lw_m3 141 rfl) rfl
theorem q899 : (Jvm.Cond.instanceMethod ({ cls := "java/lang/Throwable", name := "<init>", desc := "(Ljava/lang/String;)V" } : Jvm.MethodName)) ∈ lw_all := lw_g (lw_at lw_m4 131 rfl) rfl
theorem q900 : (Jvm.Cond.code ({ cls := "java/lang/Throwable", name := "<init>", desc := "(Ljava/lang/String;)V" } : Jvm.MethodName) prog_41_method_2_code (2 : Nat) (Option.none : Option Jvm.ClassFile.FieldType)) ∈ lw_all := lw_g (lw_at lw_m4 132 rfl) rfl
theorem q1407 : (Jvm.Cond.instanceMethod ({ cls := "java/lang/Throwable", name := "<init>", desc := "(Ljava/lang/Throwable;)V" } : Jvm.MethodName)) ∈ lw_all := lw_g (lw_at lw_m6 159 rfl) rfl
theorem q1408 : (Jvm.Cond.code ({ cls := "java/lang/Throwable", name := "<init>", desc := "(Ljava/lang/Throwable;)V" } : Jvm.MethodName) prog_41_method_4_code (2 : Nat) (Option.none : Option Jvm.ClassFile.FieldType)) ∈ lw_all := lw_g (lw_at lw_m6 160 rfl) rfl
theorem q1409 : (Jvm.Cond.methodLink "java/lang/Throwable" (35 : Nat) ({ cls := "java/lang/Throwable", name := "toString", desc := "()Ljava/lang/String;" } : Jvm.MethodName)) ∈ lw_all := lw_g (lw_at lw_m6 161 rfl) rfl
theorem q1410 : (Jvm.Cond.instanceMethod ({ cls := "java/lang/Throwable", name := "toString", desc := "()Ljava/lang/String;" } : Jvm.MethodName)) ∈ lw_all := lw_g (lw_at lw_m6 162 rfl) rfl
theorem q1411 : (Jvm.Cond.sameMethod "java/lang/Throwable" "java/lang/Throwable" "toString" "()Ljava/lang/String;") ∈ lw_all := lw_g (lw_at lw_m6 163 rfl) rfl
theorem q1418 : (Jvm.Cond.code ({ cls := "java/lang/Throwable", name := "toString", desc := "()Ljava/lang/String;" } : Jvm.MethodName) prog_41_method_11_code (3 : Nat) (Option.some (Jvm.ClassFile.FieldType.object "java/lang/String"))) ∈ lw_all := lw_g (lw_at lw_m6 170 rfl) rfl
theorem q1419 : (Jvm.Cond.methodLink "java/lang/Throwable" (69 : Nat) ({ cls := "java/lang/Object", name := "getClass", desc := "()Ljava/lang/Class;" } : Jvm.MethodName)) ∈ lw_all := lw_g (lw_at lw_m6 171 rfl) rfl
theorem q1447 : (Jvm.Cond.methodLink "java/lang/Throwable" (78 : Nat) ({ cls := "java/lang/Throwable", name := "getLocalizedMessage", desc := "()Ljava/lang/String;" } : Jvm.MethodName)) ∈ lw_all := lw_g (lw_at lw_m6 199 rfl) rfl
theorem q1448 : (Jvm.Cond.instanceMethod ({ cls := "java/lang/Throwable", name := "getLocalizedMessage", desc := "()Ljava/lang/String;" } : Jvm.MethodName)) ∈ lw_all := lw_g (lw_at lw_m6 200 rfl) rfl
theorem q1449 : (Jvm.Cond.sameMethod "java/lang/Throwable" "java/lang/Throwable" "getLocalizedMessage" "()Ljava/lang/String;") ∈ lw_all := lw_g (lw_at lw_m6 201 rfl) rfl
theorem q1456 : (Jvm.Cond.code ({ cls := "java/lang/Throwable", name := "getLocalizedMessage", desc := "()Ljava/lang/String;" } : Jvm.MethodName) prog_41_method_7_code (1 : Nat) (Option.some (Jvm.ClassFile.FieldType.object "java/lang/String"))) ∈ lw_all := lw_g (lw_at lw_m6 208 rfl) rfl
theorem q1457 : (Jvm.Cond.methodLink "java/lang/Throwable" (39 : Nat) ({ cls := "java/lang/Throwable", name := "getMessage", desc := "()Ljava/lang/String;" } : Jvm.MethodName)) ∈ lw_all := lw_g (lw_at lw_m6 209 rfl) rfl
theorem q1458 : (Jvm.Cond.instanceMethod ({ cls := "java/lang/Throwable", name := "getMessage", desc := "()Ljava/lang/String;" } : Jvm.MethodName)) ∈ lw_all := lw_g (lw_at lw_m6 210 rfl) rfl
theorem q1459 : (Jvm.Cond.sameMethod "java/lang/Throwable" "java/lang/Throwable" "getMessage" "()Ljava/lang/String;") ∈ lw_all := lw_g (lw_at lw_m6 211 rfl) rfl
theorem q1468 : (Jvm.Cond.declares ({ cls := "java/lang/Throwable", name := "getMessage", desc := "()Ljava/lang/String;" } : Jvm.MethodName)) ∈ lw_tbl := lw_at lw_m6 220 rfl
theorem q1469 : (Jvm.Cond.code ({ cls := "java/lang/Throwable", name := "getMessage", desc := "()Ljava/lang/String;" } : Jvm.MethodName) prog_41_method_6_code (1 : Nat) (Option.some (Jvm.ClassFile.FieldType.object "java/lang/String"))) ∈ lw_all := lw_g (lw_at lw_m6 221 rfl) rfl
theorem q1472 : (Jvm.Cond.classLink "java/lang/Throwable" (44 : Nat) "java/lang/StringBuilder") ∈ lw_all := lw_g (lw_at lw_m6 224 rfl) rfl
theorem q1473 : (Jvm.Cond.methodLink "java/lang/Throwable" (46 : Nat) ({ cls := "java/lang/StringBuilder", name := "<init>", desc := "()V" } : Jvm.MethodName)) ∈ lw_all := lw_g (lw_at lw_m6 225 rfl) rfl
theorem q1474 : (Jvm.Cond.methodLink "java/lang/Throwable" (49 : Nat) ({ cls := "java/lang/StringBuilder", name := "append", desc := "(Ljava/lang/String;)Ljava/lang/StringBuilder;" } : Jvm.MethodName)) ∈ lw_all := lw_g (lw_at lw_m6 226 rfl) rfl
theorem q1513 : (Jvm.Cond.stringRef "java/lang/Throwable" (81 : Nat) ": ") ∈ lw_tbl := lw_at lw_m7 25 rfl
theorem q1514 : (Jvm.Cond.methodLink "java/lang/Throwable" (60 : Nat) ({ cls := "java/lang/StringBuilder", name := "toString", desc := "()Ljava/lang/String;" } : Jvm.MethodName)) ∈ lw_all := lw_g (lw_at lw_m7 26 rfl) rfl
theorem q2176 : (Jvm.Cond.sameMethod "java/lang/Throwable" "java/lang/Throwable" "fillInStackTrace" "(I)Ljava/lang/Throwable;") ∈ lw_all := lw_g (lw_at lw_m9 208 rfl) rfl
theorem q2228 : (Jvm.Cond.castable "java/lang/Throwable" "java/lang/Object") ∈ lw_tbl := lw_at lw_m10 20 rfl
theorem in_J13 : ∀ w ∈ wsJ130, w ∈ lw_all := lw_in wsJ130 [504, 506, 508, 510, 512] (by decide +kernel) (by decide +kernel)
/-! java/lang/Exception -/
set_option maxRecDepth 100000
def RJ14 : String := "java/lang/Exception"
abbrev cJ14_init : ByteArray := prog_27_method_1_code
def yJ14_init : MethodName := ⟨RJ14, "<init>", "()V"⟩
theorem dJ14_init_0 : decode cJ14_init 0 = .ok (.aload_n 0, 1) := by decide +kernel
theorem dJ14_init_1 : decode cJ14_init 1 = .ok (.invokespecial 1, 3) := by decide +kernel
theorem dJ14_init_4 : decode cJ14_init 4 = .ok (.return_, 1) := by decide +kernel
abbrev cJ14_init_2 : ByteArray := prog_27_method_5_code
def yJ14_init_2 : MethodName := ⟨RJ14, "<init>", "(Ljava/lang/String;Ljava/lang/Throwable;ZZ)V"⟩
def dkwJ14_init_2_0 : List UInt8 := [42, 43, 44, 29, 21, 4, 183, 0, 16, 177]
abbrev dktJ14_init_2_0 : List UInt8 := dkwJ14_init_2_0 ++ []
theorem dksJ14_init_2_0 : cJ14_init_2.data.toList.drop 0 = dktJ14_init_2_0 := by decide +kernel
theorem dJ14_init_2_0 : decode cJ14_init_2 0 = .ok (.aload_n 0, 1) := dk_42 (dk_at dksJ14_init_2_0 0 rfl rfl)
theorem dJ14_init_2_1 : decode cJ14_init_2 1 = .ok (.aload_n 1, 1) := dk_43 (dk_at dksJ14_init_2_0 1 rfl rfl)
theorem dJ14_init_2_2 : decode cJ14_init_2 2 = .ok (.aload_n 2, 1) := dk_44 (dk_at dksJ14_init_2_0 2 rfl rfl)
theorem dJ14_init_2_3 : decode cJ14_init_2 3 = .ok (.iload_n 3, 1) := dk_29 (dk_at dksJ14_init_2_0 3 rfl rfl)
theorem dJ14_init_2_4 : decode cJ14_init_2 4 = .ok (.iload 4, 2) := dk_21 4 (dk_at dksJ14_init_2_0 4 rfl rfl)
theorem dJ14_init_2_6 : decode cJ14_init_2 6 = .ok (.invokespecial 16, 3) := dk_183 0 16 (dk_at dksJ14_init_2_0 6 rfl rfl)
theorem dJ14_init_2_9 : decode cJ14_init_2 9 = .ok (.return_, 1) := dk_177 (dk_at dksJ14_init_2_0 9 rfl rfl)
abbrev cJ14_init_3 : ByteArray := prog_27_method_2_code
def yJ14_init_3 : MethodName := ⟨RJ14, "<init>", "(Ljava/lang/String;)V"⟩
def dkwJ14_init_3_0 : List UInt8 := [42, 43, 183, 0, 7, 177]
abbrev dktJ14_init_3_0 : List UInt8 := dkwJ14_init_3_0 ++ []
theorem dksJ14_init_3_0 : cJ14_init_3.data.toList.drop 0 = dktJ14_init_3_0 := by decide +kernel
theorem dJ14_init_3_0 : decode cJ14_init_3 0 = .ok (.aload_n 0, 1) := dk_42 (dk_at dksJ14_init_3_0 0 rfl rfl)
theorem dJ14_init_3_1 : decode cJ14_init_3 1 = .ok (.aload_n 1, 1) := dk_43 (dk_at dksJ14_init_3_0 1 rfl rfl)
theorem dJ14_init_3_2 : decode cJ14_init_3 2 = .ok (.invokespecial 7, 3) := dk_183 0 7 (dk_at dksJ14_init_3_0 2 rfl rfl)
theorem dJ14_init_3_5 : decode cJ14_init_3 5 = .ok (.return_, 1) := dk_177 (dk_at dksJ14_init_3_0 5 rfl rfl)
abbrev cJ14_init_4 : ByteArray := prog_27_method_4_code
def yJ14_init_4 : MethodName := ⟨RJ14, "<init>", "(Ljava/lang/Throwable;)V"⟩
def dkwJ14_init_4_0 : List UInt8 := [42, 43, 183, 0, 13, 177]
abbrev dktJ14_init_4_0 : List UInt8 := dkwJ14_init_4_0 ++ []
theorem dksJ14_init_4_0 : cJ14_init_4.data.toList.drop 0 = dktJ14_init_4_0 := by decide +kernel
theorem dJ14_init_4_0 : decode cJ14_init_4 0 = .ok (.aload_n 0, 1) := dk_42 (dk_at dksJ14_init_4_0 0 rfl rfl)
theorem dJ14_init_4_1 : decode cJ14_init_4 1 = .ok (.aload_n 1, 1) := dk_43 (dk_at dksJ14_init_4_0 1 rfl rfl)
theorem dJ14_init_4_2 : decode cJ14_init_4 2 = .ok (.invokespecial 13, 3) := dk_183 0 13 (dk_at dksJ14_init_4_0 2 rfl rfl)
theorem dJ14_init_4_5 : decode cJ14_init_4 5 = .ok (.return_, 1) := dk_177 (dk_at dksJ14_init_4_0 5 rfl rfl)
theorem q68 : (Jvm.Cond.initialized "java/lang/Exception") ∈ lw_all := lw_g (lw_at lw_m1 20 rfl) rfl
theorem q498 : (Jvm.Cond.declares ({ cls := "java/lang/Exception", name := "<init>", desc := "()V" } : Jvm.MethodName)) ∈ lw_tbl := lw_at lw_m2 210 rfl
theorem q499 : (Jvm.Cond.declares ({ cls := "java/lang/Exception", name := "<init>", desc := "(Ljava/lang/String;)V" } : Jvm.MethodName)) ∈ lw_tbl := lw_at lw_m2 211 rfl
theorem q540 : (Jvm.Cond.superclass "java/lang/Exception" "java/lang/Throwable") ∈ lw_all := lw_g (lw_at lw_m3 12 rfl) rfl
theorem q556 : (Jvm.Cond.instanceMethod ({ cls := "java/lang/Exception", name := "<init>", desc := "()V" } : Jvm.MethodName)) ∈ lw_all := lw_g (lw_at lw_m3 28 rfl) rfl
theorem q557 : (Jvm.Cond.code ({ cls := "java/lang/Exception", name := "<init>", desc := "()V" } : Jvm.MethodName) prog_27_method_1_code (1 : Nat) (Option.none : Option Jvm.ClassFile.FieldType)) ∈ lw_all := lw_g (lw_at lw_m3 29 rfl) rfl
theorem q558 : (Jvm.Cond.methodLink "java/lang/Exception" (1 : Nat) ({ cls := "java/lang/Throwable", name := "<init>", desc := "()V" } : Jvm.MethodName)) ∈ lw_all := lw_g (lw_at lw_m3 30 rfl) rfl
theorem q665 : (Jvm.Cond.instanceMethod ({ cls := "java/lang/Exception", name := "<init>", desc := "(Ljava/lang/String;Ljava/lang/Throwable;ZZ)V" } : Jvm.MethodName)) ∈ lw_all := lw_g (lw_at lw_m3 137 rfl) rfl
theorem q666 : (Jvm.Cond.code ({ cls := "java/lang/Exception", name := "<init>", desc := "(Ljava/lang/String;Ljava/lang/Throwable;ZZ)V" } : Jvm.MethodName) prog_27_method_5_code (5 : Nat) (Option.none : Option Jvm.ClassFile.FieldType)) ∈ lw_all := lw_g (lw_at lw_m3 138 rfl) rfl
theorem q667 : (Jvm.Cond.methodLink "java/lang/Exception" (16 : Nat) ({ cls := "java/lang/Throwable", name := "<init>", desc := "(Ljava/lang/String;Ljava/lang/Throwable;ZZ)V" } : Jvm.MethodName)) ∈ lw_all := lw_g (lw_at lw_m3 139 rfl) rfl
theorem q896 : (Jvm.Cond.instanceMethod ({ cls := "java/lang/Exception", name := "<init>", desc := "(Ljava/lang/String;)V" } : Jvm.MethodName)) ∈ lw_all := lw_g (lw_at lw_m4 128 rfl) rfl
theorem q897 : (Jvm.Cond.code ({ cls := "java/lang/Exception", name := "<init>", desc := "(Ljava/lang/String;)V" } : Jvm.MethodName) prog_27_method_2_code (2 : Nat) (Option.none : Option Jvm.ClassFile.FieldType)) ∈ lw_all := lw_g (lw_at lw_m4 129 rfl) rfl
theorem q898 : (Jvm.Cond.methodLink "java/lang/Exception" (7 : Nat) ({ cls := "java/lang/Throwable", name := "<init>", desc := "(Ljava/lang/String;)V" } : Jvm.MethodName)) ∈ lw_all := lw_g (lw_at lw_m4 130 rfl) rfl
theorem q1404 : (Jvm.Cond.instanceMethod ({ cls := "java/lang/Exception", name := "<init>", desc := "(Ljava/lang/Throwable;)V" } : Jvm.MethodName)) ∈ lw_all := lw_g (lw_at lw_m6 156 rfl) rfl
theorem q1405 : (Jvm.Cond.code ({ cls := "java/lang/Exception", name := "<init>", desc := "(Ljava/lang/Throwable;)V" } : Jvm.MethodName) prog_27_method_4_code (2 : Nat) (Option.none : Option Jvm.ClassFile.FieldType)) ∈ lw_all := lw_g (lw_at lw_m6 157 rfl) rfl
theorem q1406 : (Jvm.Cond.methodLink "java/lang/Exception" (13 : Nat) ({ cls := "java/lang/Throwable", name := "<init>", desc := "(Ljava/lang/Throwable;)V" } : Jvm.MethodName)) ∈ lw_all := lw_g (lw_at lw_m6 158 rfl) rfl
/-! java/lang/RuntimeException -/
set_option maxRecDepth 100000
def RJ15 : String := "java/lang/RuntimeException"
abbrev cJ15_init : ByteArray := prog_35_method_1_code
def yJ15_init : MethodName := ⟨RJ15, "<init>", "()V"⟩
theorem dJ15_init_0 : decode cJ15_init 0 = .ok (.aload_n 0, 1) := by decide +kernel
theorem dJ15_init_1 : decode cJ15_init 1 = .ok (.invokespecial 1, 3) := by decide +kernel
theorem dJ15_init_4 : decode cJ15_init 4 = .ok (.return_, 1) := by decide +kernel
abbrev cJ15_init_2 : ByteArray := prog_35_method_2_code
def yJ15_init_2 : MethodName := ⟨RJ15, "<init>", "(Ljava/lang/String;)V"⟩
def dkwJ15_init_2_0 : List UInt8 := [42, 43, 183, 0, 7, 177]
abbrev dktJ15_init_2_0 : List UInt8 := dkwJ15_init_2_0 ++ []
theorem dksJ15_init_2_0 : cJ15_init_2.data.toList.drop 0 = dktJ15_init_2_0 := by decide +kernel
theorem dJ15_init_2_0 : decode cJ15_init_2 0 = .ok (.aload_n 0, 1) := dk_42 (dk_at dksJ15_init_2_0 0 rfl rfl)
theorem dJ15_init_2_1 : decode cJ15_init_2 1 = .ok (.aload_n 1, 1) := dk_43 (dk_at dksJ15_init_2_0 1 rfl rfl)
theorem dJ15_init_2_2 : decode cJ15_init_2 2 = .ok (.invokespecial 7, 3) := dk_183 0 7 (dk_at dksJ15_init_2_0 2 rfl rfl)
theorem dJ15_init_2_5 : decode cJ15_init_2 5 = .ok (.return_, 1) := dk_177 (dk_at dksJ15_init_2_0 5 rfl rfl)
abbrev cJ15_init_3 : ByteArray := prog_35_method_4_code
def yJ15_init_3 : MethodName := ⟨RJ15, "<init>", "(Ljava/lang/Throwable;)V"⟩
def dkwJ15_init_3_0 : List UInt8 := [42, 43, 183, 0, 13, 177]
abbrev dktJ15_init_3_0 : List UInt8 := dkwJ15_init_3_0 ++ []
theorem dksJ15_init_3_0 : cJ15_init_3.data.toList.drop 0 = dktJ15_init_3_0 := by decide +kernel
theorem dJ15_init_3_0 : decode cJ15_init_3 0 = .ok (.aload_n 0, 1) := dk_42 (dk_at dksJ15_init_3_0 0 rfl rfl)
theorem dJ15_init_3_1 : decode cJ15_init_3 1 = .ok (.aload_n 1, 1) := dk_43 (dk_at dksJ15_init_3_0 1 rfl rfl)
theorem dJ15_init_3_2 : decode cJ15_init_3 2 = .ok (.invokespecial 13, 3) := dk_183 0 13 (dk_at dksJ15_init_3_0 2 rfl rfl)
theorem dJ15_init_3_5 : decode cJ15_init_3 5 = .ok (.return_, 1) := dk_177 (dk_at dksJ15_init_3_0 5 rfl rfl)
theorem q69 : (Jvm.Cond.initialized "java/lang/RuntimeException") ∈ lw_all := lw_g (lw_at lw_m1 21 rfl) rfl
theorem q496 : (Jvm.Cond.declares ({ cls := "java/lang/RuntimeException", name := "<init>", desc := "()V" } : Jvm.MethodName)) ∈ lw_tbl := lw_at lw_m2 208 rfl
theorem q497 : (Jvm.Cond.declares ({ cls := "java/lang/RuntimeException", name := "<init>", desc := "(Ljava/lang/String;)V" } : Jvm.MethodName)) ∈ lw_tbl := lw_at lw_m2 209 rfl
theorem q536 : (Jvm.Cond.sameMethod "java/lang/RuntimeException" "java/lang/Throwable" "fillInStackTrace" "()Ljava/lang/Throwable;") ∈ lw_all := lw_g (lw_at lw_m3 8 rfl) rfl
theorem q539 : (Jvm.Cond.superclass "java/lang/RuntimeException" "java/lang/Exception") ∈ lw_all := lw_g (lw_at lw_m3 11 rfl) rfl
theorem q553 : (Jvm.Cond.instanceMethod ({ cls := "java/lang/RuntimeException", name := "<init>", desc := "()V" } : Jvm.MethodName)) ∈ lw_all := lw_g (lw_at lw_m3 25 rfl) rfl
theorem q554 : (Jvm.Cond.code ({ cls := "java/lang/RuntimeException", name := "<init>", desc := "()V" } : Jvm.MethodName) prog_35_method_1_code (1 : Nat) (Option.none : Option Jvm.ClassFile.FieldType)) ∈ lw_all := lw_g (lw_at lw_m3 26 rfl) rfl
theorem q555 : (Jvm.Cond.methodLink "java/lang/RuntimeException" (1 : Nat) ({ cls := "java/lang/Exception", name := "<init>", desc := "()V" } : Jvm.MethodName)) ∈ lw_all := lw_g (lw_at lw_m3 27 rfl) rfl
theorem q893 : (Jvm.Cond.instanceMethod ({ cls := "java/lang/RuntimeException", name := "<init>", desc := "(Ljava/lang/String;)V" } : Jvm.MethodName)) ∈ lw_all := lw_g (lw_at lw_m4 125 rfl) rfl
theorem q894 : (Jvm.Cond.code ({ cls := "java/lang/RuntimeException", name := "<init>", desc := "(Ljava/lang/String;)V" } : Jvm.MethodName) prog_35_method_2_code (2 : Nat) (Option.none : Option Jvm.ClassFile.FieldType)) ∈ lw_all := lw_g (lw_at lw_m4 126 rfl) rfl
theorem q895 : (Jvm.Cond.methodLink "java/lang/RuntimeException" (7 : Nat) ({ cls := "java/lang/Exception", name := "<init>", desc := "(Ljava/lang/String;)V" } : Jvm.MethodName)) ∈ lw_all := lw_g (lw_at lw_m4 127 rfl) rfl
theorem q1026 : (Jvm.Cond.castable "java/lang/RuntimeException" "java/lang/Throwable") ∈ lw_tbl := lw_at lw_m5 18 rfl
theorem q1401 : (Jvm.Cond.instanceMethod ({ cls := "java/lang/RuntimeException", name := "<init>", desc := "(Ljava/lang/Throwable;)V" } : Jvm.MethodName)) ∈ lw_all := lw_g (lw_at lw_m6 153 rfl) rfl
theorem q1402 : (Jvm.Cond.code ({ cls := "java/lang/RuntimeException", name := "<init>", desc := "(Ljava/lang/Throwable;)V" } : Jvm.MethodName) prog_35_method_4_code (2 : Nat) (Option.none : Option Jvm.ClassFile.FieldType)) ∈ lw_all := lw_g (lw_at lw_m6 154 rfl) rfl
theorem q1403 : (Jvm.Cond.methodLink "java/lang/RuntimeException" (13 : Nat) ({ cls := "java/lang/Exception", name := "<init>", desc := "(Ljava/lang/Throwable;)V" } : Jvm.MethodName)) ∈ lw_all := lw_g (lw_at lw_m6 155 rfl) rfl
theorem q1467 : (Jvm.Cond.sameMethod "java/lang/RuntimeException" "java/lang/Throwable" "getMessage" "()Ljava/lang/String;") ∈ lw_all := lw_g (lw_at lw_m6 219 rfl) rfl
/-! java/lang/NullPointerException -/
set_option maxRecDepth 100000
def RJ16 : String := "java/lang/NullPointerException"
def TJ16 : u_T := fun k => match k with
  | 0 => ("java/lang/Throwable", "cause", "Ljava/lang/Throwable;", false)
  | 1 => ("java/lang/Throwable", "stackTrace", "[Ljava/lang/StackTraceElement;", false)
  | 2 => ("java/lang/Throwable", "suppressedExceptions", "Ljava/util/List;", false)
  | 3 => ("java/lang/Throwable", "detailMessage", "Ljava/lang/String;", false)
  | 4 => ("java/lang/Throwable", "backtrace", "Ljava/lang/Object;", false)
  | 5 => ("java/lang/Throwable", "depth", "I", false)
  | 6 => ("java/lang/NullPointerException", "extendedMessageState", "I", false)
  | _ => ("java/lang/NullPointerException", "extendedMessage", "Ljava/lang/String;", false)
def tyJ16 : Nat → FieldType := fun k => match k with
  | 0 => .object "java/lang/Throwable"
  | 1 => .array (.object "java/lang/StackTraceElement")
  | 2 => .object "java/util/List"
  | 3 => .object "java/lang/String"
  | 4 => .object "java/lang/Object"
  | 5 => .int
  | 6 => .int
  | _ => .object "java/lang/String"
abbrev wsJ160 : List Cond := u_ws RJ16 TJ16 8
theorem nmJ16 : ∀ a, a < 8 → ∀ b, b < 8 → a ≠ b → (TJ16 a).2.1 ≠ (TJ16 b).2.1 := by decide +kernel
theorem tyJ16_ok : ∀ k, k < 8 → parseFieldDescriptor (TJ16 k).2.2.1 = some (tyJ16 k) := by decide +kernel
abbrev cJ16_init : ByteArray := prog_33_method_1_code
def yJ16_init : MethodName := ⟨RJ16, "<init>", "()V"⟩
theorem dJ16_init_0 : decode cJ16_init 0 = .ok (.aload_n 0, 1) := by decide +kernel
theorem dJ16_init_1 : decode cJ16_init 1 = .ok (.invokespecial 1, 3) := by decide +kernel
theorem dJ16_init_4 : decode cJ16_init 4 = .ok (.return_, 1) := by decide +kernel
abbrev cJ16_getMessage : ByteArray := prog_33_method_4_code
def yJ16_getMessage : MethodName := ⟨RJ16, "getMessage", "()Ljava/lang/String;"⟩
def dkwJ16_getMessage_2 : List UInt8 := [176]
abbrev dktJ16_getMessage_2 : List UInt8 := dkwJ16_getMessage_2 ++ []
def dkwJ16_getMessage_1 : List UInt8 := [182, 0, 16, 181, 0, 20, 42, 5, 181, 0, 10, 42, 180, 0, 20, 44, 195, 176, 78, 44, 195, 45, 191, 43]
abbrev dktJ16_getMessage_1 : List UInt8 := dkwJ16_getMessage_1 ++ dktJ16_getMessage_2
def dkwJ16_getMessage_0 : List UInt8 := [42, 183, 0, 28, 76, 43, 199, 0, 40, 42, 89, 77, 194, 42, 180, 0, 10, 4, 160, 0, 16, 42, 42]
abbrev dktJ16_getMessage_0 : List UInt8 := dkwJ16_getMessage_0 ++ dktJ16_getMessage_1
theorem dksJ16_getMessage_0 : cJ16_getMessage.data.toList.drop 0 = dktJ16_getMessage_0 := by decide +kernel
theorem dksJ16_getMessage_1 : cJ16_getMessage.data.toList.drop 23 = dktJ16_getMessage_1 := dk_seg dksJ16_getMessage_0 23 rfl rfl
theorem dksJ16_getMessage_2 : cJ16_getMessage.data.toList.drop 47 = dktJ16_getMessage_2 := dk_seg dksJ16_getMessage_1 24 rfl rfl
theorem dJ16_getMessage_0 : decode cJ16_getMessage 0 = .ok (.aload_n 0, 1) := dk_42 (dk_at dksJ16_getMessage_0 0 rfl rfl)
theorem dJ16_getMessage_1 : decode cJ16_getMessage 1 = .ok (.invokespecial 28, 3) := dk_183 0 28 (dk_at dksJ16_getMessage_0 1 rfl rfl)
theorem dJ16_getMessage_4 : decode cJ16_getMessage 4 = .ok (.astore_n 1, 1) := dk_76 (dk_at dksJ16_getMessage_0 4 rfl rfl)
theorem dJ16_getMessage_5 : decode cJ16_getMessage 5 = .ok (.aload_n 1, 1) := dk_43 (dk_at dksJ16_getMessage_0 5 rfl rfl)
theorem dJ16_getMessage_6 : decode cJ16_getMessage 6 = .ok (.ifnonnull 40, 3) := dk_199 0 40 (dk_at dksJ16_getMessage_0 6 rfl rfl)
theorem dJ16_getMessage_9 : decode cJ16_getMessage 9 = .ok (.aload_n 0, 1) := dk_42 (dk_at dksJ16_getMessage_0 9 rfl rfl)
theorem dJ16_getMessage_10 : decode cJ16_getMessage 10 = .ok (.dup, 1) := dk_89 (dk_at dksJ16_getMessage_0 10 rfl rfl)
theorem dJ16_getMessage_11 : decode cJ16_getMessage 11 = .ok (.astore_n 2, 1) := dk_77 (dk_at dksJ16_getMessage_0 11 rfl rfl)
theorem dJ16_getMessage_12 : decode cJ16_getMessage 12 = .ok (.monitorenter, 1) := dk_194 (dk_at dksJ16_getMessage_0 12 rfl rfl)
theorem dJ16_getMessage_13 : decode cJ16_getMessage 13 = .ok (.aload_n 0, 1) := dk_42 (dk_at dksJ16_getMessage_0 13 rfl rfl)
theorem dJ16_getMessage_14 : decode cJ16_getMessage 14 = .ok (.getfield 10, 3) := dk_180 0 10 (dk_at dksJ16_getMessage_0 14 rfl rfl)
theorem dJ16_getMessage_17 : decode cJ16_getMessage 17 = .ok (.iconst 1, 1) := dk_4 (dk_at dksJ16_getMessage_0 17 rfl rfl)
theorem dJ16_getMessage_18 : decode cJ16_getMessage 18 = .ok (.if_icmp .ne 16, 3) := dk_160 0 16 (dk_at dksJ16_getMessage_0 18 rfl rfl)
theorem dJ16_getMessage_21 : decode cJ16_getMessage 21 = .ok (.aload_n 0, 1) := dk_42 (dk_at dksJ16_getMessage_0 21 rfl rfl)
theorem dJ16_getMessage_22 : decode cJ16_getMessage 22 = .ok (.aload_n 0, 1) := dk_42 (dk_at dksJ16_getMessage_0 22 rfl rfl)
theorem dJ16_getMessage_23 : decode cJ16_getMessage 23 = .ok (.invokevirtual 16, 3) := dk_182 0 16 (dk_at dksJ16_getMessage_1 0 rfl rfl)
theorem dJ16_getMessage_26 : decode cJ16_getMessage 26 = .ok (.putfield 20, 3) := dk_181 0 20 (dk_at dksJ16_getMessage_1 3 rfl rfl)
theorem dJ16_getMessage_29 : decode cJ16_getMessage 29 = .ok (.aload_n 0, 1) := dk_42 (dk_at dksJ16_getMessage_1 6 rfl rfl)
theorem dJ16_getMessage_30 : decode cJ16_getMessage 30 = .ok (.iconst 2, 1) := dk_5 (dk_at dksJ16_getMessage_1 7 rfl rfl)
theorem dJ16_getMessage_31 : decode cJ16_getMessage 31 = .ok (.putfield 10, 3) := dk_181 0 10 (dk_at dksJ16_getMessage_1 8 rfl rfl)
theorem dJ16_getMessage_34 : decode cJ16_getMessage 34 = .ok (.aload_n 0, 1) := dk_42 (dk_at dksJ16_getMessage_1 11 rfl rfl)
theorem dJ16_getMessage_35 : decode cJ16_getMessage 35 = .ok (.getfield 20, 3) := dk_180 0 20 (dk_at dksJ16_getMessage_1 12 rfl rfl)
theorem dJ16_getMessage_38 : decode cJ16_getMessage 38 = .ok (.aload_n 2, 1) := dk_44 (dk_at dksJ16_getMessage_1 15 rfl rfl)
theorem dJ16_getMessage_39 : decode cJ16_getMessage 39 = .ok (.monitorexit, 1) := dk_195 (dk_at dksJ16_getMessage_1 16 rfl rfl)
theorem dJ16_getMessage_40 : decode cJ16_getMessage 40 = .ok (.areturn, 1) := dk_176 (dk_at dksJ16_getMessage_1 17 rfl rfl)
theorem dJ16_getMessage_41 : decode cJ16_getMessage 41 = .ok (.astore_n 3, 1) := dk_78 (dk_at dksJ16_getMessage_1 18 rfl rfl)
theorem dJ16_getMessage_42 : decode cJ16_getMessage 42 = .ok (.aload_n 2, 1) := dk_44 (dk_at dksJ16_getMessage_1 19 rfl rfl)
theorem dJ16_getMessage_43 : decode cJ16_getMessage 43 = .ok (.monitorexit, 1) := dk_195 (dk_at dksJ16_getMessage_1 20 rfl rfl)
theorem dJ16_getMessage_44 : decode cJ16_getMessage 44 = .ok (.aload_n 3, 1) := dk_45 (dk_at dksJ16_getMessage_1 21 rfl rfl)
theorem dJ16_getMessage_45 : decode cJ16_getMessage 45 = .ok (.athrow, 1) := dk_191 (dk_at dksJ16_getMessage_1 22 rfl rfl)
theorem dJ16_getMessage_46 : decode cJ16_getMessage 46 = .ok (.aload_n 1, 1) := dk_43 (dk_at dksJ16_getMessage_1 23 rfl rfl)
theorem dJ16_getMessage_47 : decode cJ16_getMessage 47 = .ok (.areturn, 1) := dk_176 (dk_at dksJ16_getMessage_2 0 rfl rfl)
theorem q70 : (Jvm.Cond.initialized "java/lang/NullPointerException") ∈ lw_all := lw_g (lw_at lw_m1 22 rfl) rfl
theorem q494 : (Jvm.Cond.instantiable "java/lang/NullPointerException" (8 : Nat)) ∈ lw_all := lw_g (lw_at lw_m2 206 rfl) rfl
theorem q495 : (Jvm.Cond.castable "java/lang/NullPointerException" "java/lang/NullPointerException") ∈ lw_tbl := lw_at lw_m2 207 rfl
theorem q502 : (Jvm.Cond.selects "java/lang/NullPointerException" ({ cls := "java/lang/Throwable", name := "fillInStackTrace", desc := "(I)Ljava/lang/Throwable;" } : Jvm.MethodName) ({ cls := "java/lang/Throwable", name := "fillInStackTrace", desc := "(I)Ljava/lang/Throwable;" } : Jvm.MethodName)) ∈ lw_all := lw_g (lw_at lw_m2 214 rfl) rfl
theorem q503 : (Jvm.Cond.lays "java/lang/NullPointerException" "java/lang/Throwable" "cause" "Ljava/lang/Throwable;") ∈ lw_all := lw_g (lw_at lw_m2 215 rfl) rfl
theorem q505 : (Jvm.Cond.lays "java/lang/NullPointerException" "java/lang/Throwable" "stackTrace" "[Ljava/lang/StackTraceElement;") ∈ lw_all := lw_g (lw_at lw_m2 217 rfl) rfl
theorem q507 : (Jvm.Cond.lays "java/lang/NullPointerException" "java/lang/Throwable" "suppressedExceptions" "Ljava/util/List;") ∈ lw_all := lw_g (lw_at lw_m2 219 rfl) rfl
theorem q509 : (Jvm.Cond.lays "java/lang/NullPointerException" "java/lang/Throwable" "detailMessage" "Ljava/lang/String;") ∈ lw_all := lw_g (lw_at lw_m2 221 rfl) rfl
theorem q511 : (Jvm.Cond.lays "java/lang/NullPointerException" "java/lang/Throwable" "backtrace" "Ljava/lang/Object;") ∈ lw_all := lw_g (lw_at lw_m2 223 rfl) rfl
theorem q528 : (Jvm.Cond.selects "java/lang/NullPointerException" ({ cls := "java/lang/Throwable", name := "fillInStackTrace", desc := "()Ljava/lang/Throwable;" } : Jvm.MethodName) ({ cls := "java/lang/NullPointerException", name := "fillInStackTrace", desc := "()Ljava/lang/Throwable;" } : Jvm.MethodName)) ∈ lw_all := lw_g (lw_at lw_m3 0 rfl) rfl
theorem q529 : (Jvm.Cond.instanceMethod ({ cls := "java/lang/NullPointerException", name := "fillInStackTrace", desc := "()Ljava/lang/Throwable;" } : Jvm.MethodName)) ∈ lw_all := lw_g (lw_at lw_m3 1 rfl) rfl
theorem q530 : (Jvm.Cond.codeSync ({ cls := "java/lang/NullPointerException", name := "fillInStackTrace", desc := "()Ljava/lang/Throwable;" } : Jvm.MethodName) prog_33_method_3_code (1 : Nat) (Option.some (Jvm.ClassFile.FieldType.object "java/lang/Throwable"))) ∈ lw_all := lw_g (lw_at lw_m3 2 rfl) rfl
theorem q531 : (Jvm.Cond.methodLink "java/lang/NullPointerException" (16 : Nat) ({ cls := "java/lang/NullPointerException", name := "getExtendedNPEMessage", desc := "()Ljava/lang/String;" } : Jvm.MethodName)) ∈ lw_all := lw_g (lw_at lw_m3 3 rfl) rfl
theorem q532 : (Jvm.Cond.privateMethod ({ cls := "java/lang/NullPointerException", name := "getExtendedNPEMessage", desc := "()Ljava/lang/String;" } : Jvm.MethodName)) ∈ lw_tbl := lw_at lw_m3 4 rfl
theorem q533 : (Jvm.Cond.instanceMethod ({ cls := "java/lang/NullPointerException", name := "getExtendedNPEMessage", desc := "()Ljava/lang/String;" } : Jvm.MethodName)) ∈ lw_all := lw_g (lw_at lw_m3 5 rfl) rfl
theorem q534 : (Jvm.Cond.native ({ cls := "java/lang/NullPointerException", name := "getExtendedNPEMessage", desc := "()Ljava/lang/String;" } : Jvm.MethodName)) ∈ lw_all := lw_g (lw_at lw_m3 6 rfl) rfl
theorem q535 : (Jvm.Cond.methodLink "java/lang/NullPointerException" (24 : Nat) ({ cls := "java/lang/RuntimeException", name := "fillInStackTrace", desc := "()Ljava/lang/Throwable;" } : Jvm.MethodName)) ∈ lw_all := lw_g (lw_at lw_m3 7 rfl) rfl
theorem q538 : (Jvm.Cond.superclass "java/lang/NullPointerException" "java/lang/RuntimeException") ∈ lw_all := lw_g (lw_at lw_m3 10 rfl) rfl
theorem q550 : (Jvm.Cond.instanceMethod ({ cls := "java/lang/NullPointerException", name := "<init>", desc := "()V" } : Jvm.MethodName)) ∈ lw_all := lw_g (lw_at lw_m3 22 rfl) rfl
theorem q551 : (Jvm.Cond.code ({ cls := "java/lang/NullPointerException", name := "<init>", desc := "()V" } : Jvm.MethodName) prog_33_method_1_code (1 : Nat) (Option.none : Option Jvm.ClassFile.FieldType)) ∈ lw_all := lw_g (lw_at lw_m3 23 rfl) rfl
theorem q552 : (Jvm.Cond.methodLink "java/lang/NullPointerException" (1 : Nat) ({ cls := "java/lang/RuntimeException", name := "<init>", desc := "()V" } : Jvm.MethodName)) ∈ lw_all := lw_g (lw_at lw_m3 24 rfl) rfl
theorem q559 : (Jvm.Cond.fieldLink "java/lang/NullPointerException" (10 : Nat) "java/lang/NullPointerException" "extendedMessageState" "I") ∈ lw_all := lw_g (lw_at lw_m3 31 rfl) rfl
theorem q560 : (Jvm.Cond.fieldLink "java/lang/NullPointerException" (20 : Nat) "java/lang/NullPointerException" "extendedMessage" "Ljava/lang/String;") ∈ lw_all := lw_g (lw_at lw_m3 32 rfl) rfl
theorem q566 : (Jvm.Cond.lays "java/lang/NullPointerException" "java/lang/NullPointerException" "extendedMessageState" "I") ∈ lw_all := lw_g (lw_at lw_m3 38 rfl) rfl
theorem q567 : (Jvm.Cond.soleField "java/lang/NullPointerException" "extendedMessageState") ∈ lw_all := lw_g (lw_at lw_m3 39 rfl) rfl
theorem q568 : (Jvm.Cond.lays "java/lang/NullPointerException" "java/lang/NullPointerException" "extendedMessage" "Ljava/lang/String;") ∈ lw_all := lw_g (lw_at lw_m3 40 rfl) rfl
theorem q569 : (Jvm.Cond.soleField "java/lang/NullPointerException" "extendedMessage") ∈ lw_all := lw_g (lw_at lw_m3 41 rfl) rfl
theorem q574 : (Jvm.Cond.lays "java/lang/NullPointerException" "java/lang/Throwable" "depth" "I") ∈ lw_all := lw_g (lw_at lw_m3 46 rfl) rfl
theorem q631 : (Jvm.Cond.selects "java/lang/NullPointerException" ({ cls := "java/lang/Object", name := "equals", desc := "(Ljava/lang/Object;)Z" } : Jvm.MethodName) ({ cls := "java/lang/Object", name := "equals", desc := "(Ljava/lang/Object;)Z" } : Jvm.MethodName)) ∈ lw_all := lw_g (lw_at lw_m3 103 rfl) rfl
theorem q1415 : (Jvm.Cond.selects "java/lang/NullPointerException" ({ cls := "java/lang/Throwable", name := "toString", desc := "()Ljava/lang/String;" } : Jvm.MethodName) ({ cls := "java/lang/Throwable", name := "toString", desc := "()Ljava/lang/String;" } : Jvm.MethodName)) ∈ lw_all := lw_g (lw_at lw_m6 167 rfl) rfl
theorem q1437 : (Jvm.Cond.selects "java/lang/NullPointerException" ({ cls := "java/lang/Object", name := "getClass", desc := "()Ljava/lang/Class;" } : Jvm.MethodName) ({ cls := "java/lang/Object", name := "getClass", desc := "()Ljava/lang/Class;" } : Jvm.MethodName)) ∈ lw_all := lw_g (lw_at lw_m6 189 rfl) rfl
theorem q1453 : (Jvm.Cond.selects "java/lang/NullPointerException" ({ cls := "java/lang/Throwable", name := "getLocalizedMessage", desc := "()Ljava/lang/String;" } : Jvm.MethodName) ({ cls := "java/lang/Throwable", name := "getLocalizedMessage", desc := "()Ljava/lang/String;" } : Jvm.MethodName)) ∈ lw_all := lw_g (lw_at lw_m6 205 rfl) rfl
theorem q1463 : (Jvm.Cond.selects "java/lang/NullPointerException" ({ cls := "java/lang/Throwable", name := "getMessage", desc := "()Ljava/lang/String;" } : Jvm.MethodName) ({ cls := "java/lang/NullPointerException", name := "getMessage", desc := "()Ljava/lang/String;" } : Jvm.MethodName)) ∈ lw_all := lw_g (lw_at lw_m6 215 rfl) rfl
theorem q1464 : (Jvm.Cond.instanceMethod ({ cls := "java/lang/NullPointerException", name := "getMessage", desc := "()Ljava/lang/String;" } : Jvm.MethodName)) ∈ lw_all := lw_g (lw_at lw_m6 216 rfl) rfl
theorem q1465 : (Jvm.Cond.codeWith ({ cls := "java/lang/NullPointerException", name := "getMessage", desc := "()Ljava/lang/String;" } : Jvm.MethodName) prog_33_method_4_code (4 : Nat) (Option.some (Jvm.ClassFile.FieldType.object "java/lang/String")) [((13 : Nat), (40 : Nat), (41 : Nat), (0 : Nat)), ((41 : Nat), (44 : Nat), (41 : Nat), (0 : Nat))]) ∈ lw_all := lw_g (lw_at lw_m6 217 rfl) rfl
theorem q1466 : (Jvm.Cond.methodLink "java/lang/NullPointerException" (28 : Nat) ({ cls := "java/lang/RuntimeException", name := "getMessage", desc := "()Ljava/lang/String;" } : Jvm.MethodName)) ∈ lw_all := lw_g (lw_at lw_m6 218 rfl) rfl
theorem q2212 : (Jvm.Cond.castable "java/lang/NullPointerException" "java/lang/Object") ∈ lw_tbl := lw_at lw_m10 4 rfl
theorem in_J16 : ∀ w ∈ wsJ160, w ∈ lw_all := lw_in wsJ160 [503, 505, 507, 509, 511, 574, 566, 568] (by decide +kernel) (by decide +kernel)
/-! java/lang/Number -/
set_option maxRecDepth 100000
def RJ17 : String := "java/lang/Number"
abbrev cJ17_init : ByteArray := prog_34_method_1_code
def yJ17_init : MethodName := ⟨RJ17, "<init>", "()V"⟩
theorem dJ17_init_0 : decode cJ17_init 0 = .ok (.aload_n 0, 1) := by decide +kernel
theorem dJ17_init_1 : decode cJ17_init 1 = .ok (.invokespecial 1, 3) := by decide +kernel
theorem dJ17_init_4 : decode cJ17_init 4 = .ok (.return_, 1) := by decide +kernel
theorem q72 : (Jvm.Cond.initialized "java/lang/Number") ∈ lw_all := lw_g (lw_at lw_m1 24 rfl) rfl
theorem q1579 : (Jvm.Cond.instanceMethod ({ cls := "java/lang/Number", name := "<init>", desc := "()V" } : Jvm.MethodName)) ∈ lw_all := lw_g (lw_at lw_m7 91 rfl) rfl
theorem q1580 : (Jvm.Cond.code ({ cls := "java/lang/Number", name := "<init>", desc := "()V" } : Jvm.MethodName) prog_34_method_1_code (1 : Nat) (Option.none : Option Jvm.ClassFile.FieldType)) ∈ lw_all := lw_g (lw_at lw_m7 92 rfl) rfl
theorem q1581 : (Jvm.Cond.methodLink "java/lang/Number" (1 : Nat) ({ cls := "java/lang/Object", name := "<init>", desc := "()V" } : Jvm.MethodName)) ∈ lw_all := lw_g (lw_at lw_m7 93 rfl) rfl
/-! java/lang/Integer -/
set_option maxRecDepth 100000
def RJ18 : String := "java/lang/Integer"
def TJ18 : u_T := fun k => match k with
  | _ => ("java/lang/Integer", "value", "I", true)
def tyJ18 : Nat → FieldType := fun k => match k with
  | _ => .int
abbrev wsJ180 : List Cond := u_ws RJ18 TJ18 1
theorem nmJ18 : ∀ a, a < 1 → ∀ b, b < 1 → a ≠ b → (TJ18 a).2.1 ≠ (TJ18 b).2.1 := by decide +kernel
theorem tyJ18_ok : ∀ k, k < 1 → parseFieldDescriptor (TJ18 k).2.2.1 = some (tyJ18 k) := by decide +kernel
abbrev cJ18_equals : ByteArray := prog_29_method_34_code
def yJ18_equals : MethodName := ⟨RJ18, "equals", "(Ljava/lang/Object;)Z"⟩
def dkwJ18_equals_1 : List UInt8 := [167, 0, 4, 3, 172, 3, 172]
abbrev dktJ18_equals_1 : List UInt8 := dkwJ18_equals_1 ++ []
def dkwJ18_equals_0 : List UInt8 := [43, 193, 0, 1, 153, 0, 23, 42, 180, 0, 205, 43, 192, 0, 1, 182, 0, 211, 160, 0, 7, 4]
abbrev dktJ18_equals_0 : List UInt8 := dkwJ18_equals_0 ++ dktJ18_equals_1
theorem dksJ18_equals_0 : cJ18_equals.data.toList.drop 0 = dktJ18_equals_0 := by decide +kernel
theorem dksJ18_equals_1 : cJ18_equals.data.toList.drop 22 = dktJ18_equals_1 := dk_seg dksJ18_equals_0 22 rfl rfl
theorem dJ18_equals_0 : decode cJ18_equals 0 = .ok (.aload_n 1, 1) := dk_43 (dk_at dksJ18_equals_0 0 rfl rfl)
theorem dJ18_equals_1 : decode cJ18_equals 1 = .ok (.instanceof 1, 3) := dk_193 0 1 (dk_at dksJ18_equals_0 1 rfl rfl)
theorem dJ18_equals_4 : decode cJ18_equals 4 = .ok (.ifCond .eq 23, 3) := dk_153 0 23 (dk_at dksJ18_equals_0 4 rfl rfl)
theorem dJ18_equals_7 : decode cJ18_equals 7 = .ok (.aload_n 0, 1) := dk_42 (dk_at dksJ18_equals_0 7 rfl rfl)
theorem dJ18_equals_8 : decode cJ18_equals 8 = .ok (.getfield 205, 3) := dk_180 0 205 (dk_at dksJ18_equals_0 8 rfl rfl)
theorem dJ18_equals_11 : decode cJ18_equals 11 = .ok (.aload_n 1, 1) := dk_43 (dk_at dksJ18_equals_0 11 rfl rfl)
theorem dJ18_equals_12 : decode cJ18_equals 12 = .ok (.checkcast 1, 3) := dk_192 0 1 (dk_at dksJ18_equals_0 12 rfl rfl)
theorem dJ18_equals_15 : decode cJ18_equals 15 = .ok (.invokevirtual 211, 3) := dk_182 0 211 (dk_at dksJ18_equals_0 15 rfl rfl)
theorem dJ18_equals_18 : decode cJ18_equals 18 = .ok (.if_icmp .ne 7, 3) := dk_160 0 7 (dk_at dksJ18_equals_0 18 rfl rfl)
theorem dJ18_equals_21 : decode cJ18_equals 21 = .ok (.iconst 1, 1) := dk_4 (dk_at dksJ18_equals_0 21 rfl rfl)
theorem dJ18_equals_22 : decode cJ18_equals 22 = .ok (.goto 4, 3) := dk_167 0 4 (dk_at dksJ18_equals_1 0 rfl rfl)
theorem dJ18_equals_25 : decode cJ18_equals 25 = .ok (.iconst 0, 1) := dk_3 (dk_at dksJ18_equals_1 3 rfl rfl)
theorem dJ18_equals_26 : decode cJ18_equals 26 = .ok (.ireturn, 1) := dk_172 (dk_at dksJ18_equals_1 4 rfl rfl)
theorem dJ18_equals_27 : decode cJ18_equals 27 = .ok (.iconst 0, 1) := dk_3 (dk_at dksJ18_equals_1 5 rfl rfl)
theorem dJ18_equals_28 : decode cJ18_equals 28 = .ok (.ireturn, 1) := dk_172 (dk_at dksJ18_equals_1 6 rfl rfl)
abbrev cJ18_intValue : ByteArray := prog_29_method_27_code
def yJ18_intValue : MethodName := ⟨RJ18, "intValue", "()I"⟩
theorem dJ18_intValue_0 : decode cJ18_intValue 0 = .ok (.aload_n 0, 1) := by decide +kernel
theorem dJ18_intValue_1 : decode cJ18_intValue 1 = .ok (.getfield 205, 3) := by decide +kernel
theorem dJ18_intValue_4 : decode cJ18_intValue 4 = .ok (.ireturn, 1) := by decide +kernel
abbrev cJ18_parseInt : ByteArray := prog_29_method_16_code
def yJ18_parseInt : MethodName := ⟨RJ18, "parseInt", "(Ljava/lang/String;)I"⟩
def dkwJ18_parseInt_0 : List UInt8 := [42, 16, 10, 184, 0, 156, 172]
abbrev dktJ18_parseInt_0 : List UInt8 := dkwJ18_parseInt_0 ++ []
theorem dksJ18_parseInt_0 : cJ18_parseInt.data.toList.drop 0 = dktJ18_parseInt_0 := by decide +kernel
theorem dJ18_parseInt_0 : decode cJ18_parseInt 0 = .ok (.aload_n 0, 1) := dk_42 (dk_at dksJ18_parseInt_0 0 rfl rfl)
theorem dJ18_parseInt_1 : decode cJ18_parseInt 1 = .ok (.bipush 10, 2) := dk_16 10 (dk_at dksJ18_parseInt_0 1 rfl rfl)
theorem dJ18_parseInt_3 : decode cJ18_parseInt 3 = .ok (.invokestatic 156, 3) := dk_184 0 156 (dk_at dksJ18_parseInt_0 3 rfl rfl)
theorem dJ18_parseInt_6 : decode cJ18_parseInt 6 = .ok (.ireturn, 1) := dk_172 (dk_at dksJ18_parseInt_0 6 rfl rfl)
abbrev cJ18_parseInt_2 : ByteArray := prog_29_method_14_code
def yJ18_parseInt_2 : MethodName := ⟨RJ18, "parseInt", "(Ljava/lang/String;I)I"⟩
def dkwJ18_parseInt_2_11 : List UInt8 := [21, 8, 116, 172, 42, 27, 184, 0, 128, 191]
abbrev dktJ18_parseInt_2_11 : List UInt8 := dkwJ18_parseInt_2_11 ++ []
def dkwJ18_parseInt_2_10 : List UInt8 := [184, 0, 128, 191, 21, 8, 21, 9, 100, 54, 8, 167, 255, 189, 28, 153, 0, 8, 21, 8, 167, 0, 6]
abbrev dktJ18_parseInt_2_10 : List UInt8 := dkwJ18_parseInt_2_10 ++ dktJ18_parseInt_2_11
def dkwJ18_parseInt_2_9 : List UInt8 := [184, 0, 128, 191, 21, 8, 27, 104, 54, 8, 21, 8, 21, 5, 21, 9, 96, 162, 0, 9, 42, 27]
abbrev dktJ18_parseInt_2_9 : List UInt8 := dkwJ18_parseInt_2_9 ++ dktJ18_parseInt_2_10
def dkwJ18_parseInt_2_8 : List UInt8 := [182, 0, 123, 27, 184, 0, 132, 54, 9, 21, 9, 155, 0, 10, 21, 8, 21, 7, 162, 0, 9, 42, 27]
abbrev dktJ18_parseInt_2_8 : List UInt8 := dkwJ18_parseInt_2_8 ++ dktJ18_parseInt_2_9
def dkwJ18_parseInt_2_7 : List UInt8 := [132, 3, 1, 21, 5, 27, 108, 54, 7, 3, 54, 8, 29, 21, 4, 162, 0, 67, 42, 29, 132, 3, 1]
abbrev dktJ18_parseInt_2_7 : List UInt8 := dkwJ18_parseInt_2_7 ++ dktJ18_parseInt_2_8
def dkwJ18_parseInt_2_6 : List UInt8 := [16, 43, 159, 0, 9, 42, 27, 184, 0, 128, 191, 21, 4, 4, 160, 0, 9, 42, 27, 184, 0, 128, 191]
abbrev dktJ18_parseInt_2_6 : List UInt8 := dkwJ18_parseInt_2_6 ++ dktJ18_parseInt_2_7
def dkwJ18_parseInt_2_5 : List UInt8 := [16, 48, 162, 0, 47, 21, 6, 16, 45, 160, 0, 12, 4, 61, 18, 127, 54, 5, 167, 0, 16, 21, 6]
abbrev dktJ18_parseInt_2_5 : List UInt8 := dkwJ18_parseInt_2_5 ++ dktJ18_parseInt_2_6
def dkwJ18_parseInt_2_4 : List UInt8 := [182, 0, 118, 54, 4, 18, 122, 54, 5, 21, 4, 158, 0, 153, 42, 3, 182, 0, 123, 54, 6, 21, 6]
abbrev dktJ18_parseInt_2_4 : List UInt8 := dkwJ18_parseInt_2_4 ++ dktJ18_parseInt_2_5
def dkwJ18_parseInt_2_3 : List UInt8 := [182, 0, 104, 27, 182, 0, 108, 18, 116, 182, 0, 104, 182, 0, 113, 183, 0, 94, 191, 3, 61, 3, 62, 42]
abbrev dktJ18_parseInt_2_3 : List UInt8 := dkwJ18_parseInt_2_3 ++ dktJ18_parseInt_2_4
def dkwJ18_parseInt_2_2 : List UInt8 := [183, 0, 94, 191, 27, 16, 36, 164, 0, 35, 187, 0, 90, 89, 187, 0, 97, 89, 183, 0, 99, 18, 102]
abbrev dktJ18_parseInt_2_2 : List UInt8 := dkwJ18_parseInt_2_2 ++ dktJ18_parseInt_2_3
def dkwJ18_parseInt_2_1 : List UInt8 := [187, 0, 97, 89, 183, 0, 99, 18, 102, 182, 0, 104, 27, 182, 0, 108, 18, 111, 182, 0, 104, 182, 0, 113]
abbrev dktJ18_parseInt_2_1 : List UInt8 := dkwJ18_parseInt_2_1 ++ dktJ18_parseInt_2_2
def dkwJ18_parseInt_2_0 : List UInt8 := [42, 199, 0, 13, 187, 0, 90, 89, 18, 92, 183, 0, 94, 191, 27, 5, 162, 0, 35, 187, 0, 90, 89]
abbrev dktJ18_parseInt_2_0 : List UInt8 := dkwJ18_parseInt_2_0 ++ dktJ18_parseInt_2_1
theorem dksJ18_parseInt_2_0 : cJ18_parseInt_2.data.toList.drop 0 = dktJ18_parseInt_2_0 := by decide +kernel
theorem dksJ18_parseInt_2_1 : cJ18_parseInt_2.data.toList.drop 23 = dktJ18_parseInt_2_1 := dk_seg dksJ18_parseInt_2_0 23 rfl rfl
theorem dksJ18_parseInt_2_2 : cJ18_parseInt_2.data.toList.drop 47 = dktJ18_parseInt_2_2 := dk_seg dksJ18_parseInt_2_1 24 rfl rfl
theorem dksJ18_parseInt_2_3 : cJ18_parseInt_2.data.toList.drop 70 = dktJ18_parseInt_2_3 := dk_seg dksJ18_parseInt_2_2 23 rfl rfl
theorem dksJ18_parseInt_2_4 : cJ18_parseInt_2.data.toList.drop 94 = dktJ18_parseInt_2_4 := dk_seg dksJ18_parseInt_2_3 24 rfl rfl
theorem dksJ18_parseInt_2_5 : cJ18_parseInt_2.data.toList.drop 117 = dktJ18_parseInt_2_5 := dk_seg dksJ18_parseInt_2_4 23 rfl rfl
theorem dksJ18_parseInt_2_6 : cJ18_parseInt_2.data.toList.drop 140 = dktJ18_parseInt_2_6 := dk_seg dksJ18_parseInt_2_5 23 rfl rfl
theorem dksJ18_parseInt_2_7 : cJ18_parseInt_2.data.toList.drop 163 = dktJ18_parseInt_2_7 := dk_seg dksJ18_parseInt_2_6 23 rfl rfl
theorem dksJ18_parseInt_2_8 : cJ18_parseInt_2.data.toList.drop 186 = dktJ18_parseInt_2_8 := dk_seg dksJ18_parseInt_2_7 23 rfl rfl
theorem dksJ18_parseInt_2_9 : cJ18_parseInt_2.data.toList.drop 209 = dktJ18_parseInt_2_9 := dk_seg dksJ18_parseInt_2_8 23 rfl rfl
theorem dksJ18_parseInt_2_10 : cJ18_parseInt_2.data.toList.drop 231 = dktJ18_parseInt_2_10 := dk_seg dksJ18_parseInt_2_9 22 rfl rfl
theorem dksJ18_parseInt_2_11 : cJ18_parseInt_2.data.toList.drop 254 = dktJ18_parseInt_2_11 := dk_seg dksJ18_parseInt_2_10 23 rfl rfl
theorem dJ18_parseInt_2_0 : decode cJ18_parseInt_2 0 = .ok (.aload_n 0, 1) := dk_42 (dk_at dksJ18_parseInt_2_0 0 rfl rfl)
theorem dJ18_parseInt_2_1 : decode cJ18_parseInt_2 1 = .ok (.ifnonnull 13, 3) := dk_199 0 13 (dk_at dksJ18_parseInt_2_0 1 rfl rfl)
theorem dJ18_parseInt_2_4 : decode cJ18_parseInt_2 4 = .ok (.new 90, 3) := dk_187 0 90 (dk_at dksJ18_parseInt_2_0 4 rfl rfl)
theorem dJ18_parseInt_2_7 : decode cJ18_parseInt_2 7 = .ok (.dup, 1) := dk_89 (dk_at dksJ18_parseInt_2_0 7 rfl rfl)
theorem dJ18_parseInt_2_8 : decode cJ18_parseInt_2 8 = .ok (.ldc 92, 2) := dk_18 92 (dk_at dksJ18_parseInt_2_0 8 rfl rfl)
theorem dJ18_parseInt_2_10 : decode cJ18_parseInt_2 10 = .ok (.invokespecial 94, 3) := dk_183 0 94 (dk_at dksJ18_parseInt_2_0 10 rfl rfl)
theorem dJ18_parseInt_2_13 : decode cJ18_parseInt_2 13 = .ok (.athrow, 1) := dk_191 (dk_at dksJ18_parseInt_2_0 13 rfl rfl)
theorem dJ18_parseInt_2_14 : decode cJ18_parseInt_2 14 = .ok (.iload_n 1, 1) := dk_27 (dk_at dksJ18_parseInt_2_0 14 rfl rfl)
theorem dJ18_parseInt_2_15 : decode cJ18_parseInt_2 15 = .ok (.iconst 2, 1) := dk_5 (dk_at dksJ18_parseInt_2_0 15 rfl rfl)
theorem dJ18_parseInt_2_16 : decode cJ18_parseInt_2 16 = .ok (.if_icmp .ge 35, 3) := dk_162 0 35 (dk_at dksJ18_parseInt_2_0 16 rfl rfl)
theorem dJ18_parseInt_2_19 : decode cJ18_parseInt_2 19 = .ok (.new 90, 3) := dk_187 0 90 (dk_at dksJ18_parseInt_2_0 19 rfl rfl)
theorem dJ18_parseInt_2_22 : decode cJ18_parseInt_2 22 = .ok (.dup, 1) := dk_89 (dk_at dksJ18_parseInt_2_0 22 rfl rfl)
theorem dJ18_parseInt_2_23 : decode cJ18_parseInt_2 23 = .ok (.new 97, 3) := dk_187 0 97 (dk_at dksJ18_parseInt_2_1 0 rfl rfl)
theorem dJ18_parseInt_2_26 : decode cJ18_parseInt_2 26 = .ok (.dup, 1) := dk_89 (dk_at dksJ18_parseInt_2_1 3 rfl rfl)
theorem dJ18_parseInt_2_27 : decode cJ18_parseInt_2 27 = .ok (.invokespecial 99, 3) := dk_183 0 99 (dk_at dksJ18_parseInt_2_1 4 rfl rfl)
theorem dJ18_parseInt_2_30 : decode cJ18_parseInt_2 30 = .ok (.ldc 102, 2) := dk_18 102 (dk_at dksJ18_parseInt_2_1 7 rfl rfl)
theorem dJ18_parseInt_2_32 : decode cJ18_parseInt_2 32 = .ok (.invokevirtual 104, 3) := dk_182 0 104 (dk_at dksJ18_parseInt_2_1 9 rfl rfl)
theorem dJ18_parseInt_2_35 : decode cJ18_parseInt_2 35 = .ok (.iload_n 1, 1) := dk_27 (dk_at dksJ18_parseInt_2_1 12 rfl rfl)
theorem dJ18_parseInt_2_36 : decode cJ18_parseInt_2 36 = .ok (.invokevirtual 108, 3) := dk_182 0 108 (dk_at dksJ18_parseInt_2_1 13 rfl rfl)
theorem dJ18_parseInt_2_39 : decode cJ18_parseInt_2 39 = .ok (.ldc 111, 2) := dk_18 111 (dk_at dksJ18_parseInt_2_1 16 rfl rfl)
theorem dJ18_parseInt_2_41 : decode cJ18_parseInt_2 41 = .ok (.invokevirtual 104, 3) := dk_182 0 104 (dk_at dksJ18_parseInt_2_1 18 rfl rfl)
theorem dJ18_parseInt_2_44 : decode cJ18_parseInt_2 44 = .ok (.invokevirtual 113, 3) := dk_182 0 113 (dk_at dksJ18_parseInt_2_1 21 rfl rfl)
theorem dJ18_parseInt_2_47 : decode cJ18_parseInt_2 47 = .ok (.invokespecial 94, 3) := dk_183 0 94 (dk_at dksJ18_parseInt_2_2 0 rfl rfl)
theorem dJ18_parseInt_2_50 : decode cJ18_parseInt_2 50 = .ok (.athrow, 1) := dk_191 (dk_at dksJ18_parseInt_2_2 3 rfl rfl)
theorem dJ18_parseInt_2_51 : decode cJ18_parseInt_2 51 = .ok (.iload_n 1, 1) := dk_27 (dk_at dksJ18_parseInt_2_2 4 rfl rfl)
theorem dJ18_parseInt_2_52 : decode cJ18_parseInt_2 52 = .ok (.bipush 36, 2) := dk_16 36 (dk_at dksJ18_parseInt_2_2 5 rfl rfl)
theorem dJ18_parseInt_2_54 : decode cJ18_parseInt_2 54 = .ok (.if_icmp .le 35, 3) := dk_164 0 35 (dk_at dksJ18_parseInt_2_2 7 rfl rfl)
theorem dJ18_parseInt_2_57 : decode cJ18_parseInt_2 57 = .ok (.new 90, 3) := dk_187 0 90 (dk_at dksJ18_parseInt_2_2 10 rfl rfl)
theorem dJ18_parseInt_2_60 : decode cJ18_parseInt_2 60 = .ok (.dup, 1) := dk_89 (dk_at dksJ18_parseInt_2_2 13 rfl rfl)
theorem dJ18_parseInt_2_61 : decode cJ18_parseInt_2 61 = .ok (.new 97, 3) := dk_187 0 97 (dk_at dksJ18_parseInt_2_2 14 rfl rfl)
theorem dJ18_parseInt_2_64 : decode cJ18_parseInt_2 64 = .ok (.dup, 1) := dk_89 (dk_at dksJ18_parseInt_2_2 17 rfl rfl)
theorem dJ18_parseInt_2_65 : decode cJ18_parseInt_2 65 = .ok (.invokespecial 99, 3) := dk_183 0 99 (dk_at dksJ18_parseInt_2_2 18 rfl rfl)
theorem dJ18_parseInt_2_68 : decode cJ18_parseInt_2 68 = .ok (.ldc 102, 2) := dk_18 102 (dk_at dksJ18_parseInt_2_2 21 rfl rfl)
theorem dJ18_parseInt_2_70 : decode cJ18_parseInt_2 70 = .ok (.invokevirtual 104, 3) := dk_182 0 104 (dk_at dksJ18_parseInt_2_3 0 rfl rfl)
theorem dJ18_parseInt_2_73 : decode cJ18_parseInt_2 73 = .ok (.iload_n 1, 1) := dk_27 (dk_at dksJ18_parseInt_2_3 3 rfl rfl)
theorem dJ18_parseInt_2_74 : decode cJ18_parseInt_2 74 = .ok (.invokevirtual 108, 3) := dk_182 0 108 (dk_at dksJ18_parseInt_2_3 4 rfl rfl)
theorem dJ18_parseInt_2_77 : decode cJ18_parseInt_2 77 = .ok (.ldc 116, 2) := dk_18 116 (dk_at dksJ18_parseInt_2_3 7 rfl rfl)
theorem dJ18_parseInt_2_79 : decode cJ18_parseInt_2 79 = .ok (.invokevirtual 104, 3) := dk_182 0 104 (dk_at dksJ18_parseInt_2_3 9 rfl rfl)
theorem dJ18_parseInt_2_82 : decode cJ18_parseInt_2 82 = .ok (.invokevirtual 113, 3) := dk_182 0 113 (dk_at dksJ18_parseInt_2_3 12 rfl rfl)
theorem dJ18_parseInt_2_85 : decode cJ18_parseInt_2 85 = .ok (.invokespecial 94, 3) := dk_183 0 94 (dk_at dksJ18_parseInt_2_3 15 rfl rfl)
theorem dJ18_parseInt_2_88 : decode cJ18_parseInt_2 88 = .ok (.athrow, 1) := dk_191 (dk_at dksJ18_parseInt_2_3 18 rfl rfl)
theorem dJ18_parseInt_2_89 : decode cJ18_parseInt_2 89 = .ok (.iconst 0, 1) := dk_3 (dk_at dksJ18_parseInt_2_3 19 rfl rfl)
theorem dJ18_parseInt_2_90 : decode cJ18_parseInt_2 90 = .ok (.istore_n 2, 1) := dk_61 (dk_at dksJ18_parseInt_2_3 20 rfl rfl)
theorem dJ18_parseInt_2_91 : decode cJ18_parseInt_2 91 = .ok (.iconst 0, 1) := dk_3 (dk_at dksJ18_parseInt_2_3 21 rfl rfl)
theorem dJ18_parseInt_2_92 : decode cJ18_parseInt_2 92 = .ok (.istore_n 3, 1) := dk_62 (dk_at dksJ18_parseInt_2_3 22 rfl rfl)
theorem dJ18_parseInt_2_93 : decode cJ18_parseInt_2 93 = .ok (.aload_n 0, 1) := dk_42 (dk_at dksJ18_parseInt_2_3 23 rfl rfl)
theorem dJ18_parseInt_2_94 : decode cJ18_parseInt_2 94 = .ok (.invokevirtual 118, 3) := dk_182 0 118 (dk_at dksJ18_parseInt_2_4 0 rfl rfl)
theorem dJ18_parseInt_2_97 : decode cJ18_parseInt_2 97 = .ok (.istore 4, 2) := dk_54 4 (dk_at dksJ18_parseInt_2_4 3 rfl rfl)
theorem dJ18_parseInt_2_99 : decode cJ18_parseInt_2 99 = .ok (.ldc 122, 2) := dk_18 122 (dk_at dksJ18_parseInt_2_4 5 rfl rfl)
theorem dJ18_parseInt_2_101 : decode cJ18_parseInt_2 101 = .ok (.istore 5, 2) := dk_54 5 (dk_at dksJ18_parseInt_2_4 7 rfl rfl)
theorem dJ18_parseInt_2_103 : decode cJ18_parseInt_2 103 = .ok (.iload 4, 2) := dk_21 4 (dk_at dksJ18_parseInt_2_4 9 rfl rfl)
theorem dJ18_parseInt_2_105 : decode cJ18_parseInt_2 105 = .ok (.ifCond .le 153, 3) := dk_158 0 153 (dk_at dksJ18_parseInt_2_4 11 rfl rfl)
theorem dJ18_parseInt_2_108 : decode cJ18_parseInt_2 108 = .ok (.aload_n 0, 1) := dk_42 (dk_at dksJ18_parseInt_2_4 14 rfl rfl)
theorem dJ18_parseInt_2_109 : decode cJ18_parseInt_2 109 = .ok (.iconst 0, 1) := dk_3 (dk_at dksJ18_parseInt_2_4 15 rfl rfl)
theorem dJ18_parseInt_2_110 : decode cJ18_parseInt_2 110 = .ok (.invokevirtual 123, 3) := dk_182 0 123 (dk_at dksJ18_parseInt_2_4 16 rfl rfl)
theorem dJ18_parseInt_2_113 : decode cJ18_parseInt_2 113 = .ok (.istore 6, 2) := dk_54 6 (dk_at dksJ18_parseInt_2_4 19 rfl rfl)
theorem dJ18_parseInt_2_115 : decode cJ18_parseInt_2 115 = .ok (.iload 6, 2) := dk_21 6 (dk_at dksJ18_parseInt_2_4 21 rfl rfl)
theorem dJ18_parseInt_2_117 : decode cJ18_parseInt_2 117 = .ok (.bipush 48, 2) := dk_16 48 (dk_at dksJ18_parseInt_2_5 0 rfl rfl)
theorem dJ18_parseInt_2_119 : decode cJ18_parseInt_2 119 = .ok (.if_icmp .ge 47, 3) := dk_162 0 47 (dk_at dksJ18_parseInt_2_5 2 rfl rfl)
theorem dJ18_parseInt_2_122 : decode cJ18_parseInt_2 122 = .ok (.iload 6, 2) := dk_21 6 (dk_at dksJ18_parseInt_2_5 5 rfl rfl)
theorem dJ18_parseInt_2_124 : decode cJ18_parseInt_2 124 = .ok (.bipush 45, 2) := dk_16 45 (dk_at dksJ18_parseInt_2_5 7 rfl rfl)
theorem dJ18_parseInt_2_126 : decode cJ18_parseInt_2 126 = .ok (.if_icmp .ne 12, 3) := dk_160 0 12 (dk_at dksJ18_parseInt_2_5 9 rfl rfl)
theorem dJ18_parseInt_2_129 : decode cJ18_parseInt_2 129 = .ok (.iconst 1, 1) := dk_4 (dk_at dksJ18_parseInt_2_5 12 rfl rfl)
theorem dJ18_parseInt_2_130 : decode cJ18_parseInt_2 130 = .ok (.istore_n 2, 1) := dk_61 (dk_at dksJ18_parseInt_2_5 13 rfl rfl)
theorem dJ18_parseInt_2_131 : decode cJ18_parseInt_2 131 = .ok (.ldc 127, 2) := dk_18 127 (dk_at dksJ18_parseInt_2_5 14 rfl rfl)
theorem dJ18_parseInt_2_133 : decode cJ18_parseInt_2 133 = .ok (.istore 5, 2) := dk_54 5 (dk_at dksJ18_parseInt_2_5 16 rfl rfl)
theorem dJ18_parseInt_2_135 : decode cJ18_parseInt_2 135 = .ok (.goto 16, 3) := dk_167 0 16 (dk_at dksJ18_parseInt_2_5 18 rfl rfl)
theorem dJ18_parseInt_2_138 : decode cJ18_parseInt_2 138 = .ok (.iload 6, 2) := dk_21 6 (dk_at dksJ18_parseInt_2_5 21 rfl rfl)
theorem dJ18_parseInt_2_140 : decode cJ18_parseInt_2 140 = .ok (.bipush 43, 2) := dk_16 43 (dk_at dksJ18_parseInt_2_6 0 rfl rfl)
theorem dJ18_parseInt_2_142 : decode cJ18_parseInt_2 142 = .ok (.if_icmp .eq 9, 3) := dk_159 0 9 (dk_at dksJ18_parseInt_2_6 2 rfl rfl)
theorem dJ18_parseInt_2_145 : decode cJ18_parseInt_2 145 = .ok (.aload_n 0, 1) := dk_42 (dk_at dksJ18_parseInt_2_6 5 rfl rfl)
theorem dJ18_parseInt_2_146 : decode cJ18_parseInt_2 146 = .ok (.iload_n 1, 1) := dk_27 (dk_at dksJ18_parseInt_2_6 6 rfl rfl)
theorem dJ18_parseInt_2_147 : decode cJ18_parseInt_2 147 = .ok (.invokestatic 128, 3) := dk_184 0 128 (dk_at dksJ18_parseInt_2_6 7 rfl rfl)
theorem dJ18_parseInt_2_150 : decode cJ18_parseInt_2 150 = .ok (.athrow, 1) := dk_191 (dk_at dksJ18_parseInt_2_6 10 rfl rfl)
theorem dJ18_parseInt_2_151 : decode cJ18_parseInt_2 151 = .ok (.iload 4, 2) := dk_21 4 (dk_at dksJ18_parseInt_2_6 11 rfl rfl)
theorem dJ18_parseInt_2_153 : decode cJ18_parseInt_2 153 = .ok (.iconst 1, 1) := dk_4 (dk_at dksJ18_parseInt_2_6 13 rfl rfl)
theorem dJ18_parseInt_2_154 : decode cJ18_parseInt_2 154 = .ok (.if_icmp .ne 9, 3) := dk_160 0 9 (dk_at dksJ18_parseInt_2_6 14 rfl rfl)
theorem dJ18_parseInt_2_157 : decode cJ18_parseInt_2 157 = .ok (.aload_n 0, 1) := dk_42 (dk_at dksJ18_parseInt_2_6 17 rfl rfl)
theorem dJ18_parseInt_2_158 : decode cJ18_parseInt_2 158 = .ok (.iload_n 1, 1) := dk_27 (dk_at dksJ18_parseInt_2_6 18 rfl rfl)
theorem dJ18_parseInt_2_159 : decode cJ18_parseInt_2 159 = .ok (.invokestatic 128, 3) := dk_184 0 128 (dk_at dksJ18_parseInt_2_6 19 rfl rfl)
theorem dJ18_parseInt_2_162 : decode cJ18_parseInt_2 162 = .ok (.athrow, 1) := dk_191 (dk_at dksJ18_parseInt_2_6 22 rfl rfl)
theorem dJ18_parseInt_2_163 : decode cJ18_parseInt_2 163 = .ok (.iinc 3 1, 3) := dk_132 3 1 (dk_at dksJ18_parseInt_2_7 0 rfl rfl)
theorem dJ18_parseInt_2_166 : decode cJ18_parseInt_2 166 = .ok (.iload 5, 2) := dk_21 5 (dk_at dksJ18_parseInt_2_7 3 rfl rfl)
theorem dJ18_parseInt_2_168 : decode cJ18_parseInt_2 168 = .ok (.iload_n 1, 1) := dk_27 (dk_at dksJ18_parseInt_2_7 5 rfl rfl)
theorem dJ18_parseInt_2_169 : decode cJ18_parseInt_2 169 = .ok (.idiv, 1) := dk_108 (dk_at dksJ18_parseInt_2_7 6 rfl rfl)
theorem dJ18_parseInt_2_170 : decode cJ18_parseInt_2 170 = .ok (.istore 7, 2) := dk_54 7 (dk_at dksJ18_parseInt_2_7 7 rfl rfl)
theorem dJ18_parseInt_2_172 : decode cJ18_parseInt_2 172 = .ok (.iconst 0, 1) := dk_3 (dk_at dksJ18_parseInt_2_7 9 rfl rfl)
theorem dJ18_parseInt_2_173 : decode cJ18_parseInt_2 173 = .ok (.istore 8, 2) := dk_54 8 (dk_at dksJ18_parseInt_2_7 10 rfl rfl)
theorem dJ18_parseInt_2_175 : decode cJ18_parseInt_2 175 = .ok (.iload_n 3, 1) := dk_29 (dk_at dksJ18_parseInt_2_7 12 rfl rfl)
theorem dJ18_parseInt_2_176 : decode cJ18_parseInt_2 176 = .ok (.iload 4, 2) := dk_21 4 (dk_at dksJ18_parseInt_2_7 13 rfl rfl)
theorem dJ18_parseInt_2_178 : decode cJ18_parseInt_2 178 = .ok (.if_icmp .ge 67, 3) := dk_162 0 67 (dk_at dksJ18_parseInt_2_7 15 rfl rfl)
theorem dJ18_parseInt_2_181 : decode cJ18_parseInt_2 181 = .ok (.aload_n 0, 1) := dk_42 (dk_at dksJ18_parseInt_2_7 18 rfl rfl)
theorem dJ18_parseInt_2_182 : decode cJ18_parseInt_2 182 = .ok (.iload_n 3, 1) := dk_29 (dk_at dksJ18_parseInt_2_7 19 rfl rfl)
theorem dJ18_parseInt_2_183 : decode cJ18_parseInt_2 183 = .ok (.iinc 3 1, 3) := dk_132 3 1 (dk_at dksJ18_parseInt_2_7 20 rfl rfl)
theorem dJ18_parseInt_2_186 : decode cJ18_parseInt_2 186 = .ok (.invokevirtual 123, 3) := dk_182 0 123 (dk_at dksJ18_parseInt_2_8 0 rfl rfl)
theorem dJ18_parseInt_2_189 : decode cJ18_parseInt_2 189 = .ok (.iload_n 1, 1) := dk_27 (dk_at dksJ18_parseInt_2_8 3 rfl rfl)
theorem dJ18_parseInt_2_190 : decode cJ18_parseInt_2 190 = .ok (.invokestatic 132, 3) := dk_184 0 132 (dk_at dksJ18_parseInt_2_8 4 rfl rfl)
theorem dJ18_parseInt_2_193 : decode cJ18_parseInt_2 193 = .ok (.istore 9, 2) := dk_54 9 (dk_at dksJ18_parseInt_2_8 7 rfl rfl)
theorem dJ18_parseInt_2_195 : decode cJ18_parseInt_2 195 = .ok (.iload 9, 2) := dk_21 9 (dk_at dksJ18_parseInt_2_8 9 rfl rfl)
theorem dJ18_parseInt_2_197 : decode cJ18_parseInt_2 197 = .ok (.ifCond .lt 10, 3) := dk_155 0 10 (dk_at dksJ18_parseInt_2_8 11 rfl rfl)
theorem dJ18_parseInt_2_200 : decode cJ18_parseInt_2 200 = .ok (.iload 8, 2) := dk_21 8 (dk_at dksJ18_parseInt_2_8 14 rfl rfl)
theorem dJ18_parseInt_2_202 : decode cJ18_parseInt_2 202 = .ok (.iload 7, 2) := dk_21 7 (dk_at dksJ18_parseInt_2_8 16 rfl rfl)
theorem dJ18_parseInt_2_204 : decode cJ18_parseInt_2 204 = .ok (.if_icmp .ge 9, 3) := dk_162 0 9 (dk_at dksJ18_parseInt_2_8 18 rfl rfl)
theorem dJ18_parseInt_2_207 : decode cJ18_parseInt_2 207 = .ok (.aload_n 0, 1) := dk_42 (dk_at dksJ18_parseInt_2_8 21 rfl rfl)
theorem dJ18_parseInt_2_208 : decode cJ18_parseInt_2 208 = .ok (.iload_n 1, 1) := dk_27 (dk_at dksJ18_parseInt_2_8 22 rfl rfl)
theorem dJ18_parseInt_2_209 : decode cJ18_parseInt_2 209 = .ok (.invokestatic 128, 3) := dk_184 0 128 (dk_at dksJ18_parseInt_2_9 0 rfl rfl)
theorem dJ18_parseInt_2_212 : decode cJ18_parseInt_2 212 = .ok (.athrow, 1) := dk_191 (dk_at dksJ18_parseInt_2_9 3 rfl rfl)
theorem dJ18_parseInt_2_213 : decode cJ18_parseInt_2 213 = .ok (.iload 8, 2) := dk_21 8 (dk_at dksJ18_parseInt_2_9 4 rfl rfl)
theorem dJ18_parseInt_2_215 : decode cJ18_parseInt_2 215 = .ok (.iload_n 1, 1) := dk_27 (dk_at dksJ18_parseInt_2_9 6 rfl rfl)
theorem dJ18_parseInt_2_216 : decode cJ18_parseInt_2 216 = .ok (.imul, 1) := dk_104 (dk_at dksJ18_parseInt_2_9 7 rfl rfl)
theorem dJ18_parseInt_2_217 : decode cJ18_parseInt_2 217 = .ok (.istore 8, 2) := dk_54 8 (dk_at dksJ18_parseInt_2_9 8 rfl rfl)
theorem dJ18_parseInt_2_219 : decode cJ18_parseInt_2 219 = .ok (.iload 8, 2) := dk_21 8 (dk_at dksJ18_parseInt_2_9 10 rfl rfl)
theorem dJ18_parseInt_2_221 : decode cJ18_parseInt_2 221 = .ok (.iload 5, 2) := dk_21 5 (dk_at dksJ18_parseInt_2_9 12 rfl rfl)
theorem dJ18_parseInt_2_223 : decode cJ18_parseInt_2 223 = .ok (.iload 9, 2) := dk_21 9 (dk_at dksJ18_parseInt_2_9 14 rfl rfl)
theorem dJ18_parseInt_2_225 : decode cJ18_parseInt_2 225 = .ok (.iadd, 1) := dk_96 (dk_at dksJ18_parseInt_2_9 16 rfl rfl)
theorem dJ18_parseInt_2_226 : decode cJ18_parseInt_2 226 = .ok (.if_icmp .ge 9, 3) := dk_162 0 9 (dk_at dksJ18_parseInt_2_9 17 rfl rfl)
theorem dJ18_parseInt_2_229 : decode cJ18_parseInt_2 229 = .ok (.aload_n 0, 1) := dk_42 (dk_at dksJ18_parseInt_2_9 20 rfl rfl)
theorem dJ18_parseInt_2_230 : decode cJ18_parseInt_2 230 = .ok (.iload_n 1, 1) := dk_27 (dk_at dksJ18_parseInt_2_9 21 rfl rfl)
theorem dJ18_parseInt_2_231 : decode cJ18_parseInt_2 231 = .ok (.invokestatic 128, 3) := dk_184 0 128 (dk_at dksJ18_parseInt_2_10 0 rfl rfl)
theorem dJ18_parseInt_2_234 : decode cJ18_parseInt_2 234 = .ok (.athrow, 1) := dk_191 (dk_at dksJ18_parseInt_2_10 3 rfl rfl)
theorem dJ18_parseInt_2_235 : decode cJ18_parseInt_2 235 = .ok (.iload 8, 2) := dk_21 8 (dk_at dksJ18_parseInt_2_10 4 rfl rfl)
theorem dJ18_parseInt_2_237 : decode cJ18_parseInt_2 237 = .ok (.iload 9, 2) := dk_21 9 (dk_at dksJ18_parseInt_2_10 6 rfl rfl)
theorem dJ18_parseInt_2_239 : decode cJ18_parseInt_2 239 = .ok (.isub, 1) := dk_100 (dk_at dksJ18_parseInt_2_10 8 rfl rfl)
theorem dJ18_parseInt_2_240 : decode cJ18_parseInt_2 240 = .ok (.istore 8, 2) := dk_54 8 (dk_at dksJ18_parseInt_2_10 9 rfl rfl)
theorem dJ18_parseInt_2_242 : decode cJ18_parseInt_2 242 = .ok (.goto (-67), 3) := dk_167 255 189 (dk_at dksJ18_parseInt_2_10 11 rfl rfl)
theorem dJ18_parseInt_2_245 : decode cJ18_parseInt_2 245 = .ok (.iload_n 2, 1) := dk_28 (dk_at dksJ18_parseInt_2_10 14 rfl rfl)
theorem dJ18_parseInt_2_246 : decode cJ18_parseInt_2 246 = .ok (.ifCond .eq 8, 3) := dk_153 0 8 (dk_at dksJ18_parseInt_2_10 15 rfl rfl)
theorem dJ18_parseInt_2_249 : decode cJ18_parseInt_2 249 = .ok (.iload 8, 2) := dk_21 8 (dk_at dksJ18_parseInt_2_10 18 rfl rfl)
theorem dJ18_parseInt_2_251 : decode cJ18_parseInt_2 251 = .ok (.goto 6, 3) := dk_167 0 6 (dk_at dksJ18_parseInt_2_10 20 rfl rfl)
theorem dJ18_parseInt_2_254 : decode cJ18_parseInt_2 254 = .ok (.iload 8, 2) := dk_21 8 (dk_at dksJ18_parseInt_2_11 0 rfl rfl)
theorem dJ18_parseInt_2_256 : decode cJ18_parseInt_2 256 = .ok (.ineg, 1) := dk_116 (dk_at dksJ18_parseInt_2_11 2 rfl rfl)
theorem dJ18_parseInt_2_257 : decode cJ18_parseInt_2 257 = .ok (.ireturn, 1) := dk_172 (dk_at dksJ18_parseInt_2_11 3 rfl rfl)
theorem dJ18_parseInt_2_258 : decode cJ18_parseInt_2 258 = .ok (.aload_n 0, 1) := dk_42 (dk_at dksJ18_parseInt_2_11 4 rfl rfl)
theorem dJ18_parseInt_2_259 : decode cJ18_parseInt_2 259 = .ok (.iload_n 1, 1) := dk_27 (dk_at dksJ18_parseInt_2_11 5 rfl rfl)
theorem dJ18_parseInt_2_260 : decode cJ18_parseInt_2 260 = .ok (.invokestatic 128, 3) := dk_184 0 128 (dk_at dksJ18_parseInt_2_11 6 rfl rfl)
theorem dJ18_parseInt_2_263 : decode cJ18_parseInt_2 263 = .ok (.athrow, 1) := dk_191 (dk_at dksJ18_parseInt_2_11 9 rfl rfl)
abbrev cJ18_bitCount : ByteArray := prog_29_method_49_code
def yJ18_bitCount : MethodName := ⟨RJ18, "bitCount", "(I)I"⟩
def dkwJ18_bitCount_2 : List UInt8 := [26, 16, 63, 126, 172]
abbrev dktJ18_bitCount_2 : List UInt8 := dkwJ18_bitCount_2 ++ []
def dkwJ18_bitCount_1 : List UInt8 := [26, 26, 7, 124, 96, 19, 1, 11, 126, 59, 26, 26, 16, 8, 124, 96, 59, 26, 26, 16, 16, 124, 96, 59]
abbrev dktJ18_bitCount_1 : List UInt8 := dkwJ18_bitCount_1 ++ dktJ18_bitCount_2
def dkwJ18_bitCount_0 : List UInt8 := [26, 26, 4, 124, 19, 1, 9, 126, 100, 59, 26, 19, 1, 10, 126, 26, 5, 124, 19, 1, 10, 126, 96, 59]
abbrev dktJ18_bitCount_0 : List UInt8 := dkwJ18_bitCount_0 ++ dktJ18_bitCount_1
theorem dksJ18_bitCount_0 : cJ18_bitCount.data.toList.drop 0 = dktJ18_bitCount_0 := by decide +kernel
theorem dksJ18_bitCount_1 : cJ18_bitCount.data.toList.drop 24 = dktJ18_bitCount_1 := dk_seg dksJ18_bitCount_0 24 rfl rfl
theorem dksJ18_bitCount_2 : cJ18_bitCount.data.toList.drop 48 = dktJ18_bitCount_2 := dk_seg dksJ18_bitCount_1 24 rfl rfl
theorem dJ18_bitCount_0 : decode cJ18_bitCount 0 = .ok (.iload_n 0, 1) := dk_26 (dk_at dksJ18_bitCount_0 0 rfl rfl)
theorem dJ18_bitCount_1 : decode cJ18_bitCount 1 = .ok (.iload_n 0, 1) := dk_26 (dk_at dksJ18_bitCount_0 1 rfl rfl)
theorem dJ18_bitCount_2 : decode cJ18_bitCount 2 = .ok (.iconst 1, 1) := dk_4 (dk_at dksJ18_bitCount_0 2 rfl rfl)
theorem dJ18_bitCount_3 : decode cJ18_bitCount 3 = .ok (.iushr, 1) := dk_124 (dk_at dksJ18_bitCount_0 3 rfl rfl)
theorem dJ18_bitCount_4 : decode cJ18_bitCount 4 = .ok (.ldc_w 265, 3) := dk_19 1 9 (dk_at dksJ18_bitCount_0 4 rfl rfl)
theorem dJ18_bitCount_7 : decode cJ18_bitCount 7 = .ok (.iand, 1) := dk_126 (dk_at dksJ18_bitCount_0 7 rfl rfl)
theorem dJ18_bitCount_8 : decode cJ18_bitCount 8 = .ok (.isub, 1) := dk_100 (dk_at dksJ18_bitCount_0 8 rfl rfl)
theorem dJ18_bitCount_9 : decode cJ18_bitCount 9 = .ok (.istore_n 0, 1) := dk_59 (dk_at dksJ18_bitCount_0 9 rfl rfl)
theorem dJ18_bitCount_10 : decode cJ18_bitCount 10 = .ok (.iload_n 0, 1) := dk_26 (dk_at dksJ18_bitCount_0 10 rfl rfl)
theorem dJ18_bitCount_11 : decode cJ18_bitCount 11 = .ok (.ldc_w 266, 3) := dk_19 1 10 (dk_at dksJ18_bitCount_0 11 rfl rfl)
theorem dJ18_bitCount_14 : decode cJ18_bitCount 14 = .ok (.iand, 1) := dk_126 (dk_at dksJ18_bitCount_0 14 rfl rfl)
theorem dJ18_bitCount_15 : decode cJ18_bitCount 15 = .ok (.iload_n 0, 1) := dk_26 (dk_at dksJ18_bitCount_0 15 rfl rfl)
theorem dJ18_bitCount_16 : decode cJ18_bitCount 16 = .ok (.iconst 2, 1) := dk_5 (dk_at dksJ18_bitCount_0 16 rfl rfl)
theorem dJ18_bitCount_17 : decode cJ18_bitCount 17 = .ok (.iushr, 1) := dk_124 (dk_at dksJ18_bitCount_0 17 rfl rfl)
theorem dJ18_bitCount_18 : decode cJ18_bitCount 18 = .ok (.ldc_w 266, 3) := dk_19 1 10 (dk_at dksJ18_bitCount_0 18 rfl rfl)
theorem dJ18_bitCount_21 : decode cJ18_bitCount 21 = .ok (.iand, 1) := dk_126 (dk_at dksJ18_bitCount_0 21 rfl rfl)
theorem dJ18_bitCount_22 : decode cJ18_bitCount 22 = .ok (.iadd, 1) := dk_96 (dk_at dksJ18_bitCount_0 22 rfl rfl)
theorem dJ18_bitCount_23 : decode cJ18_bitCount 23 = .ok (.istore_n 0, 1) := dk_59 (dk_at dksJ18_bitCount_0 23 rfl rfl)
theorem dJ18_bitCount_24 : decode cJ18_bitCount 24 = .ok (.iload_n 0, 1) := dk_26 (dk_at dksJ18_bitCount_1 0 rfl rfl)
theorem dJ18_bitCount_25 : decode cJ18_bitCount 25 = .ok (.iload_n 0, 1) := dk_26 (dk_at dksJ18_bitCount_1 1 rfl rfl)
theorem dJ18_bitCount_26 : decode cJ18_bitCount 26 = .ok (.iconst 4, 1) := dk_7 (dk_at dksJ18_bitCount_1 2 rfl rfl)
theorem dJ18_bitCount_27 : decode cJ18_bitCount 27 = .ok (.iushr, 1) := dk_124 (dk_at dksJ18_bitCount_1 3 rfl rfl)
theorem dJ18_bitCount_28 : decode cJ18_bitCount 28 = .ok (.iadd, 1) := dk_96 (dk_at dksJ18_bitCount_1 4 rfl rfl)
theorem dJ18_bitCount_29 : decode cJ18_bitCount 29 = .ok (.ldc_w 267, 3) := dk_19 1 11 (dk_at dksJ18_bitCount_1 5 rfl rfl)
theorem dJ18_bitCount_32 : decode cJ18_bitCount 32 = .ok (.iand, 1) := dk_126 (dk_at dksJ18_bitCount_1 8 rfl rfl)
theorem dJ18_bitCount_33 : decode cJ18_bitCount 33 = .ok (.istore_n 0, 1) := dk_59 (dk_at dksJ18_bitCount_1 9 rfl rfl)
theorem dJ18_bitCount_34 : decode cJ18_bitCount 34 = .ok (.iload_n 0, 1) := dk_26 (dk_at dksJ18_bitCount_1 10 rfl rfl)
theorem dJ18_bitCount_35 : decode cJ18_bitCount 35 = .ok (.iload_n 0, 1) := dk_26 (dk_at dksJ18_bitCount_1 11 rfl rfl)
theorem dJ18_bitCount_36 : decode cJ18_bitCount 36 = .ok (.bipush 8, 2) := dk_16 8 (dk_at dksJ18_bitCount_1 12 rfl rfl)
theorem dJ18_bitCount_38 : decode cJ18_bitCount 38 = .ok (.iushr, 1) := dk_124 (dk_at dksJ18_bitCount_1 14 rfl rfl)
theorem dJ18_bitCount_39 : decode cJ18_bitCount 39 = .ok (.iadd, 1) := dk_96 (dk_at dksJ18_bitCount_1 15 rfl rfl)
theorem dJ18_bitCount_40 : decode cJ18_bitCount 40 = .ok (.istore_n 0, 1) := dk_59 (dk_at dksJ18_bitCount_1 16 rfl rfl)
theorem dJ18_bitCount_41 : decode cJ18_bitCount 41 = .ok (.iload_n 0, 1) := dk_26 (dk_at dksJ18_bitCount_1 17 rfl rfl)
theorem dJ18_bitCount_42 : decode cJ18_bitCount 42 = .ok (.iload_n 0, 1) := dk_26 (dk_at dksJ18_bitCount_1 18 rfl rfl)
theorem dJ18_bitCount_43 : decode cJ18_bitCount 43 = .ok (.bipush 16, 2) := dk_16 16 (dk_at dksJ18_bitCount_1 19 rfl rfl)
theorem dJ18_bitCount_45 : decode cJ18_bitCount 45 = .ok (.iushr, 1) := dk_124 (dk_at dksJ18_bitCount_1 21 rfl rfl)
theorem dJ18_bitCount_46 : decode cJ18_bitCount 46 = .ok (.iadd, 1) := dk_96 (dk_at dksJ18_bitCount_1 22 rfl rfl)
theorem dJ18_bitCount_47 : decode cJ18_bitCount 47 = .ok (.istore_n 0, 1) := dk_59 (dk_at dksJ18_bitCount_1 23 rfl rfl)
theorem dJ18_bitCount_48 : decode cJ18_bitCount 48 = .ok (.iload_n 0, 1) := dk_26 (dk_at dksJ18_bitCount_2 0 rfl rfl)
theorem dJ18_bitCount_49 : decode cJ18_bitCount 49 = .ok (.bipush 63, 2) := dk_16 63 (dk_at dksJ18_bitCount_2 1 rfl rfl)
theorem dJ18_bitCount_51 : decode cJ18_bitCount 51 = .ok (.iand, 1) := dk_126 (dk_at dksJ18_bitCount_2 3 rfl rfl)
theorem dJ18_bitCount_52 : decode cJ18_bitCount 52 = .ok (.ireturn, 1) := dk_172 (dk_at dksJ18_bitCount_2 4 rfl rfl)
abbrev cJ18_valueOf : ByteArray := prog_29_method_22_code
def yJ18_valueOf : MethodName := ⟨RJ18, "valueOf", "(I)Ljava/lang/Integer;"⟩
def dkwJ18_valueOf_1 : List UInt8 := [187, 0, 1, 89, 26, 183, 0, 199, 176]
abbrev dktJ18_valueOf_1 : List UInt8 := dkwJ18_valueOf_1 ++ []
def dkwJ18_valueOf_0 : List UInt8 := [26, 16, 128, 161, 0, 20, 26, 178, 0, 191, 163, 0, 13, 178, 0, 195, 26, 17, 0, 128, 96, 50, 176]
abbrev dktJ18_valueOf_0 : List UInt8 := dkwJ18_valueOf_0 ++ dktJ18_valueOf_1
theorem dksJ18_valueOf_0 : cJ18_valueOf.data.toList.drop 0 = dktJ18_valueOf_0 := by decide +kernel
theorem dksJ18_valueOf_1 : cJ18_valueOf.data.toList.drop 23 = dktJ18_valueOf_1 := dk_seg dksJ18_valueOf_0 23 rfl rfl
theorem dJ18_valueOf_0 : decode cJ18_valueOf 0 = .ok (.iload_n 0, 1) := dk_26 (dk_at dksJ18_valueOf_0 0 rfl rfl)
theorem dJ18_valueOf_1 : decode cJ18_valueOf 1 = .ok (.bipush (-128), 2) := dk_16 128 (dk_at dksJ18_valueOf_0 1 rfl rfl)
theorem dJ18_valueOf_3 : decode cJ18_valueOf 3 = .ok (.if_icmp .lt 20, 3) := dk_161 0 20 (dk_at dksJ18_valueOf_0 3 rfl rfl)
theorem dJ18_valueOf_6 : decode cJ18_valueOf 6 = .ok (.iload_n 0, 1) := dk_26 (dk_at dksJ18_valueOf_0 6 rfl rfl)
theorem dJ18_valueOf_7 : decode cJ18_valueOf 7 = .ok (.getstatic 191, 3) := dk_178 0 191 (dk_at dksJ18_valueOf_0 7 rfl rfl)
theorem dJ18_valueOf_10 : decode cJ18_valueOf 10 = .ok (.if_icmp .gt 13, 3) := dk_163 0 13 (dk_at dksJ18_valueOf_0 10 rfl rfl)
theorem dJ18_valueOf_13 : decode cJ18_valueOf 13 = .ok (.getstatic 195, 3) := dk_178 0 195 (dk_at dksJ18_valueOf_0 13 rfl rfl)
theorem dJ18_valueOf_16 : decode cJ18_valueOf 16 = .ok (.iload_n 0, 1) := dk_26 (dk_at dksJ18_valueOf_0 16 rfl rfl)
theorem dJ18_valueOf_17 : decode cJ18_valueOf 17 = .ok (.sipush 128, 3) := dk_17 0 128 (dk_at dksJ18_valueOf_0 17 rfl rfl)
theorem dJ18_valueOf_20 : decode cJ18_valueOf 20 = .ok (.iadd, 1) := dk_96 (dk_at dksJ18_valueOf_0 20 rfl rfl)
theorem dJ18_valueOf_21 : decode cJ18_valueOf 21 = .ok (.aaload, 1) := dk_50 (dk_at dksJ18_valueOf_0 21 rfl rfl)
theorem dJ18_valueOf_22 : decode cJ18_valueOf 22 = .ok (.areturn, 1) := dk_176 (dk_at dksJ18_valueOf_0 22 rfl rfl)
theorem dJ18_valueOf_23 : decode cJ18_valueOf 23 = .ok (.new 1, 3) := dk_187 0 1 (dk_at dksJ18_valueOf_1 0 rfl rfl)
theorem dJ18_valueOf_26 : decode cJ18_valueOf 26 = .ok (.dup, 1) := dk_89 (dk_at dksJ18_valueOf_1 3 rfl rfl)
theorem dJ18_valueOf_27 : decode cJ18_valueOf 27 = .ok (.iload_n 0, 1) := dk_26 (dk_at dksJ18_valueOf_1 4 rfl rfl)
theorem dJ18_valueOf_28 : decode cJ18_valueOf 28 = .ok (.invokespecial 199, 3) := dk_183 0 199 (dk_at dksJ18_valueOf_1 5 rfl rfl)
theorem dJ18_valueOf_31 : decode cJ18_valueOf 31 = .ok (.areturn, 1) := dk_176 (dk_at dksJ18_valueOf_1 8 rfl rfl)
abbrev cJ18_init : ByteArray := prog_29_method_23_code
def yJ18_init : MethodName := ⟨RJ18, "<init>", "(I)V"⟩
def dkwJ18_init_0 : List UInt8 := [42, 183, 0, 202, 42, 27, 181, 0, 205, 177]
abbrev dktJ18_init_0 : List UInt8 := dkwJ18_init_0 ++ []
theorem dksJ18_init_0 : cJ18_init.data.toList.drop 0 = dktJ18_init_0 := by decide +kernel
theorem dJ18_init_0 : decode cJ18_init 0 = .ok (.aload_n 0, 1) := dk_42 (dk_at dksJ18_init_0 0 rfl rfl)
theorem dJ18_init_1 : decode cJ18_init 1 = .ok (.invokespecial 202, 3) := dk_183 0 202 (dk_at dksJ18_init_0 1 rfl rfl)
theorem dJ18_init_4 : decode cJ18_init 4 = .ok (.aload_n 0, 1) := dk_42 (dk_at dksJ18_init_0 4 rfl rfl)
theorem dJ18_init_5 : decode cJ18_init 5 = .ok (.iload_n 1, 1) := dk_27 (dk_at dksJ18_init_0 5 rfl rfl)
theorem dJ18_init_6 : decode cJ18_init 6 = .ok (.putfield 205, 3) := dk_181 0 205 (dk_at dksJ18_init_0 6 rfl rfl)
theorem dJ18_init_9 : decode cJ18_init 9 = .ok (.return_, 1) := dk_177 (dk_at dksJ18_init_0 9 rfl rfl)
theorem q73 : (Jvm.Cond.initialized "java/lang/Integer") ∈ lw_all := lw_g (lw_at lw_m1 25 rfl) rfl
theorem q623 : (Jvm.Cond.selects "java/lang/Integer" ({ cls := "java/lang/Object", name := "equals", desc := "(Ljava/lang/Object;)Z" } : Jvm.MethodName) ({ cls := "java/lang/Integer", name := "equals", desc := "(Ljava/lang/Object;)Z" } : Jvm.MethodName)) ∈ lw_all := lw_g (lw_at lw_m3 95 rfl) rfl
theorem q624 : (Jvm.Cond.instanceMethod ({ cls := "java/lang/Integer", name := "equals", desc := "(Ljava/lang/Object;)Z" } : Jvm.MethodName)) ∈ lw_all := lw_g (lw_at lw_m3 96 rfl) rfl
theorem q625 : (Jvm.Cond.code ({ cls := "java/lang/Integer", name := "equals", desc := "(Ljava/lang/Object;)Z" } : Jvm.MethodName) prog_29_method_34_code (2 : Nat) (Option.some Jvm.ClassFile.FieldType.boolean)) ∈ lw_all := lw_g (lw_at lw_m3 97 rfl) rfl
theorem q626 : (Jvm.Cond.classLink "java/lang/Integer" (1 : Nat) "java/lang/Integer") ∈ lw_all := lw_g (lw_at lw_m3 98 rfl) rfl
theorem q627 : (Jvm.Cond.methodLink "java/lang/Integer" (211 : Nat) ({ cls := "java/lang/Integer", name := "intValue", desc := "()I" } : Jvm.MethodName)) ∈ lw_all := lw_g (lw_at lw_m3 99 rfl) rfl
theorem q628 : (Jvm.Cond.instanceMethod ({ cls := "java/lang/Integer", name := "intValue", desc := "()I" } : Jvm.MethodName)) ∈ lw_all := lw_g (lw_at lw_m3 100 rfl) rfl
theorem q629 : (Jvm.Cond.selects "java/lang/Integer" ({ cls := "java/lang/Integer", name := "intValue", desc := "()I" } : Jvm.MethodName) ({ cls := "java/lang/Integer", name := "intValue", desc := "()I" } : Jvm.MethodName)) ∈ lw_all := lw_g (lw_at lw_m3 101 rfl) rfl
theorem q630 : (Jvm.Cond.code ({ cls := "java/lang/Integer", name := "intValue", desc := "()I" } : Jvm.MethodName) prog_29_method_27_code (1 : Nat) (Option.some Jvm.ClassFile.FieldType.int)) ∈ lw_all := lw_g (lw_at lw_m3 102 rfl) rfl
theorem q705 : (Jvm.Cond.static ({ cls := "java/lang/Integer", name := "parseInt", desc := "(Ljava/lang/String;)I" } : Jvm.MethodName)) ∈ lw_all := lw_g (lw_at lw_m3 177 rfl) rfl
theorem q706 : (Jvm.Cond.code ({ cls := "java/lang/Integer", name := "parseInt", desc := "(Ljava/lang/String;)I" } : Jvm.MethodName) prog_29_method_16_code (1 : Nat) (Option.some Jvm.ClassFile.FieldType.int)) ∈ lw_all := lw_g (lw_at lw_m3 178 rfl) rfl
theorem q707 : (Jvm.Cond.methodLink "java/lang/Integer" (156 : Nat) ({ cls := "java/lang/Integer", name := "parseInt", desc := "(Ljava/lang/String;I)I" } : Jvm.MethodName)) ∈ lw_all := lw_g (lw_at lw_m3 179 rfl) rfl
theorem q708 : (Jvm.Cond.static ({ cls := "java/lang/Integer", name := "parseInt", desc := "(Ljava/lang/String;I)I" } : Jvm.MethodName)) ∈ lw_all := lw_g (lw_at lw_m3 180 rfl) rfl
theorem q709 : (Jvm.Cond.code ({ cls := "java/lang/Integer", name := "parseInt", desc := "(Ljava/lang/String;I)I" } : Jvm.MethodName) prog_29_method_14_code (10 : Nat) (Option.some Jvm.ClassFile.FieldType.int)) ∈ lw_all := lw_g (lw_at lw_m3 181 rfl) rfl
theorem q710 : (Jvm.Cond.methodLink "java/lang/Integer" (118 : Nat) ({ cls := "java/lang/String", name := "length", desc := "()I" } : Jvm.MethodName)) ∈ lw_all := lw_g (lw_at lw_m3 182 rfl) rfl
theorem q711 : (Jvm.Cond.constant "java/lang/Integer" (122 : Nat) (-2147483647 : Int32)) ∈ lw_all := lw_g (lw_at lw_m3 183 rfl) rfl
theorem q712 : (Jvm.Cond.methodLink "java/lang/Integer" (123 : Nat) ({ cls := "java/lang/String", name := "charAt", desc := "(I)C" } : Jvm.MethodName)) ∈ lw_all := lw_g (lw_at lw_m3 184 rfl) rfl
theorem q713 : (Jvm.Cond.constant "java/lang/Integer" (127 : Nat) (-2147483648 : Int32)) ∈ lw_all := lw_g (lw_at lw_m3 185 rfl) rfl
theorem q714 : (Jvm.Cond.methodLink "java/lang/Integer" (132 : Nat) ({ cls := "java/lang/Character", name := "digit", desc := "(CI)I" } : Jvm.MethodName)) ∈ lw_all := lw_g (lw_at lw_m3 186 rfl) rfl
theorem q1054 : (Jvm.Cond.static ({ cls := "java/lang/Integer", name := "bitCount", desc := "(I)I" } : Jvm.MethodName)) ∈ lw_all := lw_g (lw_at lw_m5 46 rfl) rfl
theorem q1055 : (Jvm.Cond.code ({ cls := "java/lang/Integer", name := "bitCount", desc := "(I)I" } : Jvm.MethodName) prog_29_method_49_code (1 : Nat) (Option.some Jvm.ClassFile.FieldType.int)) ∈ lw_all := lw_g (lw_at lw_m5 47 rfl) rfl
theorem q1056 : (Jvm.Cond.constant "java/lang/Integer" (265 : Nat) (1431655765 : Int32)) ∈ lw_all := lw_g (lw_at lw_m5 48 rfl) rfl
theorem q1057 : (Jvm.Cond.constant "java/lang/Integer" (266 : Nat) (858993459 : Int32)) ∈ lw_all := lw_g (lw_at lw_m5 49 rfl) rfl
theorem q1058 : (Jvm.Cond.constant "java/lang/Integer" (267 : Nat) (252645135 : Int32)) ∈ lw_all := lw_g (lw_at lw_m5 50 rfl) rfl
theorem q1436 : (Jvm.Cond.selects "java/lang/Integer" ({ cls := "java/lang/Object", name := "getClass", desc := "()Ljava/lang/Class;" } : Jvm.MethodName) ({ cls := "java/lang/Object", name := "getClass", desc := "()Ljava/lang/Class;" } : Jvm.MethodName)) ∈ lw_all := lw_g (lw_at lw_m6 188 rfl) rfl
theorem q1568 : (Jvm.Cond.static ({ cls := "java/lang/Integer", name := "valueOf", desc := "(I)Ljava/lang/Integer;" } : Jvm.MethodName)) ∈ lw_all := lw_g (lw_at lw_m7 80 rfl) rfl
theorem q1569 : (Jvm.Cond.code ({ cls := "java/lang/Integer", name := "valueOf", desc := "(I)Ljava/lang/Integer;" } : Jvm.MethodName) prog_29_method_22_code (1 : Nat) (Option.some (Jvm.ClassFile.FieldType.object "java/lang/Integer"))) ∈ lw_all := lw_g (lw_at lw_m7 81 rfl) rfl
theorem q1570 : (Jvm.Cond.fieldLink "java/lang/Integer" (191 : Nat) "java/lang/Integer$IntegerCache" "high" "I") ∈ lw_all := lw_g (lw_at lw_m7 82 rfl) rfl
theorem q1572 : (Jvm.Cond.fieldLink "java/lang/Integer" (195 : Nat) "java/lang/Integer$IntegerCache" "cache" "[Ljava/lang/Integer;") ∈ lw_all := lw_g (lw_at lw_m7 84 rfl) rfl
theorem q1574 : (Jvm.Cond.instantiable "java/lang/Integer" (1 : Nat)) ∈ lw_all := lw_g (lw_at lw_m7 86 rfl) rfl
theorem q1575 : (Jvm.Cond.methodLink "java/lang/Integer" (199 : Nat) ({ cls := "java/lang/Integer", name := "<init>", desc := "(I)V" } : Jvm.MethodName)) ∈ lw_all := lw_g (lw_at lw_m7 87 rfl) rfl
theorem q1576 : (Jvm.Cond.instanceMethod ({ cls := "java/lang/Integer", name := "<init>", desc := "(I)V" } : Jvm.MethodName)) ∈ lw_all := lw_g (lw_at lw_m7 88 rfl) rfl
theorem q1577 : (Jvm.Cond.code ({ cls := "java/lang/Integer", name := "<init>", desc := "(I)V" } : Jvm.MethodName) prog_29_method_23_code (2 : Nat) (Option.none : Option Jvm.ClassFile.FieldType)) ∈ lw_all := lw_g (lw_at lw_m7 89 rfl) rfl
theorem q1578 : (Jvm.Cond.methodLink "java/lang/Integer" (202 : Nat) ({ cls := "java/lang/Number", name := "<init>", desc := "()V" } : Jvm.MethodName)) ∈ lw_all := lw_g (lw_at lw_m7 90 rfl) rfl
theorem q1582 : (Jvm.Cond.fieldLink "java/lang/Integer" (205 : Nat) "java/lang/Integer" "value" "I") ∈ lw_all := lw_g (lw_at lw_m7 94 rfl) rfl
theorem q1583 : (Jvm.Cond.laysFinal "java/lang/Integer" "java/lang/Integer" "value" "I") ∈ lw_all := lw_g (lw_at lw_m7 95 rfl) rfl
theorem q1584 : (Jvm.Cond.soleField "java/lang/Integer" "value") ∈ lw_all := lw_g (lw_at lw_m7 96 rfl) rfl
theorem q1585 : (Jvm.Cond.superclass "java/lang/Integer" "java/lang/Number") ∈ lw_all := lw_g (lw_at lw_m7 97 rfl) rfl
theorem q2225 : (Jvm.Cond.castable "java/lang/Integer" "java/lang/Object") ∈ lw_tbl := lw_at lw_m10 17 rfl
theorem in_J18 : ∀ w ∈ wsJ180, w ∈ lw_all := lw_in wsJ180 [1583] (by decide +kernel) (by decide +kernel)
/-! java/lang/Character -/
set_option maxRecDepth 100000
def RJ19 : String := "java/lang/Character"
abbrev cJ19_digit : ByteArray := prog_21_method_79_code
def yJ19_digit : MethodName := ⟨RJ19, "digit", "(CI)I"⟩
def dkwJ19_digit_0 : List UInt8 := [26, 27, 184, 0, 248, 172]
abbrev dktJ19_digit_0 : List UInt8 := dkwJ19_digit_0 ++ []
theorem dksJ19_digit_0 : cJ19_digit.data.toList.drop 0 = dktJ19_digit_0 := by decide +kernel
theorem dJ19_digit_0 : decode cJ19_digit 0 = .ok (.iload_n 0, 1) := dk_26 (dk_at dksJ19_digit_0 0 rfl rfl)
theorem dJ19_digit_1 : decode cJ19_digit 1 = .ok (.iload_n 1, 1) := dk_27 (dk_at dksJ19_digit_0 1 rfl rfl)
theorem dJ19_digit_2 : decode cJ19_digit 2 = .ok (.invokestatic 248, 3) := dk_184 0 248 (dk_at dksJ19_digit_0 2 rfl rfl)
theorem dJ19_digit_5 : decode cJ19_digit 5 = .ok (.ireturn, 1) := dk_172 (dk_at dksJ19_digit_0 5 rfl rfl)
abbrev cJ19_digit_2 : ByteArray := prog_21_method_80_code
def yJ19_digit_2 : MethodName := ⟨RJ19, "digit", "(II)I"⟩
def dkwJ19_digit_2_0 : List UInt8 := [26, 184, 0, 158, 26, 27, 182, 0, 252, 172]
abbrev dktJ19_digit_2_0 : List UInt8 := dkwJ19_digit_2_0 ++ []
theorem dksJ19_digit_2_0 : cJ19_digit_2.data.toList.drop 0 = dktJ19_digit_2_0 := by decide +kernel
theorem dJ19_digit_2_0 : decode cJ19_digit_2 0 = .ok (.iload_n 0, 1) := dk_26 (dk_at dksJ19_digit_2_0 0 rfl rfl)
theorem dJ19_digit_2_1 : decode cJ19_digit_2 1 = .ok (.invokestatic 158, 3) := dk_184 0 158 (dk_at dksJ19_digit_2_0 1 rfl rfl)
theorem dJ19_digit_2_4 : decode cJ19_digit_2 4 = .ok (.iload_n 0, 1) := dk_26 (dk_at dksJ19_digit_2_0 4 rfl rfl)
theorem dJ19_digit_2_5 : decode cJ19_digit_2 5 = .ok (.iload_n 1, 1) := dk_27 (dk_at dksJ19_digit_2_0 5 rfl rfl)
theorem dJ19_digit_2_6 : decode cJ19_digit_2 6 = .ok (.invokevirtual 252, 3) := dk_182 0 252 (dk_at dksJ19_digit_2_0 6 rfl rfl)
theorem dJ19_digit_2_9 : decode cJ19_digit_2 9 = .ok (.ireturn, 1) := dk_172 (dk_at dksJ19_digit_2_0 9 rfl rfl)
theorem q74 : (Jvm.Cond.initialized "java/lang/Character") ∈ lw_all := lw_g (lw_at lw_m1 26 rfl) rfl
theorem q715 : (Jvm.Cond.static ({ cls := "java/lang/Character", name := "digit", desc := "(CI)I" } : Jvm.MethodName)) ∈ lw_all := lw_g (lw_at lw_m3 187 rfl) rfl
theorem q716 : (Jvm.Cond.code ({ cls := "java/lang/Character", name := "digit", desc := "(CI)I" } : Jvm.MethodName) prog_21_method_79_code (2 : Nat) (Option.some Jvm.ClassFile.FieldType.int)) ∈ lw_all := lw_g (lw_at lw_m3 188 rfl) rfl
theorem q717 : (Jvm.Cond.methodLink "java/lang/Character" (248 : Nat) ({ cls := "java/lang/Character", name := "digit", desc := "(II)I" } : Jvm.MethodName)) ∈ lw_all := lw_g (lw_at lw_m3 189 rfl) rfl
theorem q718 : (Jvm.Cond.static ({ cls := "java/lang/Character", name := "digit", desc := "(II)I" } : Jvm.MethodName)) ∈ lw_all := lw_g (lw_at lw_m3 190 rfl) rfl
theorem q719 : (Jvm.Cond.code ({ cls := "java/lang/Character", name := "digit", desc := "(II)I" } : Jvm.MethodName) prog_21_method_80_code (2 : Nat) (Option.some Jvm.ClassFile.FieldType.int)) ∈ lw_all := lw_g (lw_at lw_m3 191 rfl) rfl
theorem q720 : (Jvm.Cond.methodLink "java/lang/Character" (158 : Nat) ({ cls := "java/lang/CharacterData", name := "of", desc := "(I)Ljava/lang/CharacterData;" } : Jvm.MethodName)) ∈ lw_all := lw_g (lw_at lw_m3 192 rfl) rfl
theorem q725 : (Jvm.Cond.methodLink "java/lang/Character" (252 : Nat) ({ cls := "java/lang/CharacterData", name := "digit", desc := "(II)I" } : Jvm.MethodName)) ∈ lw_all := lw_g (lw_at lw_m3 197 rfl) rfl
/-! java/lang/StringBuilder -/
set_option maxRecDepth 100000
def RJ2 : String := "java/lang/StringBuilder"
def TJ2 : u_T := fun k => match k with
  | 0 => ("java/lang/AbstractStringBuilder", "value", "[B", false)
  | 1 => ("java/lang/AbstractStringBuilder", "coder", "B", false)
  | 2 => ("java/lang/AbstractStringBuilder", "maybeLatin1", "Z", false)
  | _ => ("java/lang/AbstractStringBuilder", "count", "I", false)
def tyJ2 : Nat → FieldType := fun k => match k with
  | 0 => .array .byte
  | 1 => .byte
  | 2 => .boolean
  | _ => .int
abbrev wsJ20 : List Cond := u_ws RJ2 TJ2 4
theorem nmJ2 : ∀ a, a < 4 → ∀ b, b < 4 → a ≠ b → (TJ2 a).2.1 ≠ (TJ2 b).2.1 := by decide +kernel
theorem tyJ2_ok : ∀ k, k < 4 → parseFieldDescriptor (TJ2 k).2.2.1 = some (tyJ2 k) := by decide +kernel
abbrev cJ2_init : ByteArray := prog_37_method_1_code
def yJ2_init : MethodName := ⟨RJ2, "<init>", "()V"⟩
def dkwJ2_init_0 : List UInt8 := [42, 16, 16, 183, 0, 1, 177]
abbrev dktJ2_init_0 : List UInt8 := dkwJ2_init_0 ++ []
theorem dksJ2_init_0 : cJ2_init.data.toList.drop 0 = dktJ2_init_0 := by decide +kernel
theorem dJ2_init_0 : decode cJ2_init 0 = .ok (.aload_n 0, 1) := dk_42 (dk_at dksJ2_init_0 0 rfl rfl)
theorem dJ2_init_1 : decode cJ2_init 1 = .ok (.bipush 16, 2) := dk_16 16 (dk_at dksJ2_init_0 1 rfl rfl)
theorem dJ2_init_3 : decode cJ2_init 3 = .ok (.invokespecial 1, 3) := dk_183 0 1 (dk_at dksJ2_init_0 3 rfl rfl)
theorem dJ2_init_6 : decode cJ2_init 6 = .ok (.return_, 1) := dk_177 (dk_at dksJ2_init_0 6 rfl rfl)
abbrev cJ2_append : ByteArray := prog_37_method_14_code
def yJ2_append : MethodName := ⟨RJ2, "append", "(C)Ljava/lang/StringBuilder;"⟩
def dkwJ2_append_0 : List UInt8 := [42, 27, 183, 0, 50, 87, 42, 176]
abbrev dktJ2_append_0 : List UInt8 := dkwJ2_append_0 ++ []
theorem dksJ2_append_0 : cJ2_append.data.toList.drop 0 = dktJ2_append_0 := by decide +kernel
theorem dJ2_append_0 : decode cJ2_append 0 = .ok (.aload_n 0, 1) := dk_42 (dk_at dksJ2_append_0 0 rfl rfl)
theorem dJ2_append_1 : decode cJ2_append 1 = .ok (.iload_n 1, 1) := dk_27 (dk_at dksJ2_append_0 1 rfl rfl)
theorem dJ2_append_2 : decode cJ2_append 2 = .ok (.invokespecial 50, 3) := dk_183 0 50 (dk_at dksJ2_append_0 2 rfl rfl)
theorem dJ2_append_5 : decode cJ2_append 5 = .ok (.pop, 1) := dk_87 (dk_at dksJ2_append_0 5 rfl rfl)
theorem dJ2_append_6 : decode cJ2_append 6 = .ok (.aload_n 0, 1) := dk_42 (dk_at dksJ2_append_0 6 rfl rfl)
theorem dJ2_append_7 : decode cJ2_append 7 = .ok (.areturn, 1) := dk_176 (dk_at dksJ2_append_0 7 rfl rfl)
abbrev cJ2_toString : ByteArray := prog_37_method_42_code
def yJ2_toString : MethodName := ⟨RJ2, "toString", "()Ljava/lang/String;"⟩
def dkwJ2_toString_0 : List UInt8 := [187, 0, 18, 89, 42, 183, 0, 137, 176]
abbrev dktJ2_toString_0 : List UInt8 := dkwJ2_toString_0 ++ []
theorem dksJ2_toString_0 : cJ2_toString.data.toList.drop 0 = dktJ2_toString_0 := by decide +kernel
theorem dJ2_toString_0 : decode cJ2_toString 0 = .ok (.new 18, 3) := dk_187 0 18 (dk_at dksJ2_toString_0 0 rfl rfl)
theorem dJ2_toString_3 : decode cJ2_toString 3 = .ok (.dup, 1) := dk_89 (dk_at dksJ2_toString_0 3 rfl rfl)
theorem dJ2_toString_4 : decode cJ2_toString 4 = .ok (.aload_n 0, 1) := dk_42 (dk_at dksJ2_toString_0 4 rfl rfl)
theorem dJ2_toString_5 : decode cJ2_toString 5 = .ok (.invokespecial 137, 3) := dk_183 0 137 (dk_at dksJ2_toString_0 5 rfl rfl)
theorem dJ2_toString_8 : decode cJ2_toString 8 = .ok (.areturn, 1) := dk_176 (dk_at dksJ2_toString_0 8 rfl rfl)
abbrev cJ2_length : ByteArray := prog_37_method_93_code
def yJ2_length : MethodName := ⟨RJ2, "length", "()I"⟩
theorem dJ2_length_0 : decode cJ2_length 0 = .ok (.aload_n 0, 1) := by decide +kernel
theorem dJ2_length_1 : decode cJ2_length 1 = .ok (.invokespecial 343, 3) := by decide +kernel
theorem dJ2_length_4 : decode cJ2_length 4 = .ok (.ireturn, 1) := by decide +kernel
abbrev cJ2_append_2 : ByteArray := prog_37_method_7_code
def yJ2_append_2 : MethodName := ⟨RJ2, "append", "(Ljava/lang/String;)Ljava/lang/StringBuilder;"⟩
def dkwJ2_append_2_0 : List UInt8 := [42, 43, 183, 0, 29, 87, 42, 176]
abbrev dktJ2_append_2_0 : List UInt8 := dkwJ2_append_2_0 ++ []
theorem dksJ2_append_2_0 : cJ2_append_2.data.toList.drop 0 = dktJ2_append_2_0 := by decide +kernel
theorem dJ2_append_2_0 : decode cJ2_append_2 0 = .ok (.aload_n 0, 1) := dk_42 (dk_at dksJ2_append_2_0 0 rfl rfl)
theorem dJ2_append_2_1 : decode cJ2_append_2 1 = .ok (.aload_n 1, 1) := dk_43 (dk_at dksJ2_append_2_0 1 rfl rfl)
theorem dJ2_append_2_2 : decode cJ2_append_2 2 = .ok (.invokespecial 29, 3) := dk_183 0 29 (dk_at dksJ2_append_2_0 2 rfl rfl)
theorem dJ2_append_2_5 : decode cJ2_append_2 5 = .ok (.pop, 1) := dk_87 (dk_at dksJ2_append_2_0 5 rfl rfl)
theorem dJ2_append_2_6 : decode cJ2_append_2 6 = .ok (.aload_n 0, 1) := dk_42 (dk_at dksJ2_append_2_0 6 rfl rfl)
theorem dJ2_append_2_7 : decode cJ2_append_2 7 = .ok (.areturn, 1) := dk_176 (dk_at dksJ2_append_2_0 7 rfl rfl)
theorem q56 : (Jvm.Cond.initialized "java/lang/StringBuilder") ∈ lw_all := lw_g (lw_at lw_m1 8 rfl) rfl
theorem q289 : (Jvm.Cond.instantiable "java/lang/StringBuilder" (4 : Nat)) ∈ lw_all := lw_g (lw_at lw_m2 1 rfl) rfl
theorem q291 : (Jvm.Cond.instanceMethod ({ cls := "java/lang/StringBuilder", name := "<init>", desc := "()V" } : Jvm.MethodName)) ∈ lw_all := lw_g (lw_at lw_m2 3 rfl) rfl
theorem q292 : (Jvm.Cond.code ({ cls := "java/lang/StringBuilder", name := "<init>", desc := "()V" } : Jvm.MethodName) prog_37_method_1_code (1 : Nat) (Option.none : Option Jvm.ClassFile.FieldType)) ∈ lw_all := lw_g (lw_at lw_m2 4 rfl) rfl
theorem q293 : (Jvm.Cond.methodLink "java/lang/StringBuilder" (1 : Nat) ({ cls := "java/lang/AbstractStringBuilder", name := "<init>", desc := "(I)V" } : Jvm.MethodName)) ∈ lw_all := lw_g (lw_at lw_m2 5 rfl) rfl
theorem q310 : (Jvm.Cond.lays "java/lang/StringBuilder" "java/lang/AbstractStringBuilder" "value" "[B") ∈ lw_all := lw_g (lw_at lw_m2 22 rfl) rfl
theorem q312 : (Jvm.Cond.lays "java/lang/StringBuilder" "java/lang/AbstractStringBuilder" "coder" "B") ∈ lw_all := lw_g (lw_at lw_m2 24 rfl) rfl
theorem q314 : (Jvm.Cond.lays "java/lang/StringBuilder" "java/lang/AbstractStringBuilder" "maybeLatin1" "Z") ∈ lw_all := lw_g (lw_at lw_m2 26 rfl) rfl
theorem q316 : (Jvm.Cond.lays "java/lang/StringBuilder" "java/lang/AbstractStringBuilder" "count" "I") ∈ lw_all := lw_g (lw_at lw_m2 28 rfl) rfl
theorem q318 : (Jvm.Cond.superclass "java/lang/StringBuilder" "java/lang/AbstractStringBuilder") ∈ lw_all := lw_g (lw_at lw_m2 30 rfl) rfl
theorem q320 : (Jvm.Cond.instanceMethod ({ cls := "java/lang/StringBuilder", name := "append", desc := "(C)Ljava/lang/StringBuilder;" } : Jvm.MethodName)) ∈ lw_all := lw_g (lw_at lw_m2 32 rfl) rfl
theorem q321 : (Jvm.Cond.selects "java/lang/StringBuilder" ({ cls := "java/lang/StringBuilder", name := "append", desc := "(C)Ljava/lang/StringBuilder;" } : Jvm.MethodName) ({ cls := "java/lang/StringBuilder", name := "append", desc := "(C)Ljava/lang/StringBuilder;" } : Jvm.MethodName)) ∈ lw_all := lw_g (lw_at lw_m2 33 rfl) rfl
theorem q322 : (Jvm.Cond.code ({ cls := "java/lang/StringBuilder", name := "append", desc := "(C)Ljava/lang/StringBuilder;" } : Jvm.MethodName) prog_37_method_14_code (2 : Nat) (Option.some (Jvm.ClassFile.FieldType.object "java/lang/StringBuilder"))) ∈ lw_all := lw_g (lw_at lw_m2 34 rfl) rfl
theorem q323 : (Jvm.Cond.methodLink "java/lang/StringBuilder" (50 : Nat) ({ cls := "java/lang/AbstractStringBuilder", name := "append", desc := "(C)Ljava/lang/AbstractStringBuilder;" } : Jvm.MethodName)) ∈ lw_all := lw_g (lw_at lw_m2 35 rfl) rfl
theorem q362 : (Jvm.Cond.selects "java/lang/StringBuilder" ({ cls := "java/lang/AbstractStringBuilder", name := "isLatin1", desc := "()Z" } : Jvm.MethodName) ({ cls := "java/lang/AbstractStringBuilder", name := "isLatin1", desc := "()Z" } : Jvm.MethodName)) ∈ lw_all := lw_g (lw_at lw_m2 74 rfl) rfl
theorem q413 : (Jvm.Cond.instanceMethod ({ cls := "java/lang/StringBuilder", name := "toString", desc := "()Ljava/lang/String;" } : Jvm.MethodName)) ∈ lw_all := lw_g (lw_at lw_m2 125 rfl) rfl
theorem q414 : (Jvm.Cond.selects "java/lang/StringBuilder" ({ cls := "java/lang/StringBuilder", name := "toString", desc := "()Ljava/lang/String;" } : Jvm.MethodName) ({ cls := "java/lang/StringBuilder", name := "toString", desc := "()Ljava/lang/String;" } : Jvm.MethodName)) ∈ lw_all := lw_g (lw_at lw_m2 126 rfl) rfl
theorem q415 : (Jvm.Cond.code ({ cls := "java/lang/StringBuilder", name := "toString", desc := "()Ljava/lang/String;" } : Jvm.MethodName) prog_37_method_42_code (1 : Nat) (Option.some (Jvm.ClassFile.FieldType.object "java/lang/String"))) ∈ lw_all := lw_g (lw_at lw_m2 127 rfl) rfl
theorem q416 : (Jvm.Cond.classLink "java/lang/StringBuilder" (18 : Nat) "java/lang/String") ∈ lw_all := lw_g (lw_at lw_m2 128 rfl) rfl
theorem q418 : (Jvm.Cond.methodLink "java/lang/StringBuilder" (137 : Nat) ({ cls := "java/lang/String", name := "<init>", desc := "(Ljava/lang/StringBuilder;)V" } : Jvm.MethodName)) ∈ lw_all := lw_g (lw_at lw_m2 130 rfl) rfl
theorem q428 : (Jvm.Cond.selects "java/lang/StringBuilder" ({ cls := "java/lang/AbstractStringBuilder", name := "getValue", desc := "()[B" } : Jvm.MethodName) ({ cls := "java/lang/AbstractStringBuilder", name := "getValue", desc := "()[B" } : Jvm.MethodName)) ∈ lw_all := lw_g (lw_at lw_m2 140 rfl) rfl
theorem q433 : (Jvm.Cond.selects "java/lang/StringBuilder" ({ cls := "java/lang/AbstractStringBuilder", name := "length", desc := "()I" } : Jvm.MethodName) ({ cls := "java/lang/StringBuilder", name := "length", desc := "()I" } : Jvm.MethodName)) ∈ lw_all := lw_g (lw_at lw_m2 145 rfl) rfl
theorem q434 : (Jvm.Cond.instanceMethod ({ cls := "java/lang/StringBuilder", name := "length", desc := "()I" } : Jvm.MethodName)) ∈ lw_all := lw_g (lw_at lw_m2 146 rfl) rfl
theorem q435 : (Jvm.Cond.code ({ cls := "java/lang/StringBuilder", name := "length", desc := "()I" } : Jvm.MethodName) prog_37_method_93_code (1 : Nat) (Option.some Jvm.ClassFile.FieldType.int)) ∈ lw_all := lw_g (lw_at lw_m2 147 rfl) rfl
theorem q436 : (Jvm.Cond.methodLink "java/lang/StringBuilder" (343 : Nat) ({ cls := "java/lang/AbstractStringBuilder", name := "length", desc := "()I" } : Jvm.MethodName)) ∈ lw_all := lw_g (lw_at lw_m2 148 rfl) rfl
theorem q639 : (Jvm.Cond.selects "java/lang/StringBuilder" ({ cls := "java/lang/Object", name := "equals", desc := "(Ljava/lang/Object;)Z" } : Jvm.MethodName) ({ cls := "java/lang/Object", name := "equals", desc := "(Ljava/lang/Object;)Z" } : Jvm.MethodName)) ∈ lw_all := lw_g (lw_at lw_m3 111 rfl) rfl
theorem q1439 : (Jvm.Cond.selects "java/lang/StringBuilder" ({ cls := "java/lang/Object", name := "getClass", desc := "()Ljava/lang/Class;" } : Jvm.MethodName) ({ cls := "java/lang/Object", name := "getClass", desc := "()Ljava/lang/Class;" } : Jvm.MethodName)) ∈ lw_all := lw_g (lw_at lw_m6 191 rfl) rfl
theorem q1475 : (Jvm.Cond.instanceMethod ({ cls := "java/lang/StringBuilder", name := "append", desc := "(Ljava/lang/String;)Ljava/lang/StringBuilder;" } : Jvm.MethodName)) ∈ lw_all := lw_g (lw_at lw_m6 227 rfl) rfl
theorem q1476 : (Jvm.Cond.selects "java/lang/StringBuilder" ({ cls := "java/lang/StringBuilder", name := "append", desc := "(Ljava/lang/String;)Ljava/lang/StringBuilder;" } : Jvm.MethodName) ({ cls := "java/lang/StringBuilder", name := "append", desc := "(Ljava/lang/String;)Ljava/lang/StringBuilder;" } : Jvm.MethodName)) ∈ lw_all := lw_g (lw_at lw_m6 228 rfl) rfl
theorem q1477 : (Jvm.Cond.code ({ cls := "java/lang/StringBuilder", name := "append", desc := "(Ljava/lang/String;)Ljava/lang/StringBuilder;" } : Jvm.MethodName) prog_37_method_7_code (2 : Nat) (Option.some (Jvm.ClassFile.FieldType.object "java/lang/StringBuilder"))) ∈ lw_all := lw_g (lw_at lw_m6 229 rfl) rfl
theorem q1478 : (Jvm.Cond.methodLink "java/lang/StringBuilder" (29 : Nat) ({ cls := "java/lang/AbstractStringBuilder", name := "append", desc := "(Ljava/lang/String;)Ljava/lang/AbstractStringBuilder;" } : Jvm.MethodName)) ∈ lw_all := lw_g (lw_at lw_m6 230 rfl) rfl
theorem q2210 : (Jvm.Cond.castable "java/lang/StringBuilder" "java/lang/Object") ∈ lw_tbl := lw_at lw_m10 2 rfl
theorem in_J2 : ∀ w ∈ wsJ20, w ∈ lw_all := lw_in wsJ20 [310, 312, 314, 316] (by decide +kernel) (by decide +kernel)
/-! java/lang/CharacterData -/
set_option maxRecDepth 100000
def RJ20 : String := "java/lang/CharacterData"
abbrev cJ20_of : ByteArray := prog_22_method_30_code
def yJ20_of : MethodName := ⟨RJ20, "of", "(I)Ljava/lang/CharacterData;"⟩
def dkwJ20_of_3 : List UInt8 := [178, 0, 35, 167, 0, 12, 178, 0, 38, 167, 0, 6, 178, 0, 41, 176]
abbrev dktJ20_of_3 : List UInt8 := dkwJ20_of_3 ++ []
def dkwJ20_of_2 : List UInt8 := [178, 0, 19, 167, 0, 36, 178, 0, 24, 167, 0, 30, 178, 0, 29, 167, 0, 24, 178, 0, 32, 167, 0, 18]
abbrev dktJ20_of_2 : List UInt8 := dkwJ20_of_2 ++ dktJ20_of_3
def dkwJ20_of_1 : List UInt8 := [170, 0, 0, 0, 117, 0, 0, 0, 0, 0, 0, 0, 16, 0, 0, 0, 81, 0, 0, 0, 87, 0, 0, 0, 93, 0, 0, 0, 99, 0, 0, 0, 117, 0, 0, 0, 117, 0, 0, 0, 117, 0, 0, 0, 117, 0, 0, 0, 117, 0, 0, 0, 117, 0, 0, 0, 117, 0, 0, 0, 117, 0, 0, 0, 117, 0, 0, 0, 117, 0, 0, 0, 105, 0, 0, 0, 111, 0, 0, 0, 111]
abbrev dktJ20_of_1 : List UInt8 := dkwJ20_of_1 ++ dktJ20_of_2
def dkwJ20_of_0 : List UInt8 := [26, 16, 8, 124, 154, 0, 7, 178, 0, 13, 176, 26, 16, 16, 124]
abbrev dktJ20_of_0 : List UInt8 := dkwJ20_of_0 ++ dktJ20_of_1
theorem dksJ20_of_0 : cJ20_of.data.toList.drop 0 = dktJ20_of_0 := by decide +kernel
theorem dksJ20_of_1 : cJ20_of.data.toList.drop 15 = dktJ20_of_1 := dk_seg dksJ20_of_0 15 rfl rfl
theorem dksJ20_of_2 : cJ20_of.data.toList.drop 96 = dktJ20_of_2 := dk_seg dksJ20_of_1 81 rfl rfl
theorem dksJ20_of_3 : cJ20_of.data.toList.drop 120 = dktJ20_of_3 := dk_seg dksJ20_of_2 24 rfl rfl
theorem dJ20_of_0 : decode cJ20_of 0 = .ok (.iload_n 0, 1) := dk_26 (dk_at dksJ20_of_0 0 rfl rfl)
theorem dJ20_of_1 : decode cJ20_of 1 = .ok (.bipush 8, 2) := dk_16 8 (dk_at dksJ20_of_0 1 rfl rfl)
theorem dJ20_of_3 : decode cJ20_of 3 = .ok (.iushr, 1) := dk_124 (dk_at dksJ20_of_0 3 rfl rfl)
theorem dJ20_of_4 : decode cJ20_of 4 = .ok (.ifCond .ne 7, 3) := dk_154 0 7 (dk_at dksJ20_of_0 4 rfl rfl)
theorem dJ20_of_7 : decode cJ20_of 7 = .ok (.getstatic 13, 3) := dk_178 0 13 (dk_at dksJ20_of_0 7 rfl rfl)
theorem dJ20_of_10 : decode cJ20_of 10 = .ok (.areturn, 1) := dk_176 (dk_at dksJ20_of_0 10 rfl rfl)
theorem dJ20_of_11 : decode cJ20_of 11 = .ok (.iload_n 0, 1) := dk_26 (dk_at dksJ20_of_0 11 rfl rfl)
theorem dJ20_of_12 : decode cJ20_of 12 = .ok (.bipush 16, 2) := dk_16 16 (dk_at dksJ20_of_0 12 rfl rfl)
theorem dJ20_of_14 : decode cJ20_of 14 = .ok (.iushr, 1) := dk_124 (dk_at dksJ20_of_0 14 rfl rfl)
theorem dJ20_of_15 : decode cJ20_of 15 = .ok (.tableswitch 117 0 16 #[81, 87, 93, 99, 117, 117, 117, 117, 117, 117, 117, 117, 117, 117, 105, 111, 111], 81) := by decide +kernel
theorem dJ20_of_96 : decode cJ20_of 96 = .ok (.getstatic 19, 3) := dk_178 0 19 (dk_at dksJ20_of_2 0 rfl rfl)
theorem dJ20_of_99 : decode cJ20_of 99 = .ok (.goto 36, 3) := dk_167 0 36 (dk_at dksJ20_of_2 3 rfl rfl)
theorem dJ20_of_102 : decode cJ20_of 102 = .ok (.getstatic 24, 3) := dk_178 0 24 (dk_at dksJ20_of_2 6 rfl rfl)
theorem dJ20_of_105 : decode cJ20_of 105 = .ok (.goto 30, 3) := dk_167 0 30 (dk_at dksJ20_of_2 9 rfl rfl)
theorem dJ20_of_108 : decode cJ20_of 108 = .ok (.getstatic 29, 3) := dk_178 0 29 (dk_at dksJ20_of_2 12 rfl rfl)
theorem dJ20_of_111 : decode cJ20_of 111 = .ok (.goto 24, 3) := dk_167 0 24 (dk_at dksJ20_of_2 15 rfl rfl)
theorem dJ20_of_114 : decode cJ20_of 114 = .ok (.getstatic 32, 3) := dk_178 0 32 (dk_at dksJ20_of_2 18 rfl rfl)
theorem dJ20_of_117 : decode cJ20_of 117 = .ok (.goto 18, 3) := dk_167 0 18 (dk_at dksJ20_of_2 21 rfl rfl)
theorem dJ20_of_120 : decode cJ20_of 120 = .ok (.getstatic 35, 3) := dk_178 0 35 (dk_at dksJ20_of_3 0 rfl rfl)
theorem dJ20_of_123 : decode cJ20_of 123 = .ok (.goto 12, 3) := dk_167 0 12 (dk_at dksJ20_of_3 3 rfl rfl)
theorem dJ20_of_126 : decode cJ20_of 126 = .ok (.getstatic 38, 3) := dk_178 0 38 (dk_at dksJ20_of_3 6 rfl rfl)
theorem dJ20_of_129 : decode cJ20_of 129 = .ok (.goto 6, 3) := dk_167 0 6 (dk_at dksJ20_of_3 9 rfl rfl)
theorem dJ20_of_132 : decode cJ20_of 132 = .ok (.getstatic 41, 3) := dk_178 0 41 (dk_at dksJ20_of_3 12 rfl rfl)
theorem dJ20_of_135 : decode cJ20_of 135 = .ok (.areturn, 1) := dk_176 (dk_at dksJ20_of_3 15 rfl rfl)
theorem q75 : (Jvm.Cond.initialized "java/lang/CharacterData") ∈ lw_all := lw_g (lw_at lw_m1 27 rfl) rfl
theorem q721 : (Jvm.Cond.static ({ cls := "java/lang/CharacterData", name := "of", desc := "(I)Ljava/lang/CharacterData;" } : Jvm.MethodName)) ∈ lw_all := lw_g (lw_at lw_m3 193 rfl) rfl
theorem q722 : (Jvm.Cond.code ({ cls := "java/lang/CharacterData", name := "of", desc := "(I)Ljava/lang/CharacterData;" } : Jvm.MethodName) prog_22_method_30_code (1 : Nat) (Option.some (Jvm.ClassFile.FieldType.object "java/lang/CharacterData"))) ∈ lw_all := lw_g (lw_at lw_m3 194 rfl) rfl
theorem q723 : (Jvm.Cond.fieldLink "java/lang/CharacterData" (13 : Nat) "java/lang/CharacterDataLatin1" "instance" "Ljava/lang/CharacterDataLatin1;") ∈ lw_all := lw_g (lw_at lw_m3 195 rfl) rfl
theorem q726 : (Jvm.Cond.declares ({ cls := "java/lang/CharacterData", name := "digit", desc := "(II)I" } : Jvm.MethodName)) ∈ lw_tbl := lw_at lw_m3 198 rfl
theorem q727 : (Jvm.Cond.sameMethod "java/lang/CharacterData" "java/lang/CharacterData" "digit" "(II)I") ∈ lw_all := lw_g (lw_at lw_m3 199 rfl) rfl
/-! java/lang/CharacterDataLatin1 -/
set_option maxRecDepth 100000
def RJ21 : String := "java/lang/CharacterDataLatin1"
abbrev cJ21_digit : ByteArray := prog_23_method_24_code
def yJ21_digit : MethodName := ⟨RJ21, "digit", "(II)I"⟩
def dkwJ21_digit_1 : List UInt8 := [163, 0, 7, 29, 167, 0, 4, 2, 172]
abbrev dktJ21_digit_1 : List UInt8 := dkwJ21_digit_1 ++ []
def dkwJ21_digit_0 : List UInt8 := [178, 0, 25, 27, 51, 62, 29, 155, 0, 23, 29, 28, 162, 0, 18, 28, 5, 161, 0, 13, 28, 16, 36]
abbrev dktJ21_digit_0 : List UInt8 := dkwJ21_digit_0 ++ dktJ21_digit_1
theorem dksJ21_digit_0 : cJ21_digit.data.toList.drop 0 = dktJ21_digit_0 := by decide +kernel
theorem dksJ21_digit_1 : cJ21_digit.data.toList.drop 23 = dktJ21_digit_1 := dk_seg dksJ21_digit_0 23 rfl rfl
theorem dJ21_digit_0 : decode cJ21_digit 0 = .ok (.getstatic 25, 3) := dk_178 0 25 (dk_at dksJ21_digit_0 0 rfl rfl)
theorem dJ21_digit_3 : decode cJ21_digit 3 = .ok (.iload_n 1, 1) := dk_27 (dk_at dksJ21_digit_0 3 rfl rfl)
theorem dJ21_digit_4 : decode cJ21_digit 4 = .ok (.baload, 1) := dk_51 (dk_at dksJ21_digit_0 4 rfl rfl)
theorem dJ21_digit_5 : decode cJ21_digit 5 = .ok (.istore_n 3, 1) := dk_62 (dk_at dksJ21_digit_0 5 rfl rfl)
theorem dJ21_digit_6 : decode cJ21_digit 6 = .ok (.iload_n 3, 1) := dk_29 (dk_at dksJ21_digit_0 6 rfl rfl)
theorem dJ21_digit_7 : decode cJ21_digit 7 = .ok (.ifCond .lt 23, 3) := dk_155 0 23 (dk_at dksJ21_digit_0 7 rfl rfl)
theorem dJ21_digit_10 : decode cJ21_digit 10 = .ok (.iload_n 3, 1) := dk_29 (dk_at dksJ21_digit_0 10 rfl rfl)
theorem dJ21_digit_11 : decode cJ21_digit 11 = .ok (.iload_n 2, 1) := dk_28 (dk_at dksJ21_digit_0 11 rfl rfl)
theorem dJ21_digit_12 : decode cJ21_digit 12 = .ok (.if_icmp .ge 18, 3) := dk_162 0 18 (dk_at dksJ21_digit_0 12 rfl rfl)
theorem dJ21_digit_15 : decode cJ21_digit 15 = .ok (.iload_n 2, 1) := dk_28 (dk_at dksJ21_digit_0 15 rfl rfl)
theorem dJ21_digit_16 : decode cJ21_digit 16 = .ok (.iconst 2, 1) := dk_5 (dk_at dksJ21_digit_0 16 rfl rfl)
theorem dJ21_digit_17 : decode cJ21_digit 17 = .ok (.if_icmp .lt 13, 3) := dk_161 0 13 (dk_at dksJ21_digit_0 17 rfl rfl)
theorem dJ21_digit_20 : decode cJ21_digit 20 = .ok (.iload_n 2, 1) := dk_28 (dk_at dksJ21_digit_0 20 rfl rfl)
theorem dJ21_digit_21 : decode cJ21_digit 21 = .ok (.bipush 36, 2) := dk_16 36 (dk_at dksJ21_digit_0 21 rfl rfl)
theorem dJ21_digit_23 : decode cJ21_digit 23 = .ok (.if_icmp .gt 7, 3) := dk_163 0 7 (dk_at dksJ21_digit_1 0 rfl rfl)
theorem dJ21_digit_26 : decode cJ21_digit 26 = .ok (.iload_n 3, 1) := dk_29 (dk_at dksJ21_digit_1 3 rfl rfl)
theorem dJ21_digit_27 : decode cJ21_digit 27 = .ok (.goto 4, 3) := dk_167 0 4 (dk_at dksJ21_digit_1 4 rfl rfl)
theorem dJ21_digit_30 : decode cJ21_digit 30 = .ok (.iconst (-1), 1) := dk_2 (dk_at dksJ21_digit_1 7 rfl rfl)
theorem dJ21_digit_31 : decode cJ21_digit 31 = .ok (.ireturn, 1) := dk_172 (dk_at dksJ21_digit_1 8 rfl rfl)
theorem q76 : (Jvm.Cond.initialized "java/lang/CharacterDataLatin1") ∈ lw_all := lw_g (lw_at lw_m1 28 rfl) rfl
theorem q620 : (Jvm.Cond.selects "java/lang/CharacterDataLatin1" ({ cls := "java/lang/Object", name := "equals", desc := "(Ljava/lang/Object;)Z" } : Jvm.MethodName) ({ cls := "java/lang/Object", name := "equals", desc := "(Ljava/lang/Object;)Z" } : Jvm.MethodName)) ∈ lw_all := lw_g (lw_at lw_m3 92 rfl) rfl
theorem q724 : (Jvm.Cond.laysStatic "java/lang/CharacterDataLatin1" "instance" "Ljava/lang/CharacterDataLatin1;") ∈ lw_tbl := lw_at lw_m3 196 rfl
theorem q728 : (Jvm.Cond.selects "java/lang/CharacterDataLatin1" ({ cls := "java/lang/CharacterData", name := "digit", desc := "(II)I" } : Jvm.MethodName) ({ cls := "java/lang/CharacterDataLatin1", name := "digit", desc := "(II)I" } : Jvm.MethodName)) ∈ lw_all := lw_g (lw_at lw_m3 200 rfl) rfl
theorem q729 : (Jvm.Cond.instanceMethod ({ cls := "java/lang/CharacterDataLatin1", name := "digit", desc := "(II)I" } : Jvm.MethodName)) ∈ lw_all := lw_g (lw_at lw_m3 201 rfl) rfl
theorem q730 : (Jvm.Cond.code ({ cls := "java/lang/CharacterDataLatin1", name := "digit", desc := "(II)I" } : Jvm.MethodName) prog_23_method_24_code (4 : Nat) (Option.some Jvm.ClassFile.FieldType.int)) ∈ lw_all := lw_g (lw_at lw_m3 202 rfl) rfl
theorem q731 : (Jvm.Cond.fieldLink "java/lang/CharacterDataLatin1" (25 : Nat) "java/lang/CharacterDataLatin1" "DIGITS" "[B") ∈ lw_all := lw_g (lw_at lw_m3 203 rfl) rfl
theorem q732 : (Jvm.Cond.laysStatic "java/lang/CharacterDataLatin1" "DIGITS" "[B") ∈ lw_tbl := lw_at lw_m3 204 rfl
theorem q1433 : (Jvm.Cond.selects "java/lang/CharacterDataLatin1" ({ cls := "java/lang/Object", name := "getClass", desc := "()Ljava/lang/Class;" } : Jvm.MethodName) ({ cls := "java/lang/Object", name := "getClass", desc := "()Ljava/lang/Class;" } : Jvm.MethodName)) ∈ lw_all := lw_g (lw_at lw_m6 185 rfl) rfl
theorem q2214 : (Jvm.Cond.castable "java/lang/CharacterDataLatin1" "java/lang/Object") ∈ lw_tbl := lw_at lw_m10 6 rfl
/-! java/lang/ClassCastException -/
set_option maxRecDepth 100000
def RJ22 : String := "java/lang/ClassCastException"
def TJ22 : u_T := fun k => match k with
  | 0 => ("java/lang/Throwable", "backtrace", "Ljava/lang/Object;", false)
  | 1 => ("java/lang/Throwable", "detailMessage", "Ljava/lang/String;", false)
  | 2 => ("java/lang/Throwable", "cause", "Ljava/lang/Throwable;", false)
  | 3 => ("java/lang/Throwable", "stackTrace", "[Ljava/lang/StackTraceElement;", false)
  | 4 => ("java/lang/Throwable", "depth", "I", false)
  | _ => ("java/lang/Throwable", "suppressedExceptions", "Ljava/util/List;", false)
def tyJ22 : Nat → FieldType := fun k => match k with
  | 0 => .object "java/lang/Object"
  | 1 => .object "java/lang/String"
  | 2 => .object "java/lang/Throwable"
  | 3 => .array (.object "java/lang/StackTraceElement")
  | 4 => .int
  | _ => .object "java/util/List"
abbrev wsJ220 : List Cond := u_ws RJ22 TJ22 6
theorem nmJ22 : ∀ a, a < 6 → ∀ b, b < 6 → a ≠ b → (TJ22 a).2.1 ≠ (TJ22 b).2.1 := by decide +kernel
theorem tyJ22_ok : ∀ k, k < 6 → parseFieldDescriptor (TJ22 k).2.2.1 = some (tyJ22 k) := by decide +kernel
abbrev cJ22_init : ByteArray := prog_24_method_2_code
def yJ22_init : MethodName := ⟨RJ22, "<init>", "(Ljava/lang/String;)V"⟩
def dkwJ22_init_0 : List UInt8 := [42, 43, 183, 0, 7, 177]
abbrev dktJ22_init_0 : List UInt8 := dkwJ22_init_0 ++ []
theorem dksJ22_init_0 : cJ22_init.data.toList.drop 0 = dktJ22_init_0 := by decide +kernel
theorem dJ22_init_0 : decode cJ22_init 0 = .ok (.aload_n 0, 1) := dk_42 (dk_at dksJ22_init_0 0 rfl rfl)
theorem dJ22_init_1 : decode cJ22_init 1 = .ok (.aload_n 1, 1) := dk_43 (dk_at dksJ22_init_0 1 rfl rfl)
theorem dJ22_init_2 : decode cJ22_init 2 = .ok (.invokespecial 7, 3) := dk_183 0 7 (dk_at dksJ22_init_0 2 rfl rfl)
theorem dJ22_init_5 : decode cJ22_init 5 = .ok (.return_, 1) := dk_177 (dk_at dksJ22_init_0 5 rfl rfl)
theorem q83 : (Jvm.Cond.initialized "java/lang/ClassCastException") ∈ lw_all := lw_g (lw_at lw_m1 35 rfl) rfl
theorem q526 : (Jvm.Cond.selects "java/lang/ClassCastException" ({ cls := "java/lang/Throwable", name := "fillInStackTrace", desc := "()Ljava/lang/Throwable;" } : Jvm.MethodName) ({ cls := "java/lang/Throwable", name := "fillInStackTrace", desc := "()Ljava/lang/Throwable;" } : Jvm.MethodName)) ∈ lw_all := lw_g (lw_at lw_m2 238 rfl) rfl
theorem q621 : (Jvm.Cond.selects "java/lang/ClassCastException" ({ cls := "java/lang/Object", name := "equals", desc := "(Ljava/lang/Object;)Z" } : Jvm.MethodName) ({ cls := "java/lang/Object", name := "equals", desc := "(Ljava/lang/Object;)Z" } : Jvm.MethodName)) ∈ lw_all := lw_g (lw_at lw_m3 93 rfl) rfl
theorem q889 : (Jvm.Cond.instantiable "java/lang/ClassCastException" (6 : Nat)) ∈ lw_all := lw_g (lw_at lw_m4 121 rfl) rfl
theorem q890 : (Jvm.Cond.instanceMethod ({ cls := "java/lang/ClassCastException", name := "<init>", desc := "(Ljava/lang/String;)V" } : Jvm.MethodName)) ∈ lw_all := lw_g (lw_at lw_m4 122 rfl) rfl
theorem q891 : (Jvm.Cond.code ({ cls := "java/lang/ClassCastException", name := "<init>", desc := "(Ljava/lang/String;)V" } : Jvm.MethodName) prog_24_method_2_code (2 : Nat) (Option.none : Option Jvm.ClassFile.FieldType)) ∈ lw_all := lw_g (lw_at lw_m4 123 rfl) rfl
theorem q892 : (Jvm.Cond.methodLink "java/lang/ClassCastException" (7 : Nat) ({ cls := "java/lang/RuntimeException", name := "<init>", desc := "(Ljava/lang/String;)V" } : Jvm.MethodName)) ∈ lw_all := lw_g (lw_at lw_m4 124 rfl) rfl
theorem q901 : (Jvm.Cond.lays "java/lang/ClassCastException" "java/lang/Throwable" "backtrace" "Ljava/lang/Object;") ∈ lw_all := lw_g (lw_at lw_m4 133 rfl) rfl
theorem q902 : (Jvm.Cond.lays "java/lang/ClassCastException" "java/lang/Throwable" "detailMessage" "Ljava/lang/String;") ∈ lw_all := lw_g (lw_at lw_m4 134 rfl) rfl
theorem q903 : (Jvm.Cond.lays "java/lang/ClassCastException" "java/lang/Throwable" "cause" "Ljava/lang/Throwable;") ∈ lw_all := lw_g (lw_at lw_m4 135 rfl) rfl
theorem q904 : (Jvm.Cond.lays "java/lang/ClassCastException" "java/lang/Throwable" "stackTrace" "[Ljava/lang/StackTraceElement;") ∈ lw_all := lw_g (lw_at lw_m4 136 rfl) rfl
theorem q905 : (Jvm.Cond.lays "java/lang/ClassCastException" "java/lang/Throwable" "depth" "I") ∈ lw_all := lw_g (lw_at lw_m4 137 rfl) rfl
theorem q906 : (Jvm.Cond.lays "java/lang/ClassCastException" "java/lang/Throwable" "suppressedExceptions" "Ljava/util/List;") ∈ lw_all := lw_g (lw_at lw_m4 138 rfl) rfl
theorem q907 : (Jvm.Cond.superclass "java/lang/ClassCastException" "java/lang/RuntimeException") ∈ lw_all := lw_g (lw_at lw_m4 139 rfl) rfl
theorem q908 : (Jvm.Cond.castable "java/lang/ClassCastException" "java/lang/ClassCastException") ∈ lw_tbl := lw_at lw_m4 140 rfl
theorem q909 : (Jvm.Cond.selects "java/lang/ClassCastException" ({ cls := "java/lang/Throwable", name := "fillInStackTrace", desc := "(I)Ljava/lang/Throwable;" } : Jvm.MethodName) ({ cls := "java/lang/Throwable", name := "fillInStackTrace", desc := "(I)Ljava/lang/Throwable;" } : Jvm.MethodName)) ∈ lw_all := lw_g (lw_at lw_m4 141 rfl) rfl
theorem q1413 : (Jvm.Cond.selects "java/lang/ClassCastException" ({ cls := "java/lang/Throwable", name := "toString", desc := "()Ljava/lang/String;" } : Jvm.MethodName) ({ cls := "java/lang/Throwable", name := "toString", desc := "()Ljava/lang/String;" } : Jvm.MethodName)) ∈ lw_all := lw_g (lw_at lw_m6 165 rfl) rfl
theorem q1434 : (Jvm.Cond.selects "java/lang/ClassCastException" ({ cls := "java/lang/Object", name := "getClass", desc := "()Ljava/lang/Class;" } : Jvm.MethodName) ({ cls := "java/lang/Object", name := "getClass", desc := "()Ljava/lang/Class;" } : Jvm.MethodName)) ∈ lw_all := lw_g (lw_at lw_m6 186 rfl) rfl
theorem q1451 : (Jvm.Cond.selects "java/lang/ClassCastException" ({ cls := "java/lang/Throwable", name := "getLocalizedMessage", desc := "()Ljava/lang/String;" } : Jvm.MethodName) ({ cls := "java/lang/Throwable", name := "getLocalizedMessage", desc := "()Ljava/lang/String;" } : Jvm.MethodName)) ∈ lw_all := lw_g (lw_at lw_m6 203 rfl) rfl
theorem q1461 : (Jvm.Cond.selects "java/lang/ClassCastException" ({ cls := "java/lang/Throwable", name := "getMessage", desc := "()Ljava/lang/String;" } : Jvm.MethodName) ({ cls := "java/lang/Throwable", name := "getMessage", desc := "()Ljava/lang/String;" } : Jvm.MethodName)) ∈ lw_all := lw_g (lw_at lw_m6 213 rfl) rfl
theorem q2220 : (Jvm.Cond.castable "java/lang/ClassCastException" "java/lang/Object") ∈ lw_tbl := lw_at lw_m10 12 rfl
theorem in_J22 : ∀ w ∈ wsJ220, w ∈ lw_all := lw_in wsJ220 [901, 902, 903, 904, 905, 906] (by decide +kernel) (by decide +kernel)
/-! java/util/ArrayList -/
set_option maxRecDepth 100000
def RJ23 : String := "java/util/ArrayList"
def TJ23 : u_T := fun k => match k with
  | 0 => ("java/util/AbstractList", "modCount", "I", false)
  | 1 => ("java/util/ArrayList", "elementData", "[Ljava/lang/Object;", false)
  | _ => ("java/util/ArrayList", "size", "I", false)
def tyJ23 : Nat → FieldType := fun k => match k with
  | 0 => .int
  | 1 => .array (.object "java/lang/Object")
  | _ => .int
abbrev wsJ230 : List Cond := u_ws RJ23 TJ23 3
theorem nmJ23 : ∀ a, a < 3 → ∀ b, b < 3 → a ≠ b → (TJ23 a).2.1 ≠ (TJ23 b).2.1 := by decide +kernel
theorem tyJ23_ok : ∀ k, k < 3 → parseFieldDescriptor (TJ23 k).2.2.1 = some (tyJ23 k) := by decide +kernel
abbrev cJ23_indexOf : ByteArray := prog_48_method_11_code
def yJ23_indexOf : MethodName := ⟨RJ23, "indexOf", "(Ljava/lang/Object;)I"⟩
def dkwJ23_indexOf_0 : List UInt8 := [42, 43, 3, 42, 180, 0, 48, 182, 0, 89, 172]
abbrev dktJ23_indexOf_0 : List UInt8 := dkwJ23_indexOf_0 ++ []
theorem dksJ23_indexOf_0 : cJ23_indexOf.data.toList.drop 0 = dktJ23_indexOf_0 := by decide +kernel
theorem dJ23_indexOf_0 : decode cJ23_indexOf 0 = .ok (.aload_n 0, 1) := dk_42 (dk_at dksJ23_indexOf_0 0 rfl rfl)
theorem dJ23_indexOf_1 : decode cJ23_indexOf 1 = .ok (.aload_n 1, 1) := dk_43 (dk_at dksJ23_indexOf_0 1 rfl rfl)
theorem dJ23_indexOf_2 : decode cJ23_indexOf 2 = .ok (.iconst 0, 1) := dk_3 (dk_at dksJ23_indexOf_0 2 rfl rfl)
theorem dJ23_indexOf_3 : decode cJ23_indexOf 3 = .ok (.aload_n 0, 1) := dk_42 (dk_at dksJ23_indexOf_0 3 rfl rfl)
theorem dJ23_indexOf_4 : decode cJ23_indexOf 4 = .ok (.getfield 48, 3) := dk_180 0 48 (dk_at dksJ23_indexOf_0 4 rfl rfl)
theorem dJ23_indexOf_7 : decode cJ23_indexOf 7 = .ok (.invokevirtual 89, 3) := dk_182 0 89 (dk_at dksJ23_indexOf_0 7 rfl rfl)
theorem dJ23_indexOf_10 : decode cJ23_indexOf 10 = .ok (.ireturn, 1) := dk_172 (dk_at dksJ23_indexOf_0 10 rfl rfl)
abbrev cJ23_indexOfRange : ByteArray := prog_48_method_12_code
def yJ23_indexOfRange : MethodName := ⟨RJ23, "indexOfRange", "(Ljava/lang/Object;II)I"⟩
def dkwJ23_indexOfRange_2 : List UInt8 := [43, 25, 4, 21, 5, 50, 182, 0, 93, 153, 0, 6, 21, 5, 172, 132, 5, 1, 167, 255, 232, 2, 172]
abbrev dktJ23_indexOfRange_2 : List UInt8 := dkwJ23_indexOfRange_2 ++ []
def dkwJ23_indexOfRange_1 : List UInt8 := [199, 0, 6, 21, 5, 172, 132, 5, 1, 167, 255, 236, 167, 0, 33, 28, 54, 5, 21, 5, 29, 162, 0, 24]
abbrev dktJ23_indexOfRange_1 : List UInt8 := dkwJ23_indexOfRange_1 ++ dktJ23_indexOfRange_2
def dkwJ23_indexOfRange_0 : List UInt8 := [42, 180, 0, 9, 58, 4, 43, 199, 0, 32, 28, 54, 5, 21, 5, 29, 162, 0, 20, 25, 4, 21, 5, 50]
abbrev dktJ23_indexOfRange_0 : List UInt8 := dkwJ23_indexOfRange_0 ++ dktJ23_indexOfRange_1
theorem dksJ23_indexOfRange_0 : cJ23_indexOfRange.data.toList.drop 0 = dktJ23_indexOfRange_0 := by decide +kernel
theorem dksJ23_indexOfRange_1 : cJ23_indexOfRange.data.toList.drop 24 = dktJ23_indexOfRange_1 := dk_seg dksJ23_indexOfRange_0 24 rfl rfl
theorem dksJ23_indexOfRange_2 : cJ23_indexOfRange.data.toList.drop 48 = dktJ23_indexOfRange_2 := dk_seg dksJ23_indexOfRange_1 24 rfl rfl
theorem dJ23_indexOfRange_0 : decode cJ23_indexOfRange 0 = .ok (.aload_n 0, 1) := dk_42 (dk_at dksJ23_indexOfRange_0 0 rfl rfl)
theorem dJ23_indexOfRange_1 : decode cJ23_indexOfRange 1 = .ok (.getfield 9, 3) := dk_180 0 9 (dk_at dksJ23_indexOfRange_0 1 rfl rfl)
theorem dJ23_indexOfRange_4 : decode cJ23_indexOfRange 4 = .ok (.astore 4, 2) := dk_58 4 (dk_at dksJ23_indexOfRange_0 4 rfl rfl)
theorem dJ23_indexOfRange_6 : decode cJ23_indexOfRange 6 = .ok (.aload_n 1, 1) := dk_43 (dk_at dksJ23_indexOfRange_0 6 rfl rfl)
theorem dJ23_indexOfRange_7 : decode cJ23_indexOfRange 7 = .ok (.ifnonnull 32, 3) := dk_199 0 32 (dk_at dksJ23_indexOfRange_0 7 rfl rfl)
theorem dJ23_indexOfRange_10 : decode cJ23_indexOfRange 10 = .ok (.iload_n 2, 1) := dk_28 (dk_at dksJ23_indexOfRange_0 10 rfl rfl)
theorem dJ23_indexOfRange_11 : decode cJ23_indexOfRange 11 = .ok (.istore 5, 2) := dk_54 5 (dk_at dksJ23_indexOfRange_0 11 rfl rfl)
theorem dJ23_indexOfRange_13 : decode cJ23_indexOfRange 13 = .ok (.iload 5, 2) := dk_21 5 (dk_at dksJ23_indexOfRange_0 13 rfl rfl)
theorem dJ23_indexOfRange_15 : decode cJ23_indexOfRange 15 = .ok (.iload_n 3, 1) := dk_29 (dk_at dksJ23_indexOfRange_0 15 rfl rfl)
theorem dJ23_indexOfRange_16 : decode cJ23_indexOfRange 16 = .ok (.if_icmp .ge 20, 3) := dk_162 0 20 (dk_at dksJ23_indexOfRange_0 16 rfl rfl)
theorem dJ23_indexOfRange_19 : decode cJ23_indexOfRange 19 = .ok (.aload 4, 2) := dk_25 4 (dk_at dksJ23_indexOfRange_0 19 rfl rfl)
theorem dJ23_indexOfRange_21 : decode cJ23_indexOfRange 21 = .ok (.iload 5, 2) := dk_21 5 (dk_at dksJ23_indexOfRange_0 21 rfl rfl)
theorem dJ23_indexOfRange_23 : decode cJ23_indexOfRange 23 = .ok (.aaload, 1) := dk_50 (dk_at dksJ23_indexOfRange_0 23 rfl rfl)
theorem dJ23_indexOfRange_24 : decode cJ23_indexOfRange 24 = .ok (.ifnonnull 6, 3) := dk_199 0 6 (dk_at dksJ23_indexOfRange_1 0 rfl rfl)
theorem dJ23_indexOfRange_27 : decode cJ23_indexOfRange 27 = .ok (.iload 5, 2) := dk_21 5 (dk_at dksJ23_indexOfRange_1 3 rfl rfl)
theorem dJ23_indexOfRange_29 : decode cJ23_indexOfRange 29 = .ok (.ireturn, 1) := dk_172 (dk_at dksJ23_indexOfRange_1 5 rfl rfl)
theorem dJ23_indexOfRange_30 : decode cJ23_indexOfRange 30 = .ok (.iinc 5 1, 3) := dk_132 5 1 (dk_at dksJ23_indexOfRange_1 6 rfl rfl)
theorem dJ23_indexOfRange_33 : decode cJ23_indexOfRange 33 = .ok (.goto (-20), 3) := dk_167 255 236 (dk_at dksJ23_indexOfRange_1 9 rfl rfl)
theorem dJ23_indexOfRange_36 : decode cJ23_indexOfRange 36 = .ok (.goto 33, 3) := dk_167 0 33 (dk_at dksJ23_indexOfRange_1 12 rfl rfl)
theorem dJ23_indexOfRange_39 : decode cJ23_indexOfRange 39 = .ok (.iload_n 2, 1) := dk_28 (dk_at dksJ23_indexOfRange_1 15 rfl rfl)
theorem dJ23_indexOfRange_40 : decode cJ23_indexOfRange 40 = .ok (.istore 5, 2) := dk_54 5 (dk_at dksJ23_indexOfRange_1 16 rfl rfl)
theorem dJ23_indexOfRange_42 : decode cJ23_indexOfRange 42 = .ok (.iload 5, 2) := dk_21 5 (dk_at dksJ23_indexOfRange_1 18 rfl rfl)
theorem dJ23_indexOfRange_44 : decode cJ23_indexOfRange 44 = .ok (.iload_n 3, 1) := dk_29 (dk_at dksJ23_indexOfRange_1 20 rfl rfl)
theorem dJ23_indexOfRange_45 : decode cJ23_indexOfRange 45 = .ok (.if_icmp .ge 24, 3) := dk_162 0 24 (dk_at dksJ23_indexOfRange_1 21 rfl rfl)
theorem dJ23_indexOfRange_48 : decode cJ23_indexOfRange 48 = .ok (.aload_n 1, 1) := dk_43 (dk_at dksJ23_indexOfRange_2 0 rfl rfl)
theorem dJ23_indexOfRange_49 : decode cJ23_indexOfRange 49 = .ok (.aload 4, 2) := dk_25 4 (dk_at dksJ23_indexOfRange_2 1 rfl rfl)
theorem dJ23_indexOfRange_51 : decode cJ23_indexOfRange 51 = .ok (.iload 5, 2) := dk_21 5 (dk_at dksJ23_indexOfRange_2 3 rfl rfl)
theorem dJ23_indexOfRange_53 : decode cJ23_indexOfRange 53 = .ok (.aaload, 1) := dk_50 (dk_at dksJ23_indexOfRange_2 5 rfl rfl)
theorem dJ23_indexOfRange_54 : decode cJ23_indexOfRange 54 = .ok (.invokevirtual 93, 3) := dk_182 0 93 (dk_at dksJ23_indexOfRange_2 6 rfl rfl)
theorem dJ23_indexOfRange_57 : decode cJ23_indexOfRange 57 = .ok (.ifCond .eq 6, 3) := dk_153 0 6 (dk_at dksJ23_indexOfRange_2 9 rfl rfl)
theorem dJ23_indexOfRange_60 : decode cJ23_indexOfRange 60 = .ok (.iload 5, 2) := dk_21 5 (dk_at dksJ23_indexOfRange_2 12 rfl rfl)
theorem dJ23_indexOfRange_62 : decode cJ23_indexOfRange 62 = .ok (.ireturn, 1) := dk_172 (dk_at dksJ23_indexOfRange_2 14 rfl rfl)
theorem dJ23_indexOfRange_63 : decode cJ23_indexOfRange 63 = .ok (.iinc 5 1, 3) := dk_132 5 1 (dk_at dksJ23_indexOfRange_2 15 rfl rfl)
theorem dJ23_indexOfRange_66 : decode cJ23_indexOfRange 66 = .ok (.goto (-24), 3) := dk_167 255 232 (dk_at dksJ23_indexOfRange_2 18 rfl rfl)
theorem dJ23_indexOfRange_69 : decode cJ23_indexOfRange 69 = .ok (.iconst (-1), 1) := dk_2 (dk_at dksJ23_indexOfRange_2 21 rfl rfl)
theorem dJ23_indexOfRange_70 : decode cJ23_indexOfRange 70 = .ok (.ireturn, 1) := dk_172 (dk_at dksJ23_indexOfRange_2 22 rfl rfl)
abbrev cJ23_init : ByteArray := prog_48_method_2_code
def yJ23_init : MethodName := ⟨RJ23, "<init>", "()V"⟩
def dkwJ23_init_0 : List UInt8 := [42, 183, 0, 1, 42, 178, 0, 39, 181, 0, 9, 177]
abbrev dktJ23_init_0 : List UInt8 := dkwJ23_init_0 ++ []
theorem dksJ23_init_0 : cJ23_init.data.toList.drop 0 = dktJ23_init_0 := by decide +kernel
theorem dJ23_init_0 : decode cJ23_init 0 = .ok (.aload_n 0, 1) := dk_42 (dk_at dksJ23_init_0 0 rfl rfl)
theorem dJ23_init_1 : decode cJ23_init 1 = .ok (.invokespecial 1, 3) := dk_183 0 1 (dk_at dksJ23_init_0 1 rfl rfl)
theorem dJ23_init_4 : decode cJ23_init 4 = .ok (.aload_n 0, 1) := dk_42 (dk_at dksJ23_init_0 4 rfl rfl)
theorem dJ23_init_5 : decode cJ23_init 5 = .ok (.getstatic 39, 3) := dk_178 0 39 (dk_at dksJ23_init_0 5 rfl rfl)
theorem dJ23_init_8 : decode cJ23_init 8 = .ok (.putfield 9, 3) := dk_181 0 9 (dk_at dksJ23_init_0 8 rfl rfl)
theorem dJ23_init_11 : decode cJ23_init 11 = .ok (.return_, 1) := dk_177 (dk_at dksJ23_init_0 11 rfl rfl)
abbrev cJ23_listIterator : ByteArray := prog_48_method_54_code
def yJ23_listIterator : MethodName := ⟨RJ23, "listIterator", "()Ljava/util/ListIterator;"⟩
def dkwJ23_listIterator_0 : List UInt8 := [187, 1, 6, 89, 42, 3, 183, 1, 8, 176]
abbrev dktJ23_listIterator_0 : List UInt8 := dkwJ23_listIterator_0 ++ []
theorem dksJ23_listIterator_0 : cJ23_listIterator.data.toList.drop 0 = dktJ23_listIterator_0 := by decide +kernel
theorem dJ23_listIterator_0 : decode cJ23_listIterator 0 = .ok (.new 262, 3) := dk_187 1 6 (dk_at dksJ23_listIterator_0 0 rfl rfl)
theorem dJ23_listIterator_3 : decode cJ23_listIterator 3 = .ok (.dup, 1) := dk_89 (dk_at dksJ23_listIterator_0 3 rfl rfl)
theorem dJ23_listIterator_4 : decode cJ23_listIterator 4 = .ok (.aload_n 0, 1) := dk_42 (dk_at dksJ23_listIterator_0 4 rfl rfl)
theorem dJ23_listIterator_5 : decode cJ23_listIterator 5 = .ok (.iconst 0, 1) := dk_3 (dk_at dksJ23_listIterator_0 5 rfl rfl)
theorem dJ23_listIterator_6 : decode cJ23_listIterator 6 = .ok (.invokespecial 264, 3) := dk_183 1 8 (dk_at dksJ23_listIterator_0 6 rfl rfl)
theorem dJ23_listIterator_9 : decode cJ23_listIterator 9 = .ok (.areturn, 1) := dk_176 (dk_at dksJ23_listIterator_0 9 rfl rfl)
abbrev cJ23_listIterator_2 : ByteArray := prog_48_method_53_code
def yJ23_listIterator_2 : MethodName := ⟨RJ23, "listIterator", "(I)Ljava/util/ListIterator;"⟩
def dkwJ23_listIterator_2_0 : List UInt8 := [42, 27, 182, 0, 135, 187, 1, 6, 89, 42, 27, 183, 1, 8, 176]
abbrev dktJ23_listIterator_2_0 : List UInt8 := dkwJ23_listIterator_2_0 ++ []
theorem dksJ23_listIterator_2_0 : cJ23_listIterator_2.data.toList.drop 0 = dktJ23_listIterator_2_0 := by decide +kernel
theorem dJ23_listIterator_2_0 : decode cJ23_listIterator_2 0 = .ok (.aload_n 0, 1) := dk_42 (dk_at dksJ23_listIterator_2_0 0 rfl rfl)
theorem dJ23_listIterator_2_1 : decode cJ23_listIterator_2 1 = .ok (.iload_n 1, 1) := dk_27 (dk_at dksJ23_listIterator_2_0 1 rfl rfl)
theorem dJ23_listIterator_2_2 : decode cJ23_listIterator_2 2 = .ok (.invokevirtual 135, 3) := dk_182 0 135 (dk_at dksJ23_listIterator_2_0 2 rfl rfl)
theorem dJ23_listIterator_2_5 : decode cJ23_listIterator_2 5 = .ok (.new 262, 3) := dk_187 1 6 (dk_at dksJ23_listIterator_2_0 5 rfl rfl)
theorem dJ23_listIterator_2_8 : decode cJ23_listIterator_2 8 = .ok (.dup, 1) := dk_89 (dk_at dksJ23_listIterator_2_0 8 rfl rfl)
theorem dJ23_listIterator_2_9 : decode cJ23_listIterator_2 9 = .ok (.aload_n 0, 1) := dk_42 (dk_at dksJ23_listIterator_2_0 9 rfl rfl)
theorem dJ23_listIterator_2_10 : decode cJ23_listIterator_2 10 = .ok (.iload_n 1, 1) := dk_27 (dk_at dksJ23_listIterator_2_0 10 rfl rfl)
theorem dJ23_listIterator_2_11 : decode cJ23_listIterator_2 11 = .ok (.invokespecial 264, 3) := dk_183 1 8 (dk_at dksJ23_listIterator_2_0 11 rfl rfl)
theorem dJ23_listIterator_2_14 : decode cJ23_listIterator_2 14 = .ok (.areturn, 1) := dk_176 (dk_at dksJ23_listIterator_2_0 14 rfl rfl)
abbrev cJ23_rangeCheckForAdd : ByteArray := prog_48_method_45_code
def yJ23_rangeCheckForAdd : MethodName := ⟨RJ23, "rangeCheckForAdd", "(I)V"⟩
def dkwJ23_rangeCheckForAdd_1 : List UInt8 := [191, 177]
abbrev dktJ23_rangeCheckForAdd_1 : List UInt8 := dkwJ23_rangeCheckForAdd_1 ++ []
def dkwJ23_rangeCheckForAdd_0 : List UInt8 := [27, 42, 180, 0, 48, 163, 0, 7, 27, 156, 0, 16, 187, 0, 187, 89, 42, 27, 182, 0, 198, 183, 0, 193]
abbrev dktJ23_rangeCheckForAdd_0 : List UInt8 := dkwJ23_rangeCheckForAdd_0 ++ dktJ23_rangeCheckForAdd_1
theorem dksJ23_rangeCheckForAdd_0 : cJ23_rangeCheckForAdd.data.toList.drop 0 = dktJ23_rangeCheckForAdd_0 := by decide +kernel
theorem dksJ23_rangeCheckForAdd_1 : cJ23_rangeCheckForAdd.data.toList.drop 24 = dktJ23_rangeCheckForAdd_1 := dk_seg dksJ23_rangeCheckForAdd_0 24 rfl rfl
theorem dJ23_rangeCheckForAdd_0 : decode cJ23_rangeCheckForAdd 0 = .ok (.iload_n 1, 1) := dk_27 (dk_at dksJ23_rangeCheckForAdd_0 0 rfl rfl)
theorem dJ23_rangeCheckForAdd_1 : decode cJ23_rangeCheckForAdd 1 = .ok (.aload_n 0, 1) := dk_42 (dk_at dksJ23_rangeCheckForAdd_0 1 rfl rfl)
theorem dJ23_rangeCheckForAdd_2 : decode cJ23_rangeCheckForAdd 2 = .ok (.getfield 48, 3) := dk_180 0 48 (dk_at dksJ23_rangeCheckForAdd_0 2 rfl rfl)
theorem dJ23_rangeCheckForAdd_5 : decode cJ23_rangeCheckForAdd 5 = .ok (.if_icmp .gt 7, 3) := dk_163 0 7 (dk_at dksJ23_rangeCheckForAdd_0 5 rfl rfl)
theorem dJ23_rangeCheckForAdd_8 : decode cJ23_rangeCheckForAdd 8 = .ok (.iload_n 1, 1) := dk_27 (dk_at dksJ23_rangeCheckForAdd_0 8 rfl rfl)
theorem dJ23_rangeCheckForAdd_9 : decode cJ23_rangeCheckForAdd 9 = .ok (.ifCond .ge 16, 3) := dk_156 0 16 (dk_at dksJ23_rangeCheckForAdd_0 9 rfl rfl)
theorem dJ23_rangeCheckForAdd_12 : decode cJ23_rangeCheckForAdd 12 = .ok (.new 187, 3) := dk_187 0 187 (dk_at dksJ23_rangeCheckForAdd_0 12 rfl rfl)
theorem dJ23_rangeCheckForAdd_15 : decode cJ23_rangeCheckForAdd 15 = .ok (.dup, 1) := dk_89 (dk_at dksJ23_rangeCheckForAdd_0 15 rfl rfl)
theorem dJ23_rangeCheckForAdd_16 : decode cJ23_rangeCheckForAdd 16 = .ok (.aload_n 0, 1) := dk_42 (dk_at dksJ23_rangeCheckForAdd_0 16 rfl rfl)
theorem dJ23_rangeCheckForAdd_17 : decode cJ23_rangeCheckForAdd 17 = .ok (.iload_n 1, 1) := dk_27 (dk_at dksJ23_rangeCheckForAdd_0 17 rfl rfl)
theorem dJ23_rangeCheckForAdd_18 : decode cJ23_rangeCheckForAdd 18 = .ok (.invokevirtual 198, 3) := dk_182 0 198 (dk_at dksJ23_rangeCheckForAdd_0 18 rfl rfl)
theorem dJ23_rangeCheckForAdd_21 : decode cJ23_rangeCheckForAdd 21 = .ok (.invokespecial 193, 3) := dk_183 0 193 (dk_at dksJ23_rangeCheckForAdd_0 21 rfl rfl)
theorem dJ23_rangeCheckForAdd_24 : decode cJ23_rangeCheckForAdd 24 = .ok (.athrow, 1) := dk_191 (dk_at dksJ23_rangeCheckForAdd_1 0 rfl rfl)
theorem dJ23_rangeCheckForAdd_25 : decode cJ23_rangeCheckForAdd 25 = .ok (.return_, 1) := dk_177 (dk_at dksJ23_rangeCheckForAdd_1 1 rfl rfl)
abbrev cJ23_size : ByteArray := prog_48_method_8_code
def yJ23_size : MethodName := ⟨RJ23, "size", "()I"⟩
theorem dJ23_size_0 : decode cJ23_size 0 = .ok (.aload_n 0, 1) := by decide +kernel
theorem dJ23_size_1 : decode cJ23_size 1 = .ok (.getfield 48, 3) := by decide +kernel
theorem dJ23_size_4 : decode cJ23_size 4 = .ok (.ireturn, 1) := by decide +kernel
abbrev cJ23_get : ByteArray := prog_48_method_20_code
def yJ23_get : MethodName := ⟨RJ23, "get", "(I)Ljava/lang/Object;"⟩
def dkwJ23_get_0 : List UInt8 := [27, 42, 180, 0, 48, 184, 0, 118, 87, 42, 27, 182, 0, 123, 176]
abbrev dktJ23_get_0 : List UInt8 := dkwJ23_get_0 ++ []
theorem dksJ23_get_0 : cJ23_get.data.toList.drop 0 = dktJ23_get_0 := by decide +kernel
theorem dJ23_get_0 : decode cJ23_get 0 = .ok (.iload_n 1, 1) := dk_27 (dk_at dksJ23_get_0 0 rfl rfl)
theorem dJ23_get_1 : decode cJ23_get 1 = .ok (.aload_n 0, 1) := dk_42 (dk_at dksJ23_get_0 1 rfl rfl)
theorem dJ23_get_2 : decode cJ23_get 2 = .ok (.getfield 48, 3) := dk_180 0 48 (dk_at dksJ23_get_0 2 rfl rfl)
theorem dJ23_get_5 : decode cJ23_get 5 = .ok (.invokestatic 118, 3) := dk_184 0 118 (dk_at dksJ23_get_0 5 rfl rfl)
theorem dJ23_get_8 : decode cJ23_get 8 = .ok (.pop, 1) := dk_87 (dk_at dksJ23_get_0 8 rfl rfl)
theorem dJ23_get_9 : decode cJ23_get 9 = .ok (.aload_n 0, 1) := dk_42 (dk_at dksJ23_get_0 9 rfl rfl)
theorem dJ23_get_10 : decode cJ23_get 10 = .ok (.iload_n 1, 1) := dk_27 (dk_at dksJ23_get_0 10 rfl rfl)
theorem dJ23_get_11 : decode cJ23_get 11 = .ok (.invokevirtual 123, 3) := dk_182 0 123 (dk_at dksJ23_get_0 11 rfl rfl)
theorem dJ23_get_14 : decode cJ23_get 14 = .ok (.areturn, 1) := dk_176 (dk_at dksJ23_get_0 14 rfl rfl)
abbrev cJ23_elementData : ByteArray := prog_48_method_18_code
def yJ23_elementData : MethodName := ⟨RJ23, "elementData", "(I)Ljava/lang/Object;"⟩
def dkwJ23_elementData_0 : List UInt8 := [42, 180, 0, 9, 27, 50, 176]
abbrev dktJ23_elementData_0 : List UInt8 := dkwJ23_elementData_0 ++ []
theorem dksJ23_elementData_0 : cJ23_elementData.data.toList.drop 0 = dktJ23_elementData_0 := by decide +kernel
theorem dJ23_elementData_0 : decode cJ23_elementData 0 = .ok (.aload_n 0, 1) := dk_42 (dk_at dksJ23_elementData_0 0 rfl rfl)
theorem dJ23_elementData_1 : decode cJ23_elementData 1 = .ok (.getfield 9, 3) := dk_180 0 9 (dk_at dksJ23_elementData_0 1 rfl rfl)
theorem dJ23_elementData_4 : decode cJ23_elementData 4 = .ok (.iload_n 1, 1) := dk_27 (dk_at dksJ23_elementData_0 4 rfl rfl)
theorem dJ23_elementData_5 : decode cJ23_elementData 5 = .ok (.aaload, 1) := dk_50 (dk_at dksJ23_elementData_0 5 rfl rfl)
theorem dJ23_elementData_6 : decode cJ23_elementData 6 = .ok (.areturn, 1) := dk_176 (dk_at dksJ23_elementData_0 6 rfl rfl)
abbrev cJ23_add : ByteArray := prog_48_method_26_code
def yJ23_add : MethodName := ⟨RJ23, "add", "(ILjava/lang/Object;)V"⟩
def dkwJ23_add_2 : List UInt8 := [29, 27, 100, 184, 0, 112, 25, 4, 27, 44, 83, 42, 29, 4, 96, 181, 0, 48, 177]
abbrev dktJ23_add_2 : List UInt8 := dkwJ23_add_2 ++ []
def dkwJ23_add_1 : List UInt8 := [180, 0, 9, 89, 58, 4, 190, 160, 0, 9, 42, 182, 0, 129, 58, 4, 25, 4, 27, 25, 4, 27, 4, 96]
abbrev dktJ23_add_1 : List UInt8 := dkwJ23_add_1 ++ dktJ23_add_2
def dkwJ23_add_0 : List UInt8 := [42, 27, 182, 0, 135, 42, 89, 180, 0, 63, 4, 96, 181, 0, 63, 42, 180, 0, 48, 89, 62, 42]
abbrev dktJ23_add_0 : List UInt8 := dkwJ23_add_0 ++ dktJ23_add_1
theorem dksJ23_add_0 : cJ23_add.data.toList.drop 0 = dktJ23_add_0 := by decide +kernel
theorem dksJ23_add_1 : cJ23_add.data.toList.drop 22 = dktJ23_add_1 := dk_seg dksJ23_add_0 22 rfl rfl
theorem dksJ23_add_2 : cJ23_add.data.toList.drop 46 = dktJ23_add_2 := dk_seg dksJ23_add_1 24 rfl rfl
theorem dJ23_add_0 : decode cJ23_add 0 = .ok (.aload_n 0, 1) := dk_42 (dk_at dksJ23_add_0 0 rfl rfl)
theorem dJ23_add_1 : decode cJ23_add 1 = .ok (.iload_n 1, 1) := dk_27 (dk_at dksJ23_add_0 1 rfl rfl)
theorem dJ23_add_2 : decode cJ23_add 2 = .ok (.invokevirtual 135, 3) := dk_182 0 135 (dk_at dksJ23_add_0 2 rfl rfl)
theorem dJ23_add_5 : decode cJ23_add 5 = .ok (.aload_n 0, 1) := dk_42 (dk_at dksJ23_add_0 5 rfl rfl)
theorem dJ23_add_6 : decode cJ23_add 6 = .ok (.dup, 1) := dk_89 (dk_at dksJ23_add_0 6 rfl rfl)
theorem dJ23_add_7 : decode cJ23_add 7 = .ok (.getfield 63, 3) := dk_180 0 63 (dk_at dksJ23_add_0 7 rfl rfl)
theorem dJ23_add_10 : decode cJ23_add 10 = .ok (.iconst 1, 1) := dk_4 (dk_at dksJ23_add_0 10 rfl rfl)
theorem dJ23_add_11 : decode cJ23_add 11 = .ok (.iadd, 1) := dk_96 (dk_at dksJ23_add_0 11 rfl rfl)
theorem dJ23_add_12 : decode cJ23_add 12 = .ok (.putfield 63, 3) := dk_181 0 63 (dk_at dksJ23_add_0 12 rfl rfl)
theorem dJ23_add_15 : decode cJ23_add 15 = .ok (.aload_n 0, 1) := dk_42 (dk_at dksJ23_add_0 15 rfl rfl)
theorem dJ23_add_16 : decode cJ23_add 16 = .ok (.getfield 48, 3) := dk_180 0 48 (dk_at dksJ23_add_0 16 rfl rfl)
theorem dJ23_add_19 : decode cJ23_add 19 = .ok (.dup, 1) := dk_89 (dk_at dksJ23_add_0 19 rfl rfl)
theorem dJ23_add_20 : decode cJ23_add 20 = .ok (.istore_n 3, 1) := dk_62 (dk_at dksJ23_add_0 20 rfl rfl)
theorem dJ23_add_21 : decode cJ23_add 21 = .ok (.aload_n 0, 1) := dk_42 (dk_at dksJ23_add_0 21 rfl rfl)
theorem dJ23_add_22 : decode cJ23_add 22 = .ok (.getfield 9, 3) := dk_180 0 9 (dk_at dksJ23_add_1 0 rfl rfl)
theorem dJ23_add_25 : decode cJ23_add 25 = .ok (.dup, 1) := dk_89 (dk_at dksJ23_add_1 3 rfl rfl)
theorem dJ23_add_26 : decode cJ23_add 26 = .ok (.astore 4, 2) := dk_58 4 (dk_at dksJ23_add_1 4 rfl rfl)
theorem dJ23_add_28 : decode cJ23_add 28 = .ok (.arraylength, 1) := dk_190 (dk_at dksJ23_add_1 6 rfl rfl)
theorem dJ23_add_29 : decode cJ23_add 29 = .ok (.if_icmp .ne 9, 3) := dk_160 0 9 (dk_at dksJ23_add_1 7 rfl rfl)
theorem dJ23_add_32 : decode cJ23_add 32 = .ok (.aload_n 0, 1) := dk_42 (dk_at dksJ23_add_1 10 rfl rfl)
theorem dJ23_add_33 : decode cJ23_add 33 = .ok (.invokevirtual 129, 3) := dk_182 0 129 (dk_at dksJ23_add_1 11 rfl rfl)
theorem dJ23_add_36 : decode cJ23_add 36 = .ok (.astore 4, 2) := dk_58 4 (dk_at dksJ23_add_1 14 rfl rfl)
theorem dJ23_add_38 : decode cJ23_add 38 = .ok (.aload 4, 2) := dk_25 4 (dk_at dksJ23_add_1 16 rfl rfl)
theorem dJ23_add_40 : decode cJ23_add 40 = .ok (.iload_n 1, 1) := dk_27 (dk_at dksJ23_add_1 18 rfl rfl)
theorem dJ23_add_41 : decode cJ23_add 41 = .ok (.aload 4, 2) := dk_25 4 (dk_at dksJ23_add_1 19 rfl rfl)
theorem dJ23_add_43 : decode cJ23_add 43 = .ok (.iload_n 1, 1) := dk_27 (dk_at dksJ23_add_1 21 rfl rfl)
theorem dJ23_add_44 : decode cJ23_add 44 = .ok (.iconst 1, 1) := dk_4 (dk_at dksJ23_add_1 22 rfl rfl)
theorem dJ23_add_45 : decode cJ23_add 45 = .ok (.iadd, 1) := dk_96 (dk_at dksJ23_add_1 23 rfl rfl)
theorem dJ23_add_46 : decode cJ23_add 46 = .ok (.iload_n 3, 1) := dk_29 (dk_at dksJ23_add_2 0 rfl rfl)
theorem dJ23_add_47 : decode cJ23_add 47 = .ok (.iload_n 1, 1) := dk_27 (dk_at dksJ23_add_2 1 rfl rfl)
theorem dJ23_add_48 : decode cJ23_add 48 = .ok (.isub, 1) := dk_100 (dk_at dksJ23_add_2 2 rfl rfl)
theorem dJ23_add_49 : decode cJ23_add 49 = .ok (.invokestatic 112, 3) := dk_184 0 112 (dk_at dksJ23_add_2 3 rfl rfl)
theorem dJ23_add_52 : decode cJ23_add 52 = .ok (.aload 4, 2) := dk_25 4 (dk_at dksJ23_add_2 6 rfl rfl)
theorem dJ23_add_54 : decode cJ23_add 54 = .ok (.iload_n 1, 1) := dk_27 (dk_at dksJ23_add_2 8 rfl rfl)
theorem dJ23_add_55 : decode cJ23_add 55 = .ok (.aload_n 2, 1) := dk_44 (dk_at dksJ23_add_2 9 rfl rfl)
theorem dJ23_add_56 : decode cJ23_add 56 = .ok (.aastore, 1) := dk_83 (dk_at dksJ23_add_2 10 rfl rfl)
theorem dJ23_add_57 : decode cJ23_add 57 = .ok (.aload_n 0, 1) := dk_42 (dk_at dksJ23_add_2 11 rfl rfl)
theorem dJ23_add_58 : decode cJ23_add 58 = .ok (.iload_n 3, 1) := dk_29 (dk_at dksJ23_add_2 12 rfl rfl)
theorem dJ23_add_59 : decode cJ23_add 59 = .ok (.iconst 1, 1) := dk_4 (dk_at dksJ23_add_2 13 rfl rfl)
theorem dJ23_add_60 : decode cJ23_add 60 = .ok (.iadd, 1) := dk_96 (dk_at dksJ23_add_2 14 rfl rfl)
theorem dJ23_add_61 : decode cJ23_add 61 = .ok (.putfield 48, 3) := dk_181 0 48 (dk_at dksJ23_add_2 15 rfl rfl)
theorem dJ23_add_64 : decode cJ23_add 64 = .ok (.return_, 1) := dk_177 (dk_at dksJ23_add_2 18 rfl rfl)
abbrev cJ23_grow : ByteArray := prog_48_method_7_code
def yJ23_grow : MethodName := ⟨RJ23, "grow", "()[Ljava/lang/Object;"⟩
def dkwJ23_grow_0 : List UInt8 := [42, 42, 180, 0, 48, 4, 96, 182, 0, 69, 176]
abbrev dktJ23_grow_0 : List UInt8 := dkwJ23_grow_0 ++ []
theorem dksJ23_grow_0 : cJ23_grow.data.toList.drop 0 = dktJ23_grow_0 := by decide +kernel
theorem dJ23_grow_0 : decode cJ23_grow 0 = .ok (.aload_n 0, 1) := dk_42 (dk_at dksJ23_grow_0 0 rfl rfl)
theorem dJ23_grow_1 : decode cJ23_grow 1 = .ok (.aload_n 0, 1) := dk_42 (dk_at dksJ23_grow_0 1 rfl rfl)
theorem dJ23_grow_2 : decode cJ23_grow 2 = .ok (.getfield 48, 3) := dk_180 0 48 (dk_at dksJ23_grow_0 2 rfl rfl)
theorem dJ23_grow_5 : decode cJ23_grow 5 = .ok (.iconst 1, 1) := dk_4 (dk_at dksJ23_grow_0 5 rfl rfl)
theorem dJ23_grow_6 : decode cJ23_grow 6 = .ok (.iadd, 1) := dk_96 (dk_at dksJ23_grow_0 6 rfl rfl)
theorem dJ23_grow_7 : decode cJ23_grow 7 = .ok (.invokevirtual 69, 3) := dk_182 0 69 (dk_at dksJ23_grow_0 7 rfl rfl)
theorem dJ23_grow_10 : decode cJ23_grow 10 = .ok (.areturn, 1) := dk_176 (dk_at dksJ23_grow_0 10 rfl rfl)
abbrev cJ23_grow_2 : ByteArray := prog_48_method_6_code
def yJ23_grow_2 : MethodName := ⟨RJ23, "grow", "(I)[Ljava/lang/Object;"⟩
def dkwJ23_grow_2_2 : List UInt8 := [27, 184, 0, 79, 189, 0, 7, 90, 181, 0, 9, 176]
abbrev dktJ23_grow_2_2 : List UInt8 := dkwJ23_grow_2_2 ++ []
def dkwJ23_grow_2_1 : List UInt8 := [28, 4, 122, 184, 0, 73, 62, 42, 42, 180, 0, 9, 29, 184, 0, 66, 90, 181, 0, 9, 176, 42, 16, 10]
abbrev dktJ23_grow_2_1 : List UInt8 := dkwJ23_grow_2_1 ++ dktJ23_grow_2_2
def dkwJ23_grow_2_0 : List UInt8 := [42, 180, 0, 9, 190, 61, 28, 157, 0, 13, 42, 180, 0, 9, 178, 0, 39, 165, 0, 28, 28, 27, 28, 100]
abbrev dktJ23_grow_2_0 : List UInt8 := dkwJ23_grow_2_0 ++ dktJ23_grow_2_1
theorem dksJ23_grow_2_0 : cJ23_grow_2.data.toList.drop 0 = dktJ23_grow_2_0 := by decide +kernel
theorem dksJ23_grow_2_1 : cJ23_grow_2.data.toList.drop 24 = dktJ23_grow_2_1 := dk_seg dksJ23_grow_2_0 24 rfl rfl
theorem dksJ23_grow_2_2 : cJ23_grow_2.data.toList.drop 48 = dktJ23_grow_2_2 := dk_seg dksJ23_grow_2_1 24 rfl rfl
theorem dJ23_grow_2_0 : decode cJ23_grow_2 0 = .ok (.aload_n 0, 1) := dk_42 (dk_at dksJ23_grow_2_0 0 rfl rfl)
theorem dJ23_grow_2_1 : decode cJ23_grow_2 1 = .ok (.getfield 9, 3) := dk_180 0 9 (dk_at dksJ23_grow_2_0 1 rfl rfl)
theorem dJ23_grow_2_4 : decode cJ23_grow_2 4 = .ok (.arraylength, 1) := dk_190 (dk_at dksJ23_grow_2_0 4 rfl rfl)
theorem dJ23_grow_2_5 : decode cJ23_grow_2 5 = .ok (.istore_n 2, 1) := dk_61 (dk_at dksJ23_grow_2_0 5 rfl rfl)
theorem dJ23_grow_2_6 : decode cJ23_grow_2 6 = .ok (.iload_n 2, 1) := dk_28 (dk_at dksJ23_grow_2_0 6 rfl rfl)
theorem dJ23_grow_2_7 : decode cJ23_grow_2 7 = .ok (.ifCond .gt 13, 3) := dk_157 0 13 (dk_at dksJ23_grow_2_0 7 rfl rfl)
theorem dJ23_grow_2_10 : decode cJ23_grow_2 10 = .ok (.aload_n 0, 1) := dk_42 (dk_at dksJ23_grow_2_0 10 rfl rfl)
theorem dJ23_grow_2_11 : decode cJ23_grow_2 11 = .ok (.getfield 9, 3) := dk_180 0 9 (dk_at dksJ23_grow_2_0 11 rfl rfl)
theorem dJ23_grow_2_14 : decode cJ23_grow_2 14 = .ok (.getstatic 39, 3) := dk_178 0 39 (dk_at dksJ23_grow_2_0 14 rfl rfl)
theorem dJ23_grow_2_17 : decode cJ23_grow_2 17 = .ok (.if_acmp .eq 28, 3) := dk_165 0 28 (dk_at dksJ23_grow_2_0 17 rfl rfl)
theorem dJ23_grow_2_20 : decode cJ23_grow_2 20 = .ok (.iload_n 2, 1) := dk_28 (dk_at dksJ23_grow_2_0 20 rfl rfl)
theorem dJ23_grow_2_21 : decode cJ23_grow_2 21 = .ok (.iload_n 1, 1) := dk_27 (dk_at dksJ23_grow_2_0 21 rfl rfl)
theorem dJ23_grow_2_22 : decode cJ23_grow_2 22 = .ok (.iload_n 2, 1) := dk_28 (dk_at dksJ23_grow_2_0 22 rfl rfl)
theorem dJ23_grow_2_23 : decode cJ23_grow_2 23 = .ok (.isub, 1) := dk_100 (dk_at dksJ23_grow_2_0 23 rfl rfl)
theorem dJ23_grow_2_24 : decode cJ23_grow_2 24 = .ok (.iload_n 2, 1) := dk_28 (dk_at dksJ23_grow_2_1 0 rfl rfl)
theorem dJ23_grow_2_25 : decode cJ23_grow_2 25 = .ok (.iconst 1, 1) := dk_4 (dk_at dksJ23_grow_2_1 1 rfl rfl)
theorem dJ23_grow_2_26 : decode cJ23_grow_2 26 = .ok (.ishr, 1) := dk_122 (dk_at dksJ23_grow_2_1 2 rfl rfl)
theorem dJ23_grow_2_27 : decode cJ23_grow_2 27 = .ok (.invokestatic 73, 3) := dk_184 0 73 (dk_at dksJ23_grow_2_1 3 rfl rfl)
theorem dJ23_grow_2_30 : decode cJ23_grow_2 30 = .ok (.istore_n 3, 1) := dk_62 (dk_at dksJ23_grow_2_1 6 rfl rfl)
theorem dJ23_grow_2_31 : decode cJ23_grow_2 31 = .ok (.aload_n 0, 1) := dk_42 (dk_at dksJ23_grow_2_1 7 rfl rfl)
theorem dJ23_grow_2_32 : decode cJ23_grow_2 32 = .ok (.aload_n 0, 1) := dk_42 (dk_at dksJ23_grow_2_1 8 rfl rfl)
theorem dJ23_grow_2_33 : decode cJ23_grow_2 33 = .ok (.getfield 9, 3) := dk_180 0 9 (dk_at dksJ23_grow_2_1 9 rfl rfl)
theorem dJ23_grow_2_36 : decode cJ23_grow_2 36 = .ok (.iload_n 3, 1) := dk_29 (dk_at dksJ23_grow_2_1 12 rfl rfl)
theorem dJ23_grow_2_37 : decode cJ23_grow_2 37 = .ok (.invokestatic 66, 3) := dk_184 0 66 (dk_at dksJ23_grow_2_1 13 rfl rfl)
theorem dJ23_grow_2_40 : decode cJ23_grow_2 40 = .ok (.dup_x1, 1) := dk_90 (dk_at dksJ23_grow_2_1 16 rfl rfl)
theorem dJ23_grow_2_41 : decode cJ23_grow_2 41 = .ok (.putfield 9, 3) := dk_181 0 9 (dk_at dksJ23_grow_2_1 17 rfl rfl)
theorem dJ23_grow_2_44 : decode cJ23_grow_2 44 = .ok (.areturn, 1) := dk_176 (dk_at dksJ23_grow_2_1 20 rfl rfl)
theorem dJ23_grow_2_45 : decode cJ23_grow_2 45 = .ok (.aload_n 0, 1) := dk_42 (dk_at dksJ23_grow_2_1 21 rfl rfl)
theorem dJ23_grow_2_46 : decode cJ23_grow_2 46 = .ok (.bipush 10, 2) := dk_16 10 (dk_at dksJ23_grow_2_1 22 rfl rfl)
theorem dJ23_grow_2_48 : decode cJ23_grow_2 48 = .ok (.iload_n 1, 1) := dk_27 (dk_at dksJ23_grow_2_2 0 rfl rfl)
theorem dJ23_grow_2_49 : decode cJ23_grow_2 49 = .ok (.invokestatic 79, 3) := dk_184 0 79 (dk_at dksJ23_grow_2_2 1 rfl rfl)
theorem dJ23_grow_2_52 : decode cJ23_grow_2 52 = .ok (.anewarray 7, 3) := dk_189 0 7 (dk_at dksJ23_grow_2_2 4 rfl rfl)
theorem dJ23_grow_2_55 : decode cJ23_grow_2 55 = .ok (.dup_x1, 1) := dk_90 (dk_at dksJ23_grow_2_2 7 rfl rfl)
theorem dJ23_grow_2_56 : decode cJ23_grow_2 56 = .ok (.putfield 9, 3) := dk_181 0 9 (dk_at dksJ23_grow_2_2 8 rfl rfl)
theorem dJ23_grow_2_59 : decode cJ23_grow_2 59 = .ok (.areturn, 1) := dk_176 (dk_at dksJ23_grow_2_2 11 rfl rfl)
abbrev cJ23_set : ByteArray := prog_48_method_23_code
def yJ23_set : MethodName := ⟨RJ23, "set", "(ILjava/lang/Object;)Ljava/lang/Object;"⟩
def dkwJ23_set_0 : List UInt8 := [27, 42, 180, 0, 48, 184, 0, 118, 87, 42, 27, 182, 0, 123, 78, 42, 180, 0, 9, 27, 44, 83, 45, 176]
abbrev dktJ23_set_0 : List UInt8 := dkwJ23_set_0 ++ []
theorem dksJ23_set_0 : cJ23_set.data.toList.drop 0 = dktJ23_set_0 := by decide +kernel
theorem dJ23_set_0 : decode cJ23_set 0 = .ok (.iload_n 1, 1) := dk_27 (dk_at dksJ23_set_0 0 rfl rfl)
theorem dJ23_set_1 : decode cJ23_set 1 = .ok (.aload_n 0, 1) := dk_42 (dk_at dksJ23_set_0 1 rfl rfl)
theorem dJ23_set_2 : decode cJ23_set 2 = .ok (.getfield 48, 3) := dk_180 0 48 (dk_at dksJ23_set_0 2 rfl rfl)
theorem dJ23_set_5 : decode cJ23_set 5 = .ok (.invokestatic 118, 3) := dk_184 0 118 (dk_at dksJ23_set_0 5 rfl rfl)
theorem dJ23_set_8 : decode cJ23_set 8 = .ok (.pop, 1) := dk_87 (dk_at dksJ23_set_0 8 rfl rfl)
theorem dJ23_set_9 : decode cJ23_set 9 = .ok (.aload_n 0, 1) := dk_42 (dk_at dksJ23_set_0 9 rfl rfl)
theorem dJ23_set_10 : decode cJ23_set 10 = .ok (.iload_n 1, 1) := dk_27 (dk_at dksJ23_set_0 10 rfl rfl)
theorem dJ23_set_11 : decode cJ23_set 11 = .ok (.invokevirtual 123, 3) := dk_182 0 123 (dk_at dksJ23_set_0 11 rfl rfl)
theorem dJ23_set_14 : decode cJ23_set 14 = .ok (.astore_n 3, 1) := dk_78 (dk_at dksJ23_set_0 14 rfl rfl)
theorem dJ23_set_15 : decode cJ23_set 15 = .ok (.aload_n 0, 1) := dk_42 (dk_at dksJ23_set_0 15 rfl rfl)
theorem dJ23_set_16 : decode cJ23_set 16 = .ok (.getfield 9, 3) := dk_180 0 9 (dk_at dksJ23_set_0 16 rfl rfl)
theorem dJ23_set_19 : decode cJ23_set 19 = .ok (.iload_n 1, 1) := dk_27 (dk_at dksJ23_set_0 19 rfl rfl)
theorem dJ23_set_20 : decode cJ23_set 20 = .ok (.aload_n 2, 1) := dk_44 (dk_at dksJ23_set_0 20 rfl rfl)
theorem dJ23_set_21 : decode cJ23_set 21 = .ok (.aastore, 1) := dk_83 (dk_at dksJ23_set_0 21 rfl rfl)
theorem dJ23_set_22 : decode cJ23_set 22 = .ok (.aload_n 3, 1) := dk_45 (dk_at dksJ23_set_0 22 rfl rfl)
theorem dJ23_set_23 : decode cJ23_set 23 = .ok (.areturn, 1) := dk_176 (dk_at dksJ23_set_0 23 rfl rfl)
abbrev cJ23_remove : ByteArray := prog_48_method_29_code
def yJ23_remove : MethodName := ⟨RJ23, "remove", "(I)Ljava/lang/Object;"⟩
def dkwJ23_remove_1 : List UInt8 := [45, 176]
abbrev dktJ23_remove_1 : List UInt8 := dkwJ23_remove_1 ++ []
def dkwJ23_remove_0 : List UInt8 := [27, 42, 180, 0, 48, 184, 0, 118, 87, 42, 180, 0, 9, 77, 44, 27, 50, 78, 42, 44, 27, 182, 0, 144]
abbrev dktJ23_remove_0 : List UInt8 := dkwJ23_remove_0 ++ dktJ23_remove_1
theorem dksJ23_remove_0 : cJ23_remove.data.toList.drop 0 = dktJ23_remove_0 := by decide +kernel
theorem dksJ23_remove_1 : cJ23_remove.data.toList.drop 24 = dktJ23_remove_1 := dk_seg dksJ23_remove_0 24 rfl rfl
theorem dJ23_remove_0 : decode cJ23_remove 0 = .ok (.iload_n 1, 1) := dk_27 (dk_at dksJ23_remove_0 0 rfl rfl)
theorem dJ23_remove_1 : decode cJ23_remove 1 = .ok (.aload_n 0, 1) := dk_42 (dk_at dksJ23_remove_0 1 rfl rfl)
theorem dJ23_remove_2 : decode cJ23_remove 2 = .ok (.getfield 48, 3) := dk_180 0 48 (dk_at dksJ23_remove_0 2 rfl rfl)
theorem dJ23_remove_5 : decode cJ23_remove 5 = .ok (.invokestatic 118, 3) := dk_184 0 118 (dk_at dksJ23_remove_0 5 rfl rfl)
theorem dJ23_remove_8 : decode cJ23_remove 8 = .ok (.pop, 1) := dk_87 (dk_at dksJ23_remove_0 8 rfl rfl)
theorem dJ23_remove_9 : decode cJ23_remove 9 = .ok (.aload_n 0, 1) := dk_42 (dk_at dksJ23_remove_0 9 rfl rfl)
theorem dJ23_remove_10 : decode cJ23_remove 10 = .ok (.getfield 9, 3) := dk_180 0 9 (dk_at dksJ23_remove_0 10 rfl rfl)
theorem dJ23_remove_13 : decode cJ23_remove 13 = .ok (.astore_n 2, 1) := dk_77 (dk_at dksJ23_remove_0 13 rfl rfl)
theorem dJ23_remove_14 : decode cJ23_remove 14 = .ok (.aload_n 2, 1) := dk_44 (dk_at dksJ23_remove_0 14 rfl rfl)
theorem dJ23_remove_15 : decode cJ23_remove 15 = .ok (.iload_n 1, 1) := dk_27 (dk_at dksJ23_remove_0 15 rfl rfl)
theorem dJ23_remove_16 : decode cJ23_remove 16 = .ok (.aaload, 1) := dk_50 (dk_at dksJ23_remove_0 16 rfl rfl)
theorem dJ23_remove_17 : decode cJ23_remove 17 = .ok (.astore_n 3, 1) := dk_78 (dk_at dksJ23_remove_0 17 rfl rfl)
theorem dJ23_remove_18 : decode cJ23_remove 18 = .ok (.aload_n 0, 1) := dk_42 (dk_at dksJ23_remove_0 18 rfl rfl)
theorem dJ23_remove_19 : decode cJ23_remove 19 = .ok (.aload_n 2, 1) := dk_44 (dk_at dksJ23_remove_0 19 rfl rfl)
theorem dJ23_remove_20 : decode cJ23_remove 20 = .ok (.iload_n 1, 1) := dk_27 (dk_at dksJ23_remove_0 20 rfl rfl)
theorem dJ23_remove_21 : decode cJ23_remove 21 = .ok (.invokevirtual 144, 3) := dk_182 0 144 (dk_at dksJ23_remove_0 21 rfl rfl)
theorem dJ23_remove_24 : decode cJ23_remove 24 = .ok (.aload_n 3, 1) := dk_45 (dk_at dksJ23_remove_1 0 rfl rfl)
theorem dJ23_remove_25 : decode cJ23_remove 25 = .ok (.areturn, 1) := dk_176 (dk_at dksJ23_remove_1 1 rfl rfl)
abbrev cJ23_fastRemove : ByteArray := prog_48_method_39_code
def yJ23_fastRemove : MethodName := ⟨RJ23, "fastRemove", "([Ljava/lang/Object;I)V"⟩
def dkwJ23_fastRemove_1 : List UInt8 := [4, 96, 43, 28, 29, 28, 100, 184, 0, 112, 43, 42, 29, 90, 181, 0, 48, 1, 83, 177]
abbrev dktJ23_fastRemove_1 : List UInt8 := dkwJ23_fastRemove_1 ++ []
def dkwJ23_fastRemove_0 : List UInt8 := [42, 89, 180, 0, 63, 4, 96, 181, 0, 63, 42, 180, 0, 48, 4, 100, 89, 62, 28, 164, 0, 15, 43, 28]
abbrev dktJ23_fastRemove_0 : List UInt8 := dkwJ23_fastRemove_0 ++ dktJ23_fastRemove_1
theorem dksJ23_fastRemove_0 : cJ23_fastRemove.data.toList.drop 0 = dktJ23_fastRemove_0 := by decide +kernel
theorem dksJ23_fastRemove_1 : cJ23_fastRemove.data.toList.drop 24 = dktJ23_fastRemove_1 := dk_seg dksJ23_fastRemove_0 24 rfl rfl
theorem dJ23_fastRemove_0 : decode cJ23_fastRemove 0 = .ok (.aload_n 0, 1) := dk_42 (dk_at dksJ23_fastRemove_0 0 rfl rfl)
theorem dJ23_fastRemove_1 : decode cJ23_fastRemove 1 = .ok (.dup, 1) := dk_89 (dk_at dksJ23_fastRemove_0 1 rfl rfl)
theorem dJ23_fastRemove_2 : decode cJ23_fastRemove 2 = .ok (.getfield 63, 3) := dk_180 0 63 (dk_at dksJ23_fastRemove_0 2 rfl rfl)
theorem dJ23_fastRemove_5 : decode cJ23_fastRemove 5 = .ok (.iconst 1, 1) := dk_4 (dk_at dksJ23_fastRemove_0 5 rfl rfl)
theorem dJ23_fastRemove_6 : decode cJ23_fastRemove 6 = .ok (.iadd, 1) := dk_96 (dk_at dksJ23_fastRemove_0 6 rfl rfl)
theorem dJ23_fastRemove_7 : decode cJ23_fastRemove 7 = .ok (.putfield 63, 3) := dk_181 0 63 (dk_at dksJ23_fastRemove_0 7 rfl rfl)
theorem dJ23_fastRemove_10 : decode cJ23_fastRemove 10 = .ok (.aload_n 0, 1) := dk_42 (dk_at dksJ23_fastRemove_0 10 rfl rfl)
theorem dJ23_fastRemove_11 : decode cJ23_fastRemove 11 = .ok (.getfield 48, 3) := dk_180 0 48 (dk_at dksJ23_fastRemove_0 11 rfl rfl)
theorem dJ23_fastRemove_14 : decode cJ23_fastRemove 14 = .ok (.iconst 1, 1) := dk_4 (dk_at dksJ23_fastRemove_0 14 rfl rfl)
theorem dJ23_fastRemove_15 : decode cJ23_fastRemove 15 = .ok (.isub, 1) := dk_100 (dk_at dksJ23_fastRemove_0 15 rfl rfl)
theorem dJ23_fastRemove_16 : decode cJ23_fastRemove 16 = .ok (.dup, 1) := dk_89 (dk_at dksJ23_fastRemove_0 16 rfl rfl)
theorem dJ23_fastRemove_17 : decode cJ23_fastRemove 17 = .ok (.istore_n 3, 1) := dk_62 (dk_at dksJ23_fastRemove_0 17 rfl rfl)
theorem dJ23_fastRemove_18 : decode cJ23_fastRemove 18 = .ok (.iload_n 2, 1) := dk_28 (dk_at dksJ23_fastRemove_0 18 rfl rfl)
theorem dJ23_fastRemove_19 : decode cJ23_fastRemove 19 = .ok (.if_icmp .le 15, 3) := dk_164 0 15 (dk_at dksJ23_fastRemove_0 19 rfl rfl)
theorem dJ23_fastRemove_22 : decode cJ23_fastRemove 22 = .ok (.aload_n 1, 1) := dk_43 (dk_at dksJ23_fastRemove_0 22 rfl rfl)
theorem dJ23_fastRemove_23 : decode cJ23_fastRemove 23 = .ok (.iload_n 2, 1) := dk_28 (dk_at dksJ23_fastRemove_0 23 rfl rfl)
theorem dJ23_fastRemove_24 : decode cJ23_fastRemove 24 = .ok (.iconst 1, 1) := dk_4 (dk_at dksJ23_fastRemove_1 0 rfl rfl)
theorem dJ23_fastRemove_25 : decode cJ23_fastRemove 25 = .ok (.iadd, 1) := dk_96 (dk_at dksJ23_fastRemove_1 1 rfl rfl)
theorem dJ23_fastRemove_26 : decode cJ23_fastRemove 26 = .ok (.aload_n 1, 1) := dk_43 (dk_at dksJ23_fastRemove_1 2 rfl rfl)
theorem dJ23_fastRemove_27 : decode cJ23_fastRemove 27 = .ok (.iload_n 2, 1) := dk_28 (dk_at dksJ23_fastRemove_1 3 rfl rfl)
theorem dJ23_fastRemove_28 : decode cJ23_fastRemove 28 = .ok (.iload_n 3, 1) := dk_29 (dk_at dksJ23_fastRemove_1 4 rfl rfl)
theorem dJ23_fastRemove_29 : decode cJ23_fastRemove 29 = .ok (.iload_n 2, 1) := dk_28 (dk_at dksJ23_fastRemove_1 5 rfl rfl)
theorem dJ23_fastRemove_30 : decode cJ23_fastRemove 30 = .ok (.isub, 1) := dk_100 (dk_at dksJ23_fastRemove_1 6 rfl rfl)
theorem dJ23_fastRemove_31 : decode cJ23_fastRemove 31 = .ok (.invokestatic 112, 3) := dk_184 0 112 (dk_at dksJ23_fastRemove_1 7 rfl rfl)
theorem dJ23_fastRemove_34 : decode cJ23_fastRemove 34 = .ok (.aload_n 1, 1) := dk_43 (dk_at dksJ23_fastRemove_1 10 rfl rfl)
theorem dJ23_fastRemove_35 : decode cJ23_fastRemove 35 = .ok (.aload_n 0, 1) := dk_42 (dk_at dksJ23_fastRemove_1 11 rfl rfl)
theorem dJ23_fastRemove_36 : decode cJ23_fastRemove 36 = .ok (.iload_n 3, 1) := dk_29 (dk_at dksJ23_fastRemove_1 12 rfl rfl)
theorem dJ23_fastRemove_37 : decode cJ23_fastRemove 37 = .ok (.dup_x1, 1) := dk_90 (dk_at dksJ23_fastRemove_1 13 rfl rfl)
theorem dJ23_fastRemove_38 : decode cJ23_fastRemove 38 = .ok (.putfield 48, 3) := dk_181 0 48 (dk_at dksJ23_fastRemove_1 14 rfl rfl)
theorem dJ23_fastRemove_41 : decode cJ23_fastRemove 41 = .ok (.aconst_null, 1) := dk_1 (dk_at dksJ23_fastRemove_1 17 rfl rfl)
theorem dJ23_fastRemove_42 : decode cJ23_fastRemove 42 = .ok (.aastore, 1) := dk_83 (dk_at dksJ23_fastRemove_1 18 rfl rfl)
theorem dJ23_fastRemove_43 : decode cJ23_fastRemove 43 = .ok (.return_, 1) := dk_177 (dk_at dksJ23_fastRemove_1 19 rfl rfl)
theorem q85 : (Jvm.Cond.initialized "java/util/ArrayList") ∈ lw_all := lw_g (lw_at lw_m1 37 rfl) rfl
theorem q581 : (Jvm.Cond.sameField "java/util/ArrayList" "java/util/AbstractList" "modCount" "I") ∈ lw_all := lw_g (lw_at lw_m3 53 rfl) rfl
theorem q585 : (Jvm.Cond.fieldLink "java/util/ArrayList" (63 : Nat) "java/util/ArrayList" "modCount" "I") ∈ lw_all := lw_g (lw_at lw_m3 57 rfl) rfl
theorem q595 : (Jvm.Cond.castable "java/util/ArrayList" "java/util/List") ∈ lw_tbl := lw_at lw_m3 67 rfl
theorem q596 : (Jvm.Cond.selects "java/util/ArrayList" ({ cls := "java/util/List", name := "indexOf", desc := "(Ljava/lang/Object;)I" } : Jvm.MethodName) ({ cls := "java/util/ArrayList", name := "indexOf", desc := "(Ljava/lang/Object;)I" } : Jvm.MethodName)) ∈ lw_all := lw_g (lw_at lw_m3 68 rfl) rfl
theorem q597 : (Jvm.Cond.unhidden "java/util/ArrayList" "indexOf" "(Ljava/lang/Object;)I") ∈ lw_tbl := lw_at lw_m3 69 rfl
theorem q598 : (Jvm.Cond.instanceMethod ({ cls := "java/util/ArrayList", name := "indexOf", desc := "(Ljava/lang/Object;)I" } : Jvm.MethodName)) ∈ lw_all := lw_g (lw_at lw_m3 70 rfl) rfl
theorem q599 : (Jvm.Cond.publicMethod ({ cls := "java/util/ArrayList", name := "indexOf", desc := "(Ljava/lang/Object;)I" } : Jvm.MethodName)) ∈ lw_tbl := lw_at lw_m3 71 rfl
theorem q600 : (Jvm.Cond.code ({ cls := "java/util/ArrayList", name := "indexOf", desc := "(Ljava/lang/Object;)I" } : Jvm.MethodName) prog_48_method_11_code (2 : Nat) (Option.some Jvm.ClassFile.FieldType.int)) ∈ lw_all := lw_g (lw_at lw_m3 72 rfl) rfl
theorem q601 : (Jvm.Cond.methodLink "java/util/ArrayList" (89 : Nat) ({ cls := "java/util/ArrayList", name := "indexOfRange", desc := "(Ljava/lang/Object;II)I" } : Jvm.MethodName)) ∈ lw_all := lw_g (lw_at lw_m3 73 rfl) rfl
theorem q602 : (Jvm.Cond.instanceMethod ({ cls := "java/util/ArrayList", name := "indexOfRange", desc := "(Ljava/lang/Object;II)I" } : Jvm.MethodName)) ∈ lw_all := lw_g (lw_at lw_m3 74 rfl) rfl
theorem q603 : (Jvm.Cond.selects "java/util/ArrayList" ({ cls := "java/util/ArrayList", name := "indexOfRange", desc := "(Ljava/lang/Object;II)I" } : Jvm.MethodName) ({ cls := "java/util/ArrayList", name := "indexOfRange", desc := "(Ljava/lang/Object;II)I" } : Jvm.MethodName)) ∈ lw_all := lw_g (lw_at lw_m3 75 rfl) rfl
theorem q604 : (Jvm.Cond.code ({ cls := "java/util/ArrayList", name := "indexOfRange", desc := "(Ljava/lang/Object;II)I" } : Jvm.MethodName) prog_48_method_12_code (6 : Nat) (Option.some Jvm.ClassFile.FieldType.int)) ∈ lw_all := lw_g (lw_at lw_m3 76 rfl) rfl
theorem q606 : (Jvm.Cond.methodLink "java/util/ArrayList" (93 : Nat) ({ cls := "java/lang/Object", name := "equals", desc := "(Ljava/lang/Object;)Z" } : Jvm.MethodName)) ∈ lw_all := lw_g (lw_at lw_m3 78 rfl) rfl
theorem q1127 : (Jvm.Cond.instantiable "java/util/ArrayList" (3 : Nat)) ∈ lw_all := lw_g (lw_at lw_m5 119 rfl) rfl
theorem q1129 : (Jvm.Cond.instanceMethod ({ cls := "java/util/ArrayList", name := "<init>", desc := "()V" } : Jvm.MethodName)) ∈ lw_all := lw_g (lw_at lw_m5 121 rfl) rfl
theorem q1130 : (Jvm.Cond.code ({ cls := "java/util/ArrayList", name := "<init>", desc := "()V" } : Jvm.MethodName) prog_48_method_2_code (1 : Nat) (Option.none : Option Jvm.ClassFile.FieldType)) ∈ lw_all := lw_g (lw_at lw_m5 122 rfl) rfl
theorem q1131 : (Jvm.Cond.methodLink "java/util/ArrayList" (1 : Nat) ({ cls := "java/util/AbstractList", name := "<init>", desc := "()V" } : Jvm.MethodName)) ∈ lw_all := lw_g (lw_at lw_m5 123 rfl) rfl
theorem q1132 : (Jvm.Cond.fieldLink "java/util/ArrayList" (39 : Nat) "java/util/ArrayList" "DEFAULTCAPACITY_EMPTY_ELEMENTDATA" "[Ljava/lang/Object;") ∈ lw_all := lw_g (lw_at lw_m5 124 rfl) rfl
theorem q1133 : (Jvm.Cond.laysStatic "java/util/ArrayList" "DEFAULTCAPACITY_EMPTY_ELEMENTDATA" "[Ljava/lang/Object;") ∈ lw_tbl := lw_at lw_m5 125 rfl
theorem q1134 : (Jvm.Cond.fieldLink "java/util/ArrayList" (9 : Nat) "java/util/ArrayList" "elementData" "[Ljava/lang/Object;") ∈ lw_all := lw_g (lw_at lw_m5 126 rfl) rfl
theorem q1138 : (Jvm.Cond.fieldLink "java/util/ArrayList" (48 : Nat) "java/util/ArrayList" "size" "I") ∈ lw_all := lw_g (lw_at lw_m5 130 rfl) rfl
theorem q1139 : (Jvm.Cond.lays "java/util/ArrayList" "java/util/ArrayList" "elementData" "[Ljava/lang/Object;") ∈ lw_all := lw_g (lw_at lw_m5 131 rfl) rfl
theorem q1140 : (Jvm.Cond.soleField "java/util/ArrayList" "elementData") ∈ lw_all := lw_g (lw_at lw_m5 132 rfl) rfl
theorem q1141 : (Jvm.Cond.lays "java/util/ArrayList" "java/util/ArrayList" "size" "I") ∈ lw_all := lw_g (lw_at lw_m5 133 rfl) rfl
theorem q1142 : (Jvm.Cond.soleField "java/util/ArrayList" "size") ∈ lw_all := lw_g (lw_at lw_m5 134 rfl) rfl
theorem q1143 : (Jvm.Cond.lays "java/util/ArrayList" "java/util/AbstractList" "modCount" "I") ∈ lw_all := lw_g (lw_at lw_m5 135 rfl) rfl
theorem q1144 : (Jvm.Cond.superclass "java/util/ArrayList" "java/util/AbstractList") ∈ lw_all := lw_g (lw_at lw_m5 136 rfl) rfl
theorem q1149 : (Jvm.Cond.selects "java/util/ArrayList" ({ cls := "java/util/List", name := "listIterator", desc := "()Ljava/util/ListIterator;" } : Jvm.MethodName) ({ cls := "java/util/ArrayList", name := "listIterator", desc := "()Ljava/util/ListIterator;" } : Jvm.MethodName)) ∈ lw_all := lw_g (lw_at lw_m5 141 rfl) rfl
theorem q1150 : (Jvm.Cond.unhidden "java/util/ArrayList" "listIterator" "()Ljava/util/ListIterator;") ∈ lw_tbl := lw_at lw_m5 142 rfl
theorem q1151 : (Jvm.Cond.instanceMethod ({ cls := "java/util/ArrayList", name := "listIterator", desc := "()Ljava/util/ListIterator;" } : Jvm.MethodName)) ∈ lw_all := lw_g (lw_at lw_m5 143 rfl) rfl
theorem q1152 : (Jvm.Cond.publicMethod ({ cls := "java/util/ArrayList", name := "listIterator", desc := "()Ljava/util/ListIterator;" } : Jvm.MethodName)) ∈ lw_tbl := lw_at lw_m5 144 rfl
theorem q1153 : (Jvm.Cond.code ({ cls := "java/util/ArrayList", name := "listIterator", desc := "()Ljava/util/ListIterator;" } : Jvm.MethodName) prog_48_method_54_code (1 : Nat) (Option.some (Jvm.ClassFile.FieldType.object "java/util/ListIterator"))) ∈ lw_all := lw_g (lw_at lw_m5 145 rfl) rfl
theorem q1154 : (Jvm.Cond.classLink "java/util/ArrayList" (262 : Nat) "java/util/ArrayList$ListItr") ∈ lw_all := lw_g (lw_at lw_m5 146 rfl) rfl
theorem q1156 : (Jvm.Cond.methodLink "java/util/ArrayList" (264 : Nat) ({ cls := "java/util/ArrayList$ListItr", name := "<init>", desc := "(Ljava/util/ArrayList;I)V" } : Jvm.MethodName)) ∈ lw_all := lw_g (lw_at lw_m5 148 rfl) rfl
theorem q1193 : (Jvm.Cond.selects "java/util/ArrayList" ({ cls := "java/util/AbstractList", name := "listIterator", desc := "(I)Ljava/util/ListIterator;" } : Jvm.MethodName) ({ cls := "java/util/ArrayList", name := "listIterator", desc := "(I)Ljava/util/ListIterator;" } : Jvm.MethodName)) ∈ lw_all := lw_g (lw_at lw_m5 185 rfl) rfl
theorem q1194 : (Jvm.Cond.instanceMethod ({ cls := "java/util/ArrayList", name := "listIterator", desc := "(I)Ljava/util/ListIterator;" } : Jvm.MethodName)) ∈ lw_all := lw_g (lw_at lw_m5 186 rfl) rfl
theorem q1195 : (Jvm.Cond.code ({ cls := "java/util/ArrayList", name := "listIterator", desc := "(I)Ljava/util/ListIterator;" } : Jvm.MethodName) prog_48_method_53_code (2 : Nat) (Option.some (Jvm.ClassFile.FieldType.object "java/util/ListIterator"))) ∈ lw_all := lw_g (lw_at lw_m5 187 rfl) rfl
theorem q1196 : (Jvm.Cond.methodLink "java/util/ArrayList" (135 : Nat) ({ cls := "java/util/ArrayList", name := "rangeCheckForAdd", desc := "(I)V" } : Jvm.MethodName)) ∈ lw_all := lw_g (lw_at lw_m5 188 rfl) rfl
theorem q1197 : (Jvm.Cond.privateMethod ({ cls := "java/util/ArrayList", name := "rangeCheckForAdd", desc := "(I)V" } : Jvm.MethodName)) ∈ lw_tbl := lw_at lw_m5 189 rfl
theorem q1198 : (Jvm.Cond.instanceMethod ({ cls := "java/util/ArrayList", name := "rangeCheckForAdd", desc := "(I)V" } : Jvm.MethodName)) ∈ lw_all := lw_g (lw_at lw_m5 190 rfl) rfl
theorem q1199 : (Jvm.Cond.code ({ cls := "java/util/ArrayList", name := "rangeCheckForAdd", desc := "(I)V" } : Jvm.MethodName) prog_48_method_45_code (2 : Nat) (Option.none : Option Jvm.ClassFile.FieldType)) ∈ lw_all := lw_g (lw_at lw_m5 191 rfl) rfl
theorem q1209 : (Jvm.Cond.selects "java/util/ArrayList" ({ cls := "java/util/AbstractList", name := "size", desc := "()I" } : Jvm.MethodName) ({ cls := "java/util/ArrayList", name := "size", desc := "()I" } : Jvm.MethodName)) ∈ lw_all := lw_g (lw_at lw_m5 201 rfl) rfl
theorem q1210 : (Jvm.Cond.instanceMethod ({ cls := "java/util/ArrayList", name := "size", desc := "()I" } : Jvm.MethodName)) ∈ lw_all := lw_g (lw_at lw_m5 202 rfl) rfl
theorem q1211 : (Jvm.Cond.code ({ cls := "java/util/ArrayList", name := "size", desc := "()I" } : Jvm.MethodName) prog_48_method_8_code (1 : Nat) (Option.some Jvm.ClassFile.FieldType.int)) ∈ lw_all := lw_g (lw_at lw_m5 203 rfl) rfl
theorem q1343 : (Jvm.Cond.selects "java/util/ArrayList" ({ cls := "java/util/List", name := "get", desc := "(I)Ljava/lang/Object;" } : Jvm.MethodName) ({ cls := "java/util/ArrayList", name := "get", desc := "(I)Ljava/lang/Object;" } : Jvm.MethodName)) ∈ lw_all := lw_g (lw_at lw_m6 95 rfl) rfl
theorem q1344 : (Jvm.Cond.unhidden "java/util/ArrayList" "get" "(I)Ljava/lang/Object;") ∈ lw_tbl := lw_at lw_m6 96 rfl
theorem q1345 : (Jvm.Cond.instanceMethod ({ cls := "java/util/ArrayList", name := "get", desc := "(I)Ljava/lang/Object;" } : Jvm.MethodName)) ∈ lw_all := lw_g (lw_at lw_m6 97 rfl) rfl
theorem q1346 : (Jvm.Cond.publicMethod ({ cls := "java/util/ArrayList", name := "get", desc := "(I)Ljava/lang/Object;" } : Jvm.MethodName)) ∈ lw_tbl := lw_at lw_m6 98 rfl
theorem q1347 : (Jvm.Cond.code ({ cls := "java/util/ArrayList", name := "get", desc := "(I)Ljava/lang/Object;" } : Jvm.MethodName) prog_48_method_20_code (2 : Nat) (Option.some (Jvm.ClassFile.FieldType.object "java/lang/Object"))) ∈ lw_all := lw_g (lw_at lw_m6 99 rfl) rfl
theorem q1348 : (Jvm.Cond.methodLink "java/util/ArrayList" (118 : Nat) ({ cls := "java/util/Objects", name := "checkIndex", desc := "(II)I" } : Jvm.MethodName)) ∈ lw_all := lw_g (lw_at lw_m6 100 rfl) rfl
theorem q1352 : (Jvm.Cond.methodLink "java/util/ArrayList" (123 : Nat) ({ cls := "java/util/ArrayList", name := "elementData", desc := "(I)Ljava/lang/Object;" } : Jvm.MethodName)) ∈ lw_all := lw_g (lw_at lw_m6 104 rfl) rfl
theorem q1353 : (Jvm.Cond.instanceMethod ({ cls := "java/util/ArrayList", name := "elementData", desc := "(I)Ljava/lang/Object;" } : Jvm.MethodName)) ∈ lw_all := lw_g (lw_at lw_m6 105 rfl) rfl
theorem q1354 : (Jvm.Cond.selects "java/util/ArrayList" ({ cls := "java/util/ArrayList", name := "elementData", desc := "(I)Ljava/lang/Object;" } : Jvm.MethodName) ({ cls := "java/util/ArrayList", name := "elementData", desc := "(I)Ljava/lang/Object;" } : Jvm.MethodName)) ∈ lw_all := lw_g (lw_at lw_m6 106 rfl) rfl
theorem q1355 : (Jvm.Cond.code ({ cls := "java/util/ArrayList", name := "elementData", desc := "(I)Ljava/lang/Object;" } : Jvm.MethodName) prog_48_method_18_code (2 : Nat) (Option.some (Jvm.ClassFile.FieldType.object "java/lang/Object"))) ∈ lw_all := lw_g (lw_at lw_m6 107 rfl) rfl
theorem q1394 : (Jvm.Cond.selects "java/util/ArrayList" ({ cls := "java/util/AbstractList", name := "get", desc := "(I)Ljava/lang/Object;" } : Jvm.MethodName) ({ cls := "java/util/ArrayList", name := "get", desc := "(I)Ljava/lang/Object;" } : Jvm.MethodName)) ∈ lw_all := lw_g (lw_at lw_m6 146 rfl) rfl
theorem q1441 : (Jvm.Cond.selects "java/util/ArrayList" ({ cls := "java/lang/Object", name := "getClass", desc := "()Ljava/lang/Class;" } : Jvm.MethodName) ({ cls := "java/lang/Object", name := "getClass", desc := "()Ljava/lang/Class;" } : Jvm.MethodName)) ∈ lw_all := lw_g (lw_at lw_m6 193 rfl) rfl
theorem q1603 : (Jvm.Cond.selects "java/util/ArrayList" ({ cls := "java/util/List", name := "size", desc := "()I" } : Jvm.MethodName) ({ cls := "java/util/ArrayList", name := "size", desc := "()I" } : Jvm.MethodName)) ∈ lw_all := lw_g (lw_at lw_m7 115 rfl) rfl
theorem q1604 : (Jvm.Cond.unhidden "java/util/ArrayList" "size" "()I") ∈ lw_tbl := lw_at lw_m7 116 rfl
theorem q1605 : (Jvm.Cond.publicMethod ({ cls := "java/util/ArrayList", name := "size", desc := "()I" } : Jvm.MethodName)) ∈ lw_tbl := lw_at lw_m7 117 rfl
theorem q1621 : (Jvm.Cond.selects "java/util/ArrayList" ({ cls := "java/util/AbstractList", name := "add", desc := "(ILjava/lang/Object;)V" } : Jvm.MethodName) ({ cls := "java/util/ArrayList", name := "add", desc := "(ILjava/lang/Object;)V" } : Jvm.MethodName)) ∈ lw_all := lw_g (lw_at lw_m7 133 rfl) rfl
theorem q1622 : (Jvm.Cond.instanceMethod ({ cls := "java/util/ArrayList", name := "add", desc := "(ILjava/lang/Object;)V" } : Jvm.MethodName)) ∈ lw_all := lw_g (lw_at lw_m7 134 rfl) rfl
theorem q1623 : (Jvm.Cond.code ({ cls := "java/util/ArrayList", name := "add", desc := "(ILjava/lang/Object;)V" } : Jvm.MethodName) prog_48_method_26_code (5 : Nat) (Option.none : Option Jvm.ClassFile.FieldType)) ∈ lw_all := lw_g (lw_at lw_m7 135 rfl) rfl
theorem q1624 : (Jvm.Cond.methodLink "java/util/ArrayList" (129 : Nat) ({ cls := "java/util/ArrayList", name := "grow", desc := "()[Ljava/lang/Object;" } : Jvm.MethodName)) ∈ lw_all := lw_g (lw_at lw_m7 136 rfl) rfl
theorem q1625 : (Jvm.Cond.privateMethod ({ cls := "java/util/ArrayList", name := "grow", desc := "()[Ljava/lang/Object;" } : Jvm.MethodName)) ∈ lw_tbl := lw_at lw_m7 137 rfl
theorem q1626 : (Jvm.Cond.instanceMethod ({ cls := "java/util/ArrayList", name := "grow", desc := "()[Ljava/lang/Object;" } : Jvm.MethodName)) ∈ lw_all := lw_g (lw_at lw_m7 138 rfl) rfl
theorem q1627 : (Jvm.Cond.code ({ cls := "java/util/ArrayList", name := "grow", desc := "()[Ljava/lang/Object;" } : Jvm.MethodName) prog_48_method_7_code (1 : Nat) (Option.some (Jvm.ClassFile.FieldType.array (Jvm.ClassFile.FieldType.object "java/lang/Object")))) ∈ lw_all := lw_g (lw_at lw_m7 139 rfl) rfl
theorem q1628 : (Jvm.Cond.methodLink "java/util/ArrayList" (69 : Nat) ({ cls := "java/util/ArrayList", name := "grow", desc := "(I)[Ljava/lang/Object;" } : Jvm.MethodName)) ∈ lw_all := lw_g (lw_at lw_m7 140 rfl) rfl
theorem q1629 : (Jvm.Cond.privateMethod ({ cls := "java/util/ArrayList", name := "grow", desc := "(I)[Ljava/lang/Object;" } : Jvm.MethodName)) ∈ lw_tbl := lw_at lw_m7 141 rfl
theorem q1630 : (Jvm.Cond.instanceMethod ({ cls := "java/util/ArrayList", name := "grow", desc := "(I)[Ljava/lang/Object;" } : Jvm.MethodName)) ∈ lw_all := lw_g (lw_at lw_m7 142 rfl) rfl
theorem q1631 : (Jvm.Cond.code ({ cls := "java/util/ArrayList", name := "grow", desc := "(I)[Ljava/lang/Object;" } : Jvm.MethodName) prog_48_method_6_code (4 : Nat) (Option.some (Jvm.ClassFile.FieldType.array (Jvm.ClassFile.FieldType.object "java/lang/Object")))) ∈ lw_all := lw_g (lw_at lw_m7 143 rfl) rfl
theorem q1632 : (Jvm.Cond.methodLink "java/util/ArrayList" (73 : Nat) ({ cls := "jdk/internal/util/ArraysSupport", name := "newLength", desc := "(III)I" } : Jvm.MethodName)) ∈ lw_all := lw_g (lw_at lw_m7 144 rfl) rfl
theorem q1633 : (Jvm.Cond.methodLink "java/util/ArrayList" (66 : Nat) ({ cls := "java/util/Arrays", name := "copyOf", desc := "([Ljava/lang/Object;I)[Ljava/lang/Object;" } : Jvm.MethodName)) ∈ lw_all := lw_g (lw_at lw_m7 145 rfl) rfl
theorem q1642 : (Jvm.Cond.methodLink "java/util/ArrayList" (79 : Nat) ({ cls := "java/lang/Math", name := "max", desc := "(II)I" } : Jvm.MethodName)) ∈ lw_all := lw_g (lw_at lw_m7 154 rfl) rfl
theorem q1643 : (Jvm.Cond.classLink "java/util/ArrayList" (7 : Nat) "java/lang/Object") ∈ lw_all := lw_g (lw_at lw_m7 155 rfl) rfl
theorem q1644 : (Jvm.Cond.methodLink "java/util/ArrayList" (112 : Nat) ({ cls := "java/lang/System", name := "arraycopy", desc := "(Ljava/lang/Object;ILjava/lang/Object;II)V" } : Jvm.MethodName)) ∈ lw_all := lw_g (lw_at lw_m7 156 rfl) rfl
theorem q1705 : (Jvm.Cond.selects "java/util/ArrayList" ({ cls := "java/util/AbstractList", name := "set", desc := "(ILjava/lang/Object;)Ljava/lang/Object;" } : Jvm.MethodName) ({ cls := "java/util/ArrayList", name := "set", desc := "(ILjava/lang/Object;)Ljava/lang/Object;" } : Jvm.MethodName)) ∈ lw_all := lw_g (lw_at lw_m7 217 rfl) rfl
theorem q1706 : (Jvm.Cond.instanceMethod ({ cls := "java/util/ArrayList", name := "set", desc := "(ILjava/lang/Object;)Ljava/lang/Object;" } : Jvm.MethodName)) ∈ lw_all := lw_g (lw_at lw_m7 218 rfl) rfl
theorem q1707 : (Jvm.Cond.code ({ cls := "java/util/ArrayList", name := "set", desc := "(ILjava/lang/Object;)Ljava/lang/Object;" } : Jvm.MethodName) prog_48_method_23_code (4 : Nat) (Option.some (Jvm.ClassFile.FieldType.object "java/lang/Object"))) ∈ lw_all := lw_g (lw_at lw_m7 219 rfl) rfl
theorem q1742 : (Jvm.Cond.selects "java/util/ArrayList" ({ cls := "java/util/AbstractList", name := "remove", desc := "(I)Ljava/lang/Object;" } : Jvm.MethodName) ({ cls := "java/util/ArrayList", name := "remove", desc := "(I)Ljava/lang/Object;" } : Jvm.MethodName)) ∈ lw_all := lw_g (lw_at lw_m8 14 rfl) rfl
theorem q1743 : (Jvm.Cond.instanceMethod ({ cls := "java/util/ArrayList", name := "remove", desc := "(I)Ljava/lang/Object;" } : Jvm.MethodName)) ∈ lw_all := lw_g (lw_at lw_m8 15 rfl) rfl
theorem q1744 : (Jvm.Cond.code ({ cls := "java/util/ArrayList", name := "remove", desc := "(I)Ljava/lang/Object;" } : Jvm.MethodName) prog_48_method_29_code (4 : Nat) (Option.some (Jvm.ClassFile.FieldType.object "java/lang/Object"))) ∈ lw_all := lw_g (lw_at lw_m8 16 rfl) rfl
theorem q1745 : (Jvm.Cond.methodLink "java/util/ArrayList" (144 : Nat) ({ cls := "java/util/ArrayList", name := "fastRemove", desc := "([Ljava/lang/Object;I)V" } : Jvm.MethodName)) ∈ lw_all := lw_g (lw_at lw_m8 17 rfl) rfl
theorem q1746 : (Jvm.Cond.privateMethod ({ cls := "java/util/ArrayList", name := "fastRemove", desc := "([Ljava/lang/Object;I)V" } : Jvm.MethodName)) ∈ lw_tbl := lw_at lw_m8 18 rfl
theorem q1747 : (Jvm.Cond.instanceMethod ({ cls := "java/util/ArrayList", name := "fastRemove", desc := "([Ljava/lang/Object;I)V" } : Jvm.MethodName)) ∈ lw_all := lw_g (lw_at lw_m8 19 rfl) rfl
theorem q1748 : (Jvm.Cond.code ({ cls := "java/util/ArrayList", name := "fastRemove", desc := "([Ljava/lang/Object;I)V" } : Jvm.MethodName) prog_48_method_39_code (4 : Nat) (Option.none : Option Jvm.ClassFile.FieldType)) ∈ lw_all := lw_g (lw_at lw_m8 20 rfl) rfl
theorem q2191 : (Jvm.Cond.selects "java/util/ArrayList" ({ cls := "java/util/ArrayList", name := "add", desc := "(ILjava/lang/Object;)V" } : Jvm.MethodName) ({ cls := "java/util/ArrayList", name := "add", desc := "(ILjava/lang/Object;)V" } : Jvm.MethodName)) ∈ lw_all := lw_g (lw_at lw_m9 223 rfl) rfl
theorem q2192 : (Jvm.Cond.selects "java/util/ArrayList" ({ cls := "java/util/ArrayList", name := "set", desc := "(ILjava/lang/Object;)Ljava/lang/Object;" } : Jvm.MethodName) ({ cls := "java/util/ArrayList", name := "set", desc := "(ILjava/lang/Object;)Ljava/lang/Object;" } : Jvm.MethodName)) ∈ lw_all := lw_g (lw_at lw_m9 224 rfl) rfl
theorem q2193 : (Jvm.Cond.selects "java/util/ArrayList" ({ cls := "java/util/ArrayList", name := "remove", desc := "(I)Ljava/lang/Object;" } : Jvm.MethodName) ({ cls := "java/util/ArrayList", name := "remove", desc := "(I)Ljava/lang/Object;" } : Jvm.MethodName)) ∈ lw_all := lw_g (lw_at lw_m9 225 rfl) rfl
theorem q2221 : (Jvm.Cond.castable "java/util/ArrayList" "java/lang/Object") ∈ lw_tbl := lw_at lw_m10 13 rfl
theorem in_J23 : ∀ w ∈ wsJ230, w ∈ lw_all := lw_in wsJ230 [1143, 1139, 1141] (by decide +kernel) (by decide +kernel)
/-! java/util/ArrayList$Itr -/
set_option maxRecDepth 100000
def RJ24 : String := "java/util/ArrayList$Itr"
abbrev cJ24_init : ByteArray := prog_49_method_1_code
def yJ24_init : MethodName := ⟨RJ24, "<init>", "(Ljava/util/ArrayList;)V"⟩
def dkwJ24_init_1 : List UInt8 := [181, 0, 22, 177]
abbrev dktJ24_init_1 : List UInt8 := dkwJ24_init_1 ++ []
def dkwJ24_init_0 : List UInt8 := [42, 43, 181, 0, 1, 42, 183, 0, 7, 42, 2, 181, 0, 13, 42, 42, 180, 0, 1, 180, 0, 17]
abbrev dktJ24_init_0 : List UInt8 := dkwJ24_init_0 ++ dktJ24_init_1
theorem dksJ24_init_0 : cJ24_init.data.toList.drop 0 = dktJ24_init_0 := by decide +kernel
theorem dksJ24_init_1 : cJ24_init.data.toList.drop 22 = dktJ24_init_1 := dk_seg dksJ24_init_0 22 rfl rfl
theorem dJ24_init_0 : decode cJ24_init 0 = .ok (.aload_n 0, 1) := dk_42 (dk_at dksJ24_init_0 0 rfl rfl)
theorem dJ24_init_1 : decode cJ24_init 1 = .ok (.aload_n 1, 1) := dk_43 (dk_at dksJ24_init_0 1 rfl rfl)
theorem dJ24_init_2 : decode cJ24_init 2 = .ok (.putfield 1, 3) := dk_181 0 1 (dk_at dksJ24_init_0 2 rfl rfl)
theorem dJ24_init_5 : decode cJ24_init 5 = .ok (.aload_n 0, 1) := dk_42 (dk_at dksJ24_init_0 5 rfl rfl)
theorem dJ24_init_6 : decode cJ24_init 6 = .ok (.invokespecial 7, 3) := dk_183 0 7 (dk_at dksJ24_init_0 6 rfl rfl)
theorem dJ24_init_9 : decode cJ24_init 9 = .ok (.aload_n 0, 1) := dk_42 (dk_at dksJ24_init_0 9 rfl rfl)
theorem dJ24_init_10 : decode cJ24_init 10 = .ok (.iconst (-1), 1) := dk_2 (dk_at dksJ24_init_0 10 rfl rfl)
theorem dJ24_init_11 : decode cJ24_init 11 = .ok (.putfield 13, 3) := dk_181 0 13 (dk_at dksJ24_init_0 11 rfl rfl)
theorem dJ24_init_14 : decode cJ24_init 14 = .ok (.aload_n 0, 1) := dk_42 (dk_at dksJ24_init_0 14 rfl rfl)
theorem dJ24_init_15 : decode cJ24_init 15 = .ok (.aload_n 0, 1) := dk_42 (dk_at dksJ24_init_0 15 rfl rfl)
theorem dJ24_init_16 : decode cJ24_init 16 = .ok (.getfield 1, 3) := dk_180 0 1 (dk_at dksJ24_init_0 16 rfl rfl)
theorem dJ24_init_19 : decode cJ24_init 19 = .ok (.getfield 17, 3) := dk_180 0 17 (dk_at dksJ24_init_0 19 rfl rfl)
theorem dJ24_init_22 : decode cJ24_init 22 = .ok (.putfield 22, 3) := dk_181 0 22 (dk_at dksJ24_init_1 0 rfl rfl)
theorem dJ24_init_25 : decode cJ24_init 25 = .ok (.return_, 1) := dk_177 (dk_at dksJ24_init_1 3 rfl rfl)
abbrev cJ24_hasNext : ByteArray := prog_49_method_2_code
def yJ24_hasNext : MethodName := ⟨RJ24, "hasNext", "()Z"⟩
def dkwJ24_hasNext_0 : List UInt8 := [42, 180, 0, 25, 42, 180, 0, 1, 180, 0, 28, 159, 0, 7, 4, 167, 0, 4, 3, 172]
abbrev dktJ24_hasNext_0 : List UInt8 := dkwJ24_hasNext_0 ++ []
theorem dksJ24_hasNext_0 : cJ24_hasNext.data.toList.drop 0 = dktJ24_hasNext_0 := by decide +kernel
theorem dJ24_hasNext_0 : decode cJ24_hasNext 0 = .ok (.aload_n 0, 1) := dk_42 (dk_at dksJ24_hasNext_0 0 rfl rfl)
theorem dJ24_hasNext_1 : decode cJ24_hasNext 1 = .ok (.getfield 25, 3) := dk_180 0 25 (dk_at dksJ24_hasNext_0 1 rfl rfl)
theorem dJ24_hasNext_4 : decode cJ24_hasNext 4 = .ok (.aload_n 0, 1) := dk_42 (dk_at dksJ24_hasNext_0 4 rfl rfl)
theorem dJ24_hasNext_5 : decode cJ24_hasNext 5 = .ok (.getfield 1, 3) := dk_180 0 1 (dk_at dksJ24_hasNext_0 5 rfl rfl)
theorem dJ24_hasNext_8 : decode cJ24_hasNext 8 = .ok (.getfield 28, 3) := dk_180 0 28 (dk_at dksJ24_hasNext_0 8 rfl rfl)
theorem dJ24_hasNext_11 : decode cJ24_hasNext 11 = .ok (.if_icmp .eq 7, 3) := dk_159 0 7 (dk_at dksJ24_hasNext_0 11 rfl rfl)
theorem dJ24_hasNext_14 : decode cJ24_hasNext 14 = .ok (.iconst 1, 1) := dk_4 (dk_at dksJ24_hasNext_0 14 rfl rfl)
theorem dJ24_hasNext_15 : decode cJ24_hasNext 15 = .ok (.goto 4, 3) := dk_167 0 4 (dk_at dksJ24_hasNext_0 15 rfl rfl)
theorem dJ24_hasNext_18 : decode cJ24_hasNext 18 = .ok (.iconst 0, 1) := dk_3 (dk_at dksJ24_hasNext_0 18 rfl rfl)
theorem dJ24_hasNext_19 : decode cJ24_hasNext 19 = .ok (.ireturn, 1) := dk_172 (dk_at dksJ24_hasNext_0 19 rfl rfl)
abbrev cJ24_checkForComodification : ByteArray := prog_49_method_6_code
def yJ24_checkForComodification : MethodName := ⟨RJ24, "checkForComodification", "()V"⟩
def dkwJ24_checkForComodification_0 : List UInt8 := [42, 180, 0, 1, 180, 0, 17, 42, 180, 0, 22, 159, 0, 11, 187, 0, 41, 89, 183, 0, 43, 191, 177]
abbrev dktJ24_checkForComodification_0 : List UInt8 := dkwJ24_checkForComodification_0 ++ []
theorem dksJ24_checkForComodification_0 : cJ24_checkForComodification.data.toList.drop 0 = dktJ24_checkForComodification_0 := by decide +kernel
theorem dJ24_checkForComodification_0 : decode cJ24_checkForComodification 0 = .ok (.aload_n 0, 1) := dk_42 (dk_at dksJ24_checkForComodification_0 0 rfl rfl)
theorem dJ24_checkForComodification_1 : decode cJ24_checkForComodification 1 = .ok (.getfield 1, 3) := dk_180 0 1 (dk_at dksJ24_checkForComodification_0 1 rfl rfl)
theorem dJ24_checkForComodification_4 : decode cJ24_checkForComodification 4 = .ok (.getfield 17, 3) := dk_180 0 17 (dk_at dksJ24_checkForComodification_0 4 rfl rfl)
theorem dJ24_checkForComodification_7 : decode cJ24_checkForComodification 7 = .ok (.aload_n 0, 1) := dk_42 (dk_at dksJ24_checkForComodification_0 7 rfl rfl)
theorem dJ24_checkForComodification_8 : decode cJ24_checkForComodification 8 = .ok (.getfield 22, 3) := dk_180 0 22 (dk_at dksJ24_checkForComodification_0 8 rfl rfl)
theorem dJ24_checkForComodification_11 : decode cJ24_checkForComodification 11 = .ok (.if_icmp .eq 11, 3) := dk_159 0 11 (dk_at dksJ24_checkForComodification_0 11 rfl rfl)
theorem dJ24_checkForComodification_14 : decode cJ24_checkForComodification 14 = .ok (.new 41, 3) := dk_187 0 41 (dk_at dksJ24_checkForComodification_0 14 rfl rfl)
theorem dJ24_checkForComodification_17 : decode cJ24_checkForComodification 17 = .ok (.dup, 1) := dk_89 (dk_at dksJ24_checkForComodification_0 17 rfl rfl)
theorem dJ24_checkForComodification_18 : decode cJ24_checkForComodification 18 = .ok (.invokespecial 43, 3) := dk_183 0 43 (dk_at dksJ24_checkForComodification_0 18 rfl rfl)
theorem dJ24_checkForComodification_21 : decode cJ24_checkForComodification 21 = .ok (.athrow, 1) := dk_191 (dk_at dksJ24_checkForComodification_0 21 rfl rfl)
theorem dJ24_checkForComodification_22 : decode cJ24_checkForComodification 22 = .ok (.return_, 1) := dk_177 (dk_at dksJ24_checkForComodification_0 22 rfl rfl)
abbrev cJ24_next : ByteArray := prog_49_method_3_code
def yJ24_next : MethodName := ⟨RJ24, "next", "()Ljava/lang/Object;"⟩
def dkwJ24_next_2 : List UInt8 := [183, 0, 43, 191, 42, 27, 4, 96, 181, 0, 25, 44, 42, 27, 90, 181, 0, 13, 50, 176]
abbrev dktJ24_next_2 : List UInt8 := dkwJ24_next_2 ++ []
def dkwJ24_next_1 : List UInt8 := [183, 0, 36, 191, 42, 180, 0, 1, 180, 0, 37, 77, 27, 44, 190, 161, 0, 11, 187, 0, 41, 89]
abbrev dktJ24_next_1 : List UInt8 := dkwJ24_next_1 ++ dktJ24_next_2
def dkwJ24_next_0 : List UInt8 := [42, 182, 0, 31, 42, 180, 0, 25, 60, 27, 42, 180, 0, 1, 180, 0, 28, 161, 0, 11, 187, 0, 34, 89]
abbrev dktJ24_next_0 : List UInt8 := dkwJ24_next_0 ++ dktJ24_next_1
theorem dksJ24_next_0 : cJ24_next.data.toList.drop 0 = dktJ24_next_0 := by decide +kernel
theorem dksJ24_next_1 : cJ24_next.data.toList.drop 24 = dktJ24_next_1 := dk_seg dksJ24_next_0 24 rfl rfl
theorem dksJ24_next_2 : cJ24_next.data.toList.drop 46 = dktJ24_next_2 := dk_seg dksJ24_next_1 22 rfl rfl
theorem dJ24_next_0 : decode cJ24_next 0 = .ok (.aload_n 0, 1) := dk_42 (dk_at dksJ24_next_0 0 rfl rfl)
theorem dJ24_next_1 : decode cJ24_next 1 = .ok (.invokevirtual 31, 3) := dk_182 0 31 (dk_at dksJ24_next_0 1 rfl rfl)
theorem dJ24_next_4 : decode cJ24_next 4 = .ok (.aload_n 0, 1) := dk_42 (dk_at dksJ24_next_0 4 rfl rfl)
theorem dJ24_next_5 : decode cJ24_next 5 = .ok (.getfield 25, 3) := dk_180 0 25 (dk_at dksJ24_next_0 5 rfl rfl)
theorem dJ24_next_8 : decode cJ24_next 8 = .ok (.istore_n 1, 1) := dk_60 (dk_at dksJ24_next_0 8 rfl rfl)
theorem dJ24_next_9 : decode cJ24_next 9 = .ok (.iload_n 1, 1) := dk_27 (dk_at dksJ24_next_0 9 rfl rfl)
theorem dJ24_next_10 : decode cJ24_next 10 = .ok (.aload_n 0, 1) := dk_42 (dk_at dksJ24_next_0 10 rfl rfl)
theorem dJ24_next_11 : decode cJ24_next 11 = .ok (.getfield 1, 3) := dk_180 0 1 (dk_at dksJ24_next_0 11 rfl rfl)
theorem dJ24_next_14 : decode cJ24_next 14 = .ok (.getfield 28, 3) := dk_180 0 28 (dk_at dksJ24_next_0 14 rfl rfl)
theorem dJ24_next_17 : decode cJ24_next 17 = .ok (.if_icmp .lt 11, 3) := dk_161 0 11 (dk_at dksJ24_next_0 17 rfl rfl)
theorem dJ24_next_20 : decode cJ24_next 20 = .ok (.new 34, 3) := dk_187 0 34 (dk_at dksJ24_next_0 20 rfl rfl)
theorem dJ24_next_23 : decode cJ24_next 23 = .ok (.dup, 1) := dk_89 (dk_at dksJ24_next_0 23 rfl rfl)
theorem dJ24_next_24 : decode cJ24_next 24 = .ok (.invokespecial 36, 3) := dk_183 0 36 (dk_at dksJ24_next_1 0 rfl rfl)
theorem dJ24_next_27 : decode cJ24_next 27 = .ok (.athrow, 1) := dk_191 (dk_at dksJ24_next_1 3 rfl rfl)
theorem dJ24_next_28 : decode cJ24_next 28 = .ok (.aload_n 0, 1) := dk_42 (dk_at dksJ24_next_1 4 rfl rfl)
theorem dJ24_next_29 : decode cJ24_next 29 = .ok (.getfield 1, 3) := dk_180 0 1 (dk_at dksJ24_next_1 5 rfl rfl)
theorem dJ24_next_32 : decode cJ24_next 32 = .ok (.getfield 37, 3) := dk_180 0 37 (dk_at dksJ24_next_1 8 rfl rfl)
theorem dJ24_next_35 : decode cJ24_next 35 = .ok (.astore_n 2, 1) := dk_77 (dk_at dksJ24_next_1 11 rfl rfl)
theorem dJ24_next_36 : decode cJ24_next 36 = .ok (.iload_n 1, 1) := dk_27 (dk_at dksJ24_next_1 12 rfl rfl)
theorem dJ24_next_37 : decode cJ24_next 37 = .ok (.aload_n 2, 1) := dk_44 (dk_at dksJ24_next_1 13 rfl rfl)
theorem dJ24_next_38 : decode cJ24_next 38 = .ok (.arraylength, 1) := dk_190 (dk_at dksJ24_next_1 14 rfl rfl)
theorem dJ24_next_39 : decode cJ24_next 39 = .ok (.if_icmp .lt 11, 3) := dk_161 0 11 (dk_at dksJ24_next_1 15 rfl rfl)
theorem dJ24_next_42 : decode cJ24_next 42 = .ok (.new 41, 3) := dk_187 0 41 (dk_at dksJ24_next_1 18 rfl rfl)
theorem dJ24_next_45 : decode cJ24_next 45 = .ok (.dup, 1) := dk_89 (dk_at dksJ24_next_1 21 rfl rfl)
theorem dJ24_next_46 : decode cJ24_next 46 = .ok (.invokespecial 43, 3) := dk_183 0 43 (dk_at dksJ24_next_2 0 rfl rfl)
theorem dJ24_next_49 : decode cJ24_next 49 = .ok (.athrow, 1) := dk_191 (dk_at dksJ24_next_2 3 rfl rfl)
theorem dJ24_next_50 : decode cJ24_next 50 = .ok (.aload_n 0, 1) := dk_42 (dk_at dksJ24_next_2 4 rfl rfl)
theorem dJ24_next_51 : decode cJ24_next 51 = .ok (.iload_n 1, 1) := dk_27 (dk_at dksJ24_next_2 5 rfl rfl)
theorem dJ24_next_52 : decode cJ24_next 52 = .ok (.iconst 1, 1) := dk_4 (dk_at dksJ24_next_2 6 rfl rfl)
theorem dJ24_next_53 : decode cJ24_next 53 = .ok (.iadd, 1) := dk_96 (dk_at dksJ24_next_2 7 rfl rfl)
theorem dJ24_next_54 : decode cJ24_next 54 = .ok (.putfield 25, 3) := dk_181 0 25 (dk_at dksJ24_next_2 8 rfl rfl)
theorem dJ24_next_57 : decode cJ24_next 57 = .ok (.aload_n 2, 1) := dk_44 (dk_at dksJ24_next_2 11 rfl rfl)
theorem dJ24_next_58 : decode cJ24_next 58 = .ok (.aload_n 0, 1) := dk_42 (dk_at dksJ24_next_2 12 rfl rfl)
theorem dJ24_next_59 : decode cJ24_next 59 = .ok (.iload_n 1, 1) := dk_27 (dk_at dksJ24_next_2 13 rfl rfl)
theorem dJ24_next_60 : decode cJ24_next 60 = .ok (.dup_x1, 1) := dk_90 (dk_at dksJ24_next_2 14 rfl rfl)
theorem dJ24_next_61 : decode cJ24_next 61 = .ok (.putfield 13, 3) := dk_181 0 13 (dk_at dksJ24_next_2 15 rfl rfl)
theorem dJ24_next_64 : decode cJ24_next 64 = .ok (.aaload, 1) := dk_50 (dk_at dksJ24_next_2 18 rfl rfl)
theorem dJ24_next_65 : decode cJ24_next 65 = .ok (.areturn, 1) := dk_176 (dk_at dksJ24_next_2 19 rfl rfl)
abbrev cJ24_remove : ByteArray := prog_49_method_4_code
def yJ24_remove : MethodName := ⟨RJ24, "remove", "()V"⟩
def dkwJ24_remove_2 : List UInt8 := [180, 0, 1, 180, 0, 17, 181, 0, 22, 167, 0, 12, 76, 187, 0, 41, 89, 183, 0, 43, 191, 177]
abbrev dktJ24_remove_2 : List UInt8 := dkwJ24_remove_2 ++ []
def dkwJ24_remove_1 : List UInt8 := [180, 0, 13, 182, 0, 47, 87, 42, 42, 180, 0, 13, 181, 0, 25, 42, 2, 181, 0, 13, 42, 42]
abbrev dktJ24_remove_1 : List UInt8 := dkwJ24_remove_1 ++ dktJ24_remove_2
def dkwJ24_remove_0 : List UInt8 := [42, 180, 0, 13, 156, 0, 11, 187, 0, 44, 89, 183, 0, 46, 191, 42, 182, 0, 31, 42, 180, 0, 1, 42]
abbrev dktJ24_remove_0 : List UInt8 := dkwJ24_remove_0 ++ dktJ24_remove_1
theorem dksJ24_remove_0 : cJ24_remove.data.toList.drop 0 = dktJ24_remove_0 := by decide +kernel
theorem dksJ24_remove_1 : cJ24_remove.data.toList.drop 24 = dktJ24_remove_1 := dk_seg dksJ24_remove_0 24 rfl rfl
theorem dksJ24_remove_2 : cJ24_remove.data.toList.drop 46 = dktJ24_remove_2 := dk_seg dksJ24_remove_1 22 rfl rfl
theorem dJ24_remove_0 : decode cJ24_remove 0 = .ok (.aload_n 0, 1) := dk_42 (dk_at dksJ24_remove_0 0 rfl rfl)
theorem dJ24_remove_1 : decode cJ24_remove 1 = .ok (.getfield 13, 3) := dk_180 0 13 (dk_at dksJ24_remove_0 1 rfl rfl)
theorem dJ24_remove_4 : decode cJ24_remove 4 = .ok (.ifCond .ge 11, 3) := dk_156 0 11 (dk_at dksJ24_remove_0 4 rfl rfl)
theorem dJ24_remove_7 : decode cJ24_remove 7 = .ok (.new 44, 3) := dk_187 0 44 (dk_at dksJ24_remove_0 7 rfl rfl)
theorem dJ24_remove_10 : decode cJ24_remove 10 = .ok (.dup, 1) := dk_89 (dk_at dksJ24_remove_0 10 rfl rfl)
theorem dJ24_remove_11 : decode cJ24_remove 11 = .ok (.invokespecial 46, 3) := dk_183 0 46 (dk_at dksJ24_remove_0 11 rfl rfl)
theorem dJ24_remove_14 : decode cJ24_remove 14 = .ok (.athrow, 1) := dk_191 (dk_at dksJ24_remove_0 14 rfl rfl)
theorem dJ24_remove_15 : decode cJ24_remove 15 = .ok (.aload_n 0, 1) := dk_42 (dk_at dksJ24_remove_0 15 rfl rfl)
theorem dJ24_remove_16 : decode cJ24_remove 16 = .ok (.invokevirtual 31, 3) := dk_182 0 31 (dk_at dksJ24_remove_0 16 rfl rfl)
theorem dJ24_remove_19 : decode cJ24_remove 19 = .ok (.aload_n 0, 1) := dk_42 (dk_at dksJ24_remove_0 19 rfl rfl)
theorem dJ24_remove_20 : decode cJ24_remove 20 = .ok (.getfield 1, 3) := dk_180 0 1 (dk_at dksJ24_remove_0 20 rfl rfl)
theorem dJ24_remove_23 : decode cJ24_remove 23 = .ok (.aload_n 0, 1) := dk_42 (dk_at dksJ24_remove_0 23 rfl rfl)
theorem dJ24_remove_24 : decode cJ24_remove 24 = .ok (.getfield 13, 3) := dk_180 0 13 (dk_at dksJ24_remove_1 0 rfl rfl)
theorem dJ24_remove_27 : decode cJ24_remove 27 = .ok (.invokevirtual 47, 3) := dk_182 0 47 (dk_at dksJ24_remove_1 3 rfl rfl)
theorem dJ24_remove_30 : decode cJ24_remove 30 = .ok (.pop, 1) := dk_87 (dk_at dksJ24_remove_1 6 rfl rfl)
theorem dJ24_remove_31 : decode cJ24_remove 31 = .ok (.aload_n 0, 1) := dk_42 (dk_at dksJ24_remove_1 7 rfl rfl)
theorem dJ24_remove_32 : decode cJ24_remove 32 = .ok (.aload_n 0, 1) := dk_42 (dk_at dksJ24_remove_1 8 rfl rfl)
theorem dJ24_remove_33 : decode cJ24_remove 33 = .ok (.getfield 13, 3) := dk_180 0 13 (dk_at dksJ24_remove_1 9 rfl rfl)
theorem dJ24_remove_36 : decode cJ24_remove 36 = .ok (.putfield 25, 3) := dk_181 0 25 (dk_at dksJ24_remove_1 12 rfl rfl)
theorem dJ24_remove_39 : decode cJ24_remove 39 = .ok (.aload_n 0, 1) := dk_42 (dk_at dksJ24_remove_1 15 rfl rfl)
theorem dJ24_remove_40 : decode cJ24_remove 40 = .ok (.iconst (-1), 1) := dk_2 (dk_at dksJ24_remove_1 16 rfl rfl)
theorem dJ24_remove_41 : decode cJ24_remove 41 = .ok (.putfield 13, 3) := dk_181 0 13 (dk_at dksJ24_remove_1 17 rfl rfl)
theorem dJ24_remove_44 : decode cJ24_remove 44 = .ok (.aload_n 0, 1) := dk_42 (dk_at dksJ24_remove_1 20 rfl rfl)
theorem dJ24_remove_45 : decode cJ24_remove 45 = .ok (.aload_n 0, 1) := dk_42 (dk_at dksJ24_remove_1 21 rfl rfl)
theorem dJ24_remove_46 : decode cJ24_remove 46 = .ok (.getfield 1, 3) := dk_180 0 1 (dk_at dksJ24_remove_2 0 rfl rfl)
theorem dJ24_remove_49 : decode cJ24_remove 49 = .ok (.getfield 17, 3) := dk_180 0 17 (dk_at dksJ24_remove_2 3 rfl rfl)
theorem dJ24_remove_52 : decode cJ24_remove 52 = .ok (.putfield 22, 3) := dk_181 0 22 (dk_at dksJ24_remove_2 6 rfl rfl)
theorem dJ24_remove_55 : decode cJ24_remove 55 = .ok (.goto 12, 3) := dk_167 0 12 (dk_at dksJ24_remove_2 9 rfl rfl)
theorem dJ24_remove_58 : decode cJ24_remove 58 = .ok (.astore_n 1, 1) := dk_76 (dk_at dksJ24_remove_2 12 rfl rfl)
theorem dJ24_remove_59 : decode cJ24_remove 59 = .ok (.new 41, 3) := dk_187 0 41 (dk_at dksJ24_remove_2 13 rfl rfl)
theorem dJ24_remove_62 : decode cJ24_remove 62 = .ok (.dup, 1) := dk_89 (dk_at dksJ24_remove_2 16 rfl rfl)
theorem dJ24_remove_63 : decode cJ24_remove 63 = .ok (.invokespecial 43, 3) := dk_183 0 43 (dk_at dksJ24_remove_2 17 rfl rfl)
theorem dJ24_remove_66 : decode cJ24_remove 66 = .ok (.athrow, 1) := dk_191 (dk_at dksJ24_remove_2 20 rfl rfl)
theorem dJ24_remove_67 : decode cJ24_remove 67 = .ok (.return_, 1) := dk_177 (dk_at dksJ24_remove_2 21 rfl rfl)
theorem q86 : (Jvm.Cond.initialized "java/util/ArrayList$Itr") ∈ lw_all := lw_g (lw_at lw_m1 38 rfl) rfl
theorem q580 : (Jvm.Cond.fieldLink "java/util/ArrayList$Itr" (17 : Nat) "java/util/ArrayList" "modCount" "I") ∈ lw_all := lw_g (lw_at lw_m3 52 rfl) rfl
theorem q1135 : (Jvm.Cond.fieldLink "java/util/ArrayList$Itr" (37 : Nat) "java/util/ArrayList" "elementData" "[Ljava/lang/Object;") ∈ lw_all := lw_g (lw_at lw_m5 127 rfl) rfl
theorem q1137 : (Jvm.Cond.fieldLinkNest "java/util/ArrayList$Itr" (28 : Nat) "java/util/ArrayList" "size" "I" "java/util/ArrayList") ∈ lw_tbl := lw_at lw_m5 129 rfl
theorem q1160 : (Jvm.Cond.instanceMethod ({ cls := "java/util/ArrayList$Itr", name := "<init>", desc := "(Ljava/util/ArrayList;)V" } : Jvm.MethodName)) ∈ lw_all := lw_g (lw_at lw_m5 152 rfl) rfl
theorem q1161 : (Jvm.Cond.code ({ cls := "java/util/ArrayList$Itr", name := "<init>", desc := "(Ljava/util/ArrayList;)V" } : Jvm.MethodName) prog_49_method_1_code (2 : Nat) (Option.none : Option Jvm.ClassFile.FieldType)) ∈ lw_all := lw_g (lw_at lw_m5 153 rfl) rfl
theorem q1162 : (Jvm.Cond.methodLink "java/util/ArrayList$Itr" (7 : Nat) ({ cls := "java/lang/Object", name := "<init>", desc := "()V" } : Jvm.MethodName)) ∈ lw_all := lw_g (lw_at lw_m5 154 rfl) rfl
theorem q1166 : (Jvm.Cond.fieldLink "java/util/ArrayList$Itr" (25 : Nat) "java/util/ArrayList$Itr" "cursor" "I") ∈ lw_all := lw_g (lw_at lw_m5 158 rfl) rfl
theorem q1167 : (Jvm.Cond.fieldLink "java/util/ArrayList$Itr" (13 : Nat) "java/util/ArrayList$Itr" "lastRet" "I") ∈ lw_all := lw_g (lw_at lw_m5 159 rfl) rfl
theorem q1170 : (Jvm.Cond.fieldLink "java/util/ArrayList$Itr" (22 : Nat) "java/util/ArrayList$Itr" "expectedModCount" "I") ∈ lw_all := lw_g (lw_at lw_m5 162 rfl) rfl
theorem q1173 : (Jvm.Cond.fieldLink "java/util/ArrayList$Itr" (1 : Nat) "java/util/ArrayList$Itr" "this$0" "Ljava/util/ArrayList;") ∈ lw_all := lw_g (lw_at lw_m5 165 rfl) rfl
theorem q1177 : (Jvm.Cond.soleField "java/util/ArrayList$Itr" "cursor") ∈ lw_all := lw_g (lw_at lw_m5 169 rfl) rfl
theorem q1179 : (Jvm.Cond.soleField "java/util/ArrayList$Itr" "lastRet") ∈ lw_all := lw_g (lw_at lw_m5 171 rfl) rfl
theorem q1181 : (Jvm.Cond.soleField "java/util/ArrayList$Itr" "expectedModCount") ∈ lw_all := lw_g (lw_at lw_m5 173 rfl) rfl
theorem q1183 : (Jvm.Cond.soleField "java/util/ArrayList$Itr" "this$0") ∈ lw_all := lw_g (lw_at lw_m5 175 rfl) rfl
theorem q1279 : (Jvm.Cond.instanceMethod ({ cls := "java/util/ArrayList$Itr", name := "hasNext", desc := "()Z" } : Jvm.MethodName)) ∈ lw_all := lw_g (lw_at lw_m6 31 rfl) rfl
theorem q1280 : (Jvm.Cond.publicMethod ({ cls := "java/util/ArrayList$Itr", name := "hasNext", desc := "()Z" } : Jvm.MethodName)) ∈ lw_tbl := lw_at lw_m6 32 rfl
theorem q1281 : (Jvm.Cond.code ({ cls := "java/util/ArrayList$Itr", name := "hasNext", desc := "()Z" } : Jvm.MethodName) prog_49_method_2_code (1 : Nat) (Option.some Jvm.ClassFile.FieldType.boolean)) ∈ lw_all := lw_g (lw_at lw_m6 33 rfl) rfl
theorem q1522 : (Jvm.Cond.declares ({ cls := "java/util/ArrayList$Itr", name := "checkForComodification", desc := "()V" } : Jvm.MethodName)) ∈ lw_tbl := lw_at lw_m7 34 rfl
theorem q1524 : (Jvm.Cond.instanceMethod ({ cls := "java/util/ArrayList$Itr", name := "checkForComodification", desc := "()V" } : Jvm.MethodName)) ∈ lw_all := lw_g (lw_at lw_m7 36 rfl) rfl
theorem q1525 : (Jvm.Cond.code ({ cls := "java/util/ArrayList$Itr", name := "checkForComodification", desc := "()V" } : Jvm.MethodName) prog_49_method_6_code (1 : Nat) (Option.none : Option Jvm.ClassFile.FieldType)) ∈ lw_all := lw_g (lw_at lw_m7 37 rfl) rfl
theorem q1543 : (Jvm.Cond.instanceMethod ({ cls := "java/util/ArrayList$Itr", name := "next", desc := "()Ljava/lang/Object;" } : Jvm.MethodName)) ∈ lw_all := lw_g (lw_at lw_m7 55 rfl) rfl
theorem q1544 : (Jvm.Cond.publicMethod ({ cls := "java/util/ArrayList$Itr", name := "next", desc := "()Ljava/lang/Object;" } : Jvm.MethodName)) ∈ lw_tbl := lw_at lw_m7 56 rfl
theorem q1545 : (Jvm.Cond.code ({ cls := "java/util/ArrayList$Itr", name := "next", desc := "()Ljava/lang/Object;" } : Jvm.MethodName) prog_49_method_3_code (3 : Nat) (Option.some (Jvm.ClassFile.FieldType.object "java/lang/Object"))) ∈ lw_all := lw_g (lw_at lw_m7 57 rfl) rfl
theorem q1546 : (Jvm.Cond.methodLink "java/util/ArrayList$Itr" (31 : Nat) ({ cls := "java/util/ArrayList$Itr", name := "checkForComodification", desc := "()V" } : Jvm.MethodName)) ∈ lw_all := lw_g (lw_at lw_m7 58 rfl) rfl
theorem q1547 : (Jvm.Cond.classLink "java/util/ArrayList$Itr" (34 : Nat) "java/util/NoSuchElementException") ∈ lw_all := lw_g (lw_at lw_m7 59 rfl) rfl
theorem q1548 : (Jvm.Cond.methodLink "java/util/ArrayList$Itr" (36 : Nat) ({ cls := "java/util/NoSuchElementException", name := "<init>", desc := "()V" } : Jvm.MethodName)) ∈ lw_all := lw_g (lw_at lw_m7 60 rfl) rfl
theorem q1755 : (Jvm.Cond.instanceMethod ({ cls := "java/util/ArrayList$Itr", name := "remove", desc := "()V" } : Jvm.MethodName)) ∈ lw_all := lw_g (lw_at lw_m8 27 rfl) rfl
theorem q1756 : (Jvm.Cond.publicMethod ({ cls := "java/util/ArrayList$Itr", name := "remove", desc := "()V" } : Jvm.MethodName)) ∈ lw_tbl := lw_at lw_m8 28 rfl
theorem q1757 : (Jvm.Cond.codeWith ({ cls := "java/util/ArrayList$Itr", name := "remove", desc := "()V" } : Jvm.MethodName) prog_49_method_4_code (2 : Nat) (Option.none : Option Jvm.ClassFile.FieldType) [((19 : Nat), (55 : Nat), (58 : Nat), (51 : Nat))]) ∈ lw_all := lw_g (lw_at lw_m8 29 rfl) rfl
theorem q1758 : (Jvm.Cond.classLink "java/util/ArrayList$Itr" (44 : Nat) "java/lang/IllegalStateException") ∈ lw_all := lw_g (lw_at lw_m8 30 rfl) rfl
theorem q1759 : (Jvm.Cond.methodLink "java/util/ArrayList$Itr" (46 : Nat) ({ cls := "java/lang/IllegalStateException", name := "<init>", desc := "()V" } : Jvm.MethodName)) ∈ lw_all := lw_g (lw_at lw_m8 31 rfl) rfl
theorem q1760 : (Jvm.Cond.methodLink "java/util/ArrayList$Itr" (47 : Nat) ({ cls := "java/util/ArrayList", name := "remove", desc := "(I)Ljava/lang/Object;" } : Jvm.MethodName)) ∈ lw_all := lw_g (lw_at lw_m8 32 rfl) rfl
theorem q1761 : (Jvm.Cond.classLink "java/util/ArrayList$Itr" (41 : Nat) "java/util/ConcurrentModificationException") ∈ lw_all := lw_g (lw_at lw_m8 33 rfl) rfl
theorem q1762 : (Jvm.Cond.methodLink "java/util/ArrayList$Itr" (43 : Nat) ({ cls := "java/util/ConcurrentModificationException", name := "<init>", desc := "()V" } : Jvm.MethodName)) ∈ lw_all := lw_g (lw_at lw_m8 34 rfl) rfl
theorem q2189 : (Jvm.Cond.sameMethod "java/util/ArrayList$Itr" "java/util/ArrayList$Itr" "checkForComodification" "()V") ∈ lw_all := lw_g (lw_at lw_m9 221 rfl) rfl
/-! java/util/ArrayList$ListItr -/
set_option maxRecDepth 100000
def RJ25 : String := "java/util/ArrayList$ListItr"
def TJ25 : u_T := fun k => match k with
  | 0 => ("java/util/ArrayList$Itr", "cursor", "I", false)
  | 1 => ("java/util/ArrayList$Itr", "lastRet", "I", false)
  | 2 => ("java/util/ArrayList$Itr", "expectedModCount", "I", false)
  | 3 => ("java/util/ArrayList$Itr", "this$0", "Ljava/util/ArrayList;", true)
  | _ => ("java/util/ArrayList$ListItr", "this$0", "Ljava/util/ArrayList;", true)
def tyJ25 : Nat → FieldType := fun k => match k with
  | 0 => .int
  | 1 => .int
  | 2 => .int
  | 3 => .object "java/util/ArrayList"
  | _ => .object "java/util/ArrayList"
abbrev wsJ250 : List Cond := u_ws RJ25 TJ25 5
-- two fields of one name: no nmJ25
theorem tyJ25_ok : ∀ k, k < 5 → parseFieldDescriptor (TJ25 k).2.2.1 = some (tyJ25 k) := by decide +kernel
abbrev cJ25_init : ByteArray := prog_50_method_1_code
def yJ25_init : MethodName := ⟨RJ25, "<init>", "(Ljava/util/ArrayList;I)V"⟩
def dkwJ25_init_0 : List UInt8 := [42, 43, 181, 0, 1, 42, 43, 183, 0, 7, 42, 28, 181, 0, 13, 177]
abbrev dktJ25_init_0 : List UInt8 := dkwJ25_init_0 ++ []
theorem dksJ25_init_0 : cJ25_init.data.toList.drop 0 = dktJ25_init_0 := by decide +kernel
theorem dJ25_init_0 : decode cJ25_init 0 = .ok (.aload_n 0, 1) := dk_42 (dk_at dksJ25_init_0 0 rfl rfl)
theorem dJ25_init_1 : decode cJ25_init 1 = .ok (.aload_n 1, 1) := dk_43 (dk_at dksJ25_init_0 1 rfl rfl)
theorem dJ25_init_2 : decode cJ25_init 2 = .ok (.putfield 1, 3) := dk_181 0 1 (dk_at dksJ25_init_0 2 rfl rfl)
theorem dJ25_init_5 : decode cJ25_init 5 = .ok (.aload_n 0, 1) := dk_42 (dk_at dksJ25_init_0 5 rfl rfl)
theorem dJ25_init_6 : decode cJ25_init 6 = .ok (.aload_n 1, 1) := dk_43 (dk_at dksJ25_init_0 6 rfl rfl)
theorem dJ25_init_7 : decode cJ25_init 7 = .ok (.invokespecial 7, 3) := dk_183 0 7 (dk_at dksJ25_init_0 7 rfl rfl)
theorem dJ25_init_10 : decode cJ25_init 10 = .ok (.aload_n 0, 1) := dk_42 (dk_at dksJ25_init_0 10 rfl rfl)
theorem dJ25_init_11 : decode cJ25_init 11 = .ok (.iload_n 2, 1) := dk_28 (dk_at dksJ25_init_0 11 rfl rfl)
theorem dJ25_init_12 : decode cJ25_init 12 = .ok (.putfield 13, 3) := dk_181 0 13 (dk_at dksJ25_init_0 12 rfl rfl)
theorem dJ25_init_15 : decode cJ25_init 15 = .ok (.return_, 1) := dk_177 (dk_at dksJ25_init_0 15 rfl rfl)
abbrev cJ25_hasPrevious : ByteArray := prog_50_method_2_code
def yJ25_hasPrevious : MethodName := ⟨RJ25, "hasPrevious", "()Z"⟩
def dkwJ25_hasPrevious_0 : List UInt8 := [42, 180, 0, 13, 153, 0, 7, 4, 167, 0, 4, 3, 172]
abbrev dktJ25_hasPrevious_0 : List UInt8 := dkwJ25_hasPrevious_0 ++ []
theorem dksJ25_hasPrevious_0 : cJ25_hasPrevious.data.toList.drop 0 = dktJ25_hasPrevious_0 := by decide +kernel
theorem dJ25_hasPrevious_0 : decode cJ25_hasPrevious 0 = .ok (.aload_n 0, 1) := dk_42 (dk_at dksJ25_hasPrevious_0 0 rfl rfl)
theorem dJ25_hasPrevious_1 : decode cJ25_hasPrevious 1 = .ok (.getfield 13, 3) := dk_180 0 13 (dk_at dksJ25_hasPrevious_0 1 rfl rfl)
theorem dJ25_hasPrevious_4 : decode cJ25_hasPrevious 4 = .ok (.ifCond .eq 7, 3) := dk_153 0 7 (dk_at dksJ25_hasPrevious_0 4 rfl rfl)
theorem dJ25_hasPrevious_7 : decode cJ25_hasPrevious 7 = .ok (.iconst 1, 1) := dk_4 (dk_at dksJ25_hasPrevious_0 7 rfl rfl)
theorem dJ25_hasPrevious_8 : decode cJ25_hasPrevious 8 = .ok (.goto 4, 3) := dk_167 0 4 (dk_at dksJ25_hasPrevious_0 8 rfl rfl)
theorem dJ25_hasPrevious_11 : decode cJ25_hasPrevious 11 = .ok (.iconst 0, 1) := dk_3 (dk_at dksJ25_hasPrevious_0 11 rfl rfl)
theorem dJ25_hasPrevious_12 : decode cJ25_hasPrevious 12 = .ok (.ireturn, 1) := dk_172 (dk_at dksJ25_hasPrevious_0 12 rfl rfl)
abbrev cJ25_nextIndex : ByteArray := prog_50_method_3_code
def yJ25_nextIndex : MethodName := ⟨RJ25, "nextIndex", "()I"⟩
theorem dJ25_nextIndex_0 : decode cJ25_nextIndex 0 = .ok (.aload_n 0, 1) := by decide +kernel
theorem dJ25_nextIndex_1 : decode cJ25_nextIndex 1 = .ok (.getfield 13, 3) := by decide +kernel
theorem dJ25_nextIndex_4 : decode cJ25_nextIndex 4 = .ok (.ireturn, 1) := by decide +kernel
abbrev cJ25_previousIndex : ByteArray := prog_50_method_4_code
def yJ25_previousIndex : MethodName := ⟨RJ25, "previousIndex", "()I"⟩
def dkwJ25_previousIndex_0 : List UInt8 := [42, 180, 0, 13, 4, 100, 172]
abbrev dktJ25_previousIndex_0 : List UInt8 := dkwJ25_previousIndex_0 ++ []
theorem dksJ25_previousIndex_0 : cJ25_previousIndex.data.toList.drop 0 = dktJ25_previousIndex_0 := by decide +kernel
theorem dJ25_previousIndex_0 : decode cJ25_previousIndex 0 = .ok (.aload_n 0, 1) := dk_42 (dk_at dksJ25_previousIndex_0 0 rfl rfl)
theorem dJ25_previousIndex_1 : decode cJ25_previousIndex 1 = .ok (.getfield 13, 3) := dk_180 0 13 (dk_at dksJ25_previousIndex_0 1 rfl rfl)
theorem dJ25_previousIndex_4 : decode cJ25_previousIndex 4 = .ok (.iconst 1, 1) := dk_4 (dk_at dksJ25_previousIndex_0 4 rfl rfl)
theorem dJ25_previousIndex_5 : decode cJ25_previousIndex 5 = .ok (.isub, 1) := dk_100 (dk_at dksJ25_previousIndex_0 5 rfl rfl)
theorem dJ25_previousIndex_6 : decode cJ25_previousIndex 6 = .ok (.ireturn, 1) := dk_172 (dk_at dksJ25_previousIndex_0 6 rfl rfl)
abbrev cJ25_previous : ByteArray := prog_50_method_5_code
def yJ25_previous : MethodName := ⟨RJ25, "previous", "()Ljava/lang/Object;"⟩
def dkwJ25_previous_2 : List UInt8 := [181, 0, 13, 44, 42, 27, 90, 181, 0, 34, 50, 176]
abbrev dktJ25_previous_2 : List UInt8 := dkwJ25_previous_2 ++ []
def dkwJ25_previous_1 : List UInt8 := [180, 0, 1, 180, 0, 25, 77, 27, 44, 190, 161, 0, 11, 187, 0, 31, 89, 183, 0, 33, 191, 42, 27]
abbrev dktJ25_previous_1 : List UInt8 := dkwJ25_previous_1 ++ dktJ25_previous_2
def dkwJ25_previous_0 : List UInt8 := [42, 182, 0, 17, 42, 180, 0, 13, 4, 100, 60, 27, 156, 0, 11, 187, 0, 21, 89, 183, 0, 23, 191, 42]
abbrev dktJ25_previous_0 : List UInt8 := dkwJ25_previous_0 ++ dktJ25_previous_1
theorem dksJ25_previous_0 : cJ25_previous.data.toList.drop 0 = dktJ25_previous_0 := by decide +kernel
theorem dksJ25_previous_1 : cJ25_previous.data.toList.drop 24 = dktJ25_previous_1 := dk_seg dksJ25_previous_0 24 rfl rfl
theorem dksJ25_previous_2 : cJ25_previous.data.toList.drop 47 = dktJ25_previous_2 := dk_seg dksJ25_previous_1 23 rfl rfl
theorem dJ25_previous_0 : decode cJ25_previous 0 = .ok (.aload_n 0, 1) := dk_42 (dk_at dksJ25_previous_0 0 rfl rfl)
theorem dJ25_previous_1 : decode cJ25_previous 1 = .ok (.invokevirtual 17, 3) := dk_182 0 17 (dk_at dksJ25_previous_0 1 rfl rfl)
theorem dJ25_previous_4 : decode cJ25_previous 4 = .ok (.aload_n 0, 1) := dk_42 (dk_at dksJ25_previous_0 4 rfl rfl)
theorem dJ25_previous_5 : decode cJ25_previous 5 = .ok (.getfield 13, 3) := dk_180 0 13 (dk_at dksJ25_previous_0 5 rfl rfl)
theorem dJ25_previous_8 : decode cJ25_previous 8 = .ok (.iconst 1, 1) := dk_4 (dk_at dksJ25_previous_0 8 rfl rfl)
theorem dJ25_previous_9 : decode cJ25_previous 9 = .ok (.isub, 1) := dk_100 (dk_at dksJ25_previous_0 9 rfl rfl)
theorem dJ25_previous_10 : decode cJ25_previous 10 = .ok (.istore_n 1, 1) := dk_60 (dk_at dksJ25_previous_0 10 rfl rfl)
theorem dJ25_previous_11 : decode cJ25_previous 11 = .ok (.iload_n 1, 1) := dk_27 (dk_at dksJ25_previous_0 11 rfl rfl)
theorem dJ25_previous_12 : decode cJ25_previous 12 = .ok (.ifCond .ge 11, 3) := dk_156 0 11 (dk_at dksJ25_previous_0 12 rfl rfl)
theorem dJ25_previous_15 : decode cJ25_previous 15 = .ok (.new 21, 3) := dk_187 0 21 (dk_at dksJ25_previous_0 15 rfl rfl)
theorem dJ25_previous_18 : decode cJ25_previous 18 = .ok (.dup, 1) := dk_89 (dk_at dksJ25_previous_0 18 rfl rfl)
theorem dJ25_previous_19 : decode cJ25_previous 19 = .ok (.invokespecial 23, 3) := dk_183 0 23 (dk_at dksJ25_previous_0 19 rfl rfl)
theorem dJ25_previous_22 : decode cJ25_previous 22 = .ok (.athrow, 1) := dk_191 (dk_at dksJ25_previous_0 22 rfl rfl)
theorem dJ25_previous_23 : decode cJ25_previous 23 = .ok (.aload_n 0, 1) := dk_42 (dk_at dksJ25_previous_0 23 rfl rfl)
theorem dJ25_previous_24 : decode cJ25_previous 24 = .ok (.getfield 1, 3) := dk_180 0 1 (dk_at dksJ25_previous_1 0 rfl rfl)
theorem dJ25_previous_27 : decode cJ25_previous 27 = .ok (.getfield 25, 3) := dk_180 0 25 (dk_at dksJ25_previous_1 3 rfl rfl)
theorem dJ25_previous_30 : decode cJ25_previous 30 = .ok (.astore_n 2, 1) := dk_77 (dk_at dksJ25_previous_1 6 rfl rfl)
theorem dJ25_previous_31 : decode cJ25_previous 31 = .ok (.iload_n 1, 1) := dk_27 (dk_at dksJ25_previous_1 7 rfl rfl)
theorem dJ25_previous_32 : decode cJ25_previous 32 = .ok (.aload_n 2, 1) := dk_44 (dk_at dksJ25_previous_1 8 rfl rfl)
theorem dJ25_previous_33 : decode cJ25_previous 33 = .ok (.arraylength, 1) := dk_190 (dk_at dksJ25_previous_1 9 rfl rfl)
theorem dJ25_previous_34 : decode cJ25_previous 34 = .ok (.if_icmp .lt 11, 3) := dk_161 0 11 (dk_at dksJ25_previous_1 10 rfl rfl)
theorem dJ25_previous_37 : decode cJ25_previous 37 = .ok (.new 31, 3) := dk_187 0 31 (dk_at dksJ25_previous_1 13 rfl rfl)
theorem dJ25_previous_40 : decode cJ25_previous 40 = .ok (.dup, 1) := dk_89 (dk_at dksJ25_previous_1 16 rfl rfl)
theorem dJ25_previous_41 : decode cJ25_previous 41 = .ok (.invokespecial 33, 3) := dk_183 0 33 (dk_at dksJ25_previous_1 17 rfl rfl)
theorem dJ25_previous_44 : decode cJ25_previous 44 = .ok (.athrow, 1) := dk_191 (dk_at dksJ25_previous_1 20 rfl rfl)
theorem dJ25_previous_45 : decode cJ25_previous 45 = .ok (.aload_n 0, 1) := dk_42 (dk_at dksJ25_previous_1 21 rfl rfl)
theorem dJ25_previous_46 : decode cJ25_previous 46 = .ok (.iload_n 1, 1) := dk_27 (dk_at dksJ25_previous_1 22 rfl rfl)
theorem dJ25_previous_47 : decode cJ25_previous 47 = .ok (.putfield 13, 3) := dk_181 0 13 (dk_at dksJ25_previous_2 0 rfl rfl)
theorem dJ25_previous_50 : decode cJ25_previous 50 = .ok (.aload_n 2, 1) := dk_44 (dk_at dksJ25_previous_2 3 rfl rfl)
theorem dJ25_previous_51 : decode cJ25_previous 51 = .ok (.aload_n 0, 1) := dk_42 (dk_at dksJ25_previous_2 4 rfl rfl)
theorem dJ25_previous_52 : decode cJ25_previous 52 = .ok (.iload_n 1, 1) := dk_27 (dk_at dksJ25_previous_2 5 rfl rfl)
theorem dJ25_previous_53 : decode cJ25_previous 53 = .ok (.dup_x1, 1) := dk_90 (dk_at dksJ25_previous_2 6 rfl rfl)
theorem dJ25_previous_54 : decode cJ25_previous 54 = .ok (.putfield 34, 3) := dk_181 0 34 (dk_at dksJ25_previous_2 7 rfl rfl)
theorem dJ25_previous_57 : decode cJ25_previous 57 = .ok (.aaload, 1) := dk_50 (dk_at dksJ25_previous_2 10 rfl rfl)
theorem dJ25_previous_58 : decode cJ25_previous 58 = .ok (.areturn, 1) := dk_176 (dk_at dksJ25_previous_2 11 rfl rfl)
abbrev cJ25_add : ByteArray := prog_50_method_7_code
def yJ25_add : MethodName := ⟨RJ25, "add", "(Ljava/lang/Object;)V"⟩
def dkwJ25_add_2 : List UInt8 := [187, 0, 31, 89, 183, 0, 33, 191, 177]
abbrev dktJ25_add_2 : List UInt8 := dkwJ25_add_2 ++ []
def dkwJ25_add_1 : List UInt8 := [181, 0, 13, 42, 2, 181, 0, 34, 42, 42, 180, 0, 1, 180, 0, 50, 181, 0, 53, 167, 0, 12, 77]
abbrev dktJ25_add_1 : List UInt8 := dkwJ25_add_1 ++ dktJ25_add_2
def dkwJ25_add_0 : List UInt8 := [42, 182, 0, 17, 42, 180, 0, 13, 61, 42, 180, 0, 1, 28, 43, 182, 0, 46, 42, 28, 4, 96]
abbrev dktJ25_add_0 : List UInt8 := dkwJ25_add_0 ++ dktJ25_add_1
theorem dksJ25_add_0 : cJ25_add.data.toList.drop 0 = dktJ25_add_0 := by decide +kernel
theorem dksJ25_add_1 : cJ25_add.data.toList.drop 22 = dktJ25_add_1 := dk_seg dksJ25_add_0 22 rfl rfl
theorem dksJ25_add_2 : cJ25_add.data.toList.drop 45 = dktJ25_add_2 := dk_seg dksJ25_add_1 23 rfl rfl
theorem dJ25_add_0 : decode cJ25_add 0 = .ok (.aload_n 0, 1) := dk_42 (dk_at dksJ25_add_0 0 rfl rfl)
theorem dJ25_add_1 : decode cJ25_add 1 = .ok (.invokevirtual 17, 3) := dk_182 0 17 (dk_at dksJ25_add_0 1 rfl rfl)
theorem dJ25_add_4 : decode cJ25_add 4 = .ok (.aload_n 0, 1) := dk_42 (dk_at dksJ25_add_0 4 rfl rfl)
theorem dJ25_add_5 : decode cJ25_add 5 = .ok (.getfield 13, 3) := dk_180 0 13 (dk_at dksJ25_add_0 5 rfl rfl)
theorem dJ25_add_8 : decode cJ25_add 8 = .ok (.istore_n 2, 1) := dk_61 (dk_at dksJ25_add_0 8 rfl rfl)
theorem dJ25_add_9 : decode cJ25_add 9 = .ok (.aload_n 0, 1) := dk_42 (dk_at dksJ25_add_0 9 rfl rfl)
theorem dJ25_add_10 : decode cJ25_add 10 = .ok (.getfield 1, 3) := dk_180 0 1 (dk_at dksJ25_add_0 10 rfl rfl)
theorem dJ25_add_13 : decode cJ25_add 13 = .ok (.iload_n 2, 1) := dk_28 (dk_at dksJ25_add_0 13 rfl rfl)
theorem dJ25_add_14 : decode cJ25_add 14 = .ok (.aload_n 1, 1) := dk_43 (dk_at dksJ25_add_0 14 rfl rfl)
theorem dJ25_add_15 : decode cJ25_add 15 = .ok (.invokevirtual 46, 3) := dk_182 0 46 (dk_at dksJ25_add_0 15 rfl rfl)
theorem dJ25_add_18 : decode cJ25_add 18 = .ok (.aload_n 0, 1) := dk_42 (dk_at dksJ25_add_0 18 rfl rfl)
theorem dJ25_add_19 : decode cJ25_add 19 = .ok (.iload_n 2, 1) := dk_28 (dk_at dksJ25_add_0 19 rfl rfl)
theorem dJ25_add_20 : decode cJ25_add 20 = .ok (.iconst 1, 1) := dk_4 (dk_at dksJ25_add_0 20 rfl rfl)
theorem dJ25_add_21 : decode cJ25_add 21 = .ok (.iadd, 1) := dk_96 (dk_at dksJ25_add_0 21 rfl rfl)
theorem dJ25_add_22 : decode cJ25_add 22 = .ok (.putfield 13, 3) := dk_181 0 13 (dk_at dksJ25_add_1 0 rfl rfl)
theorem dJ25_add_25 : decode cJ25_add 25 = .ok (.aload_n 0, 1) := dk_42 (dk_at dksJ25_add_1 3 rfl rfl)
theorem dJ25_add_26 : decode cJ25_add 26 = .ok (.iconst (-1), 1) := dk_2 (dk_at dksJ25_add_1 4 rfl rfl)
theorem dJ25_add_27 : decode cJ25_add 27 = .ok (.putfield 34, 3) := dk_181 0 34 (dk_at dksJ25_add_1 5 rfl rfl)
theorem dJ25_add_30 : decode cJ25_add 30 = .ok (.aload_n 0, 1) := dk_42 (dk_at dksJ25_add_1 8 rfl rfl)
theorem dJ25_add_31 : decode cJ25_add 31 = .ok (.aload_n 0, 1) := dk_42 (dk_at dksJ25_add_1 9 rfl rfl)
theorem dJ25_add_32 : decode cJ25_add 32 = .ok (.getfield 1, 3) := dk_180 0 1 (dk_at dksJ25_add_1 10 rfl rfl)
theorem dJ25_add_35 : decode cJ25_add 35 = .ok (.getfield 50, 3) := dk_180 0 50 (dk_at dksJ25_add_1 13 rfl rfl)
theorem dJ25_add_38 : decode cJ25_add 38 = .ok (.putfield 53, 3) := dk_181 0 53 (dk_at dksJ25_add_1 16 rfl rfl)
theorem dJ25_add_41 : decode cJ25_add 41 = .ok (.goto 12, 3) := dk_167 0 12 (dk_at dksJ25_add_1 19 rfl rfl)
theorem dJ25_add_44 : decode cJ25_add 44 = .ok (.astore_n 2, 1) := dk_77 (dk_at dksJ25_add_1 22 rfl rfl)
theorem dJ25_add_45 : decode cJ25_add 45 = .ok (.new 31, 3) := dk_187 0 31 (dk_at dksJ25_add_2 0 rfl rfl)
theorem dJ25_add_48 : decode cJ25_add 48 = .ok (.dup, 1) := dk_89 (dk_at dksJ25_add_2 3 rfl rfl)
theorem dJ25_add_49 : decode cJ25_add 49 = .ok (.invokespecial 33, 3) := dk_183 0 33 (dk_at dksJ25_add_2 4 rfl rfl)
theorem dJ25_add_52 : decode cJ25_add 52 = .ok (.athrow, 1) := dk_191 (dk_at dksJ25_add_2 7 rfl rfl)
theorem dJ25_add_53 : decode cJ25_add 53 = .ok (.return_, 1) := dk_177 (dk_at dksJ25_add_2 8 rfl rfl)
abbrev cJ25_set : ByteArray := prog_50_method_6_code
def yJ25_set : MethodName := ⟨RJ25, "set", "(Ljava/lang/Object;)V"⟩
def dkwJ25_set_1 : List UInt8 := [180, 0, 34, 43, 182, 0, 40, 87, 167, 0, 12, 77, 187, 0, 31, 89, 183, 0, 33, 191, 177]
abbrev dktJ25_set_1 : List UInt8 := dkwJ25_set_1 ++ []
def dkwJ25_set_0 : List UInt8 := [42, 180, 0, 34, 156, 0, 11, 187, 0, 37, 89, 183, 0, 39, 191, 42, 182, 0, 17, 42, 180, 0, 1, 42]
abbrev dktJ25_set_0 : List UInt8 := dkwJ25_set_0 ++ dktJ25_set_1
theorem dksJ25_set_0 : cJ25_set.data.toList.drop 0 = dktJ25_set_0 := by decide +kernel
theorem dksJ25_set_1 : cJ25_set.data.toList.drop 24 = dktJ25_set_1 := dk_seg dksJ25_set_0 24 rfl rfl
theorem dJ25_set_0 : decode cJ25_set 0 = .ok (.aload_n 0, 1) := dk_42 (dk_at dksJ25_set_0 0 rfl rfl)
theorem dJ25_set_1 : decode cJ25_set 1 = .ok (.getfield 34, 3) := dk_180 0 34 (dk_at dksJ25_set_0 1 rfl rfl)
theorem dJ25_set_4 : decode cJ25_set 4 = .ok (.ifCond .ge 11, 3) := dk_156 0 11 (dk_at dksJ25_set_0 4 rfl rfl)
theorem dJ25_set_7 : decode cJ25_set 7 = .ok (.new 37, 3) := dk_187 0 37 (dk_at dksJ25_set_0 7 rfl rfl)
theorem dJ25_set_10 : decode cJ25_set 10 = .ok (.dup, 1) := dk_89 (dk_at dksJ25_set_0 10 rfl rfl)
theorem dJ25_set_11 : decode cJ25_set 11 = .ok (.invokespecial 39, 3) := dk_183 0 39 (dk_at dksJ25_set_0 11 rfl rfl)
theorem dJ25_set_14 : decode cJ25_set 14 = .ok (.athrow, 1) := dk_191 (dk_at dksJ25_set_0 14 rfl rfl)
theorem dJ25_set_15 : decode cJ25_set 15 = .ok (.aload_n 0, 1) := dk_42 (dk_at dksJ25_set_0 15 rfl rfl)
theorem dJ25_set_16 : decode cJ25_set 16 = .ok (.invokevirtual 17, 3) := dk_182 0 17 (dk_at dksJ25_set_0 16 rfl rfl)
theorem dJ25_set_19 : decode cJ25_set 19 = .ok (.aload_n 0, 1) := dk_42 (dk_at dksJ25_set_0 19 rfl rfl)
theorem dJ25_set_20 : decode cJ25_set 20 = .ok (.getfield 1, 3) := dk_180 0 1 (dk_at dksJ25_set_0 20 rfl rfl)
theorem dJ25_set_23 : decode cJ25_set 23 = .ok (.aload_n 0, 1) := dk_42 (dk_at dksJ25_set_0 23 rfl rfl)
theorem dJ25_set_24 : decode cJ25_set 24 = .ok (.getfield 34, 3) := dk_180 0 34 (dk_at dksJ25_set_1 0 rfl rfl)
theorem dJ25_set_27 : decode cJ25_set 27 = .ok (.aload_n 1, 1) := dk_43 (dk_at dksJ25_set_1 3 rfl rfl)
theorem dJ25_set_28 : decode cJ25_set 28 = .ok (.invokevirtual 40, 3) := dk_182 0 40 (dk_at dksJ25_set_1 4 rfl rfl)
theorem dJ25_set_31 : decode cJ25_set 31 = .ok (.pop, 1) := dk_87 (dk_at dksJ25_set_1 7 rfl rfl)
theorem dJ25_set_32 : decode cJ25_set 32 = .ok (.goto 12, 3) := dk_167 0 12 (dk_at dksJ25_set_1 8 rfl rfl)
theorem dJ25_set_35 : decode cJ25_set 35 = .ok (.astore_n 2, 1) := dk_77 (dk_at dksJ25_set_1 11 rfl rfl)
theorem dJ25_set_36 : decode cJ25_set 36 = .ok (.new 31, 3) := dk_187 0 31 (dk_at dksJ25_set_1 12 rfl rfl)
theorem dJ25_set_39 : decode cJ25_set 39 = .ok (.dup, 1) := dk_89 (dk_at dksJ25_set_1 15 rfl rfl)
theorem dJ25_set_40 : decode cJ25_set 40 = .ok (.invokespecial 33, 3) := dk_183 0 33 (dk_at dksJ25_set_1 16 rfl rfl)
theorem dJ25_set_43 : decode cJ25_set 43 = .ok (.athrow, 1) := dk_191 (dk_at dksJ25_set_1 19 rfl rfl)
theorem dJ25_set_44 : decode cJ25_set 44 = .ok (.return_, 1) := dk_177 (dk_at dksJ25_set_1 20 rfl rfl)
theorem q87 : (Jvm.Cond.initialized "java/util/ArrayList$ListItr") ∈ lw_all := lw_g (lw_at lw_m1 39 rfl) rfl
theorem q584 : (Jvm.Cond.fieldLink "java/util/ArrayList$ListItr" (50 : Nat) "java/util/ArrayList" "modCount" "I") ∈ lw_all := lw_g (lw_at lw_m3 56 rfl) rfl
theorem q1136 : (Jvm.Cond.fieldLink "java/util/ArrayList$ListItr" (25 : Nat) "java/util/ArrayList" "elementData" "[Ljava/lang/Object;") ∈ lw_all := lw_g (lw_at lw_m5 128 rfl) rfl
theorem q1155 : (Jvm.Cond.instantiable "java/util/ArrayList$ListItr" (5 : Nat)) ∈ lw_all := lw_g (lw_at lw_m5 147 rfl) rfl
theorem q1157 : (Jvm.Cond.instanceMethod ({ cls := "java/util/ArrayList$ListItr", name := "<init>", desc := "(Ljava/util/ArrayList;I)V" } : Jvm.MethodName)) ∈ lw_all := lw_g (lw_at lw_m5 149 rfl) rfl
theorem q1158 : (Jvm.Cond.code ({ cls := "java/util/ArrayList$ListItr", name := "<init>", desc := "(Ljava/util/ArrayList;I)V" } : Jvm.MethodName) prog_50_method_1_code (3 : Nat) (Option.none : Option Jvm.ClassFile.FieldType)) ∈ lw_all := lw_g (lw_at lw_m5 150 rfl) rfl
theorem q1159 : (Jvm.Cond.methodLink "java/util/ArrayList$ListItr" (7 : Nat) ({ cls := "java/util/ArrayList$Itr", name := "<init>", desc := "(Ljava/util/ArrayList;)V" } : Jvm.MethodName)) ∈ lw_all := lw_g (lw_at lw_m5 151 rfl) rfl
theorem q1163 : (Jvm.Cond.fieldLink "java/util/ArrayList$ListItr" (1 : Nat) "java/util/ArrayList$ListItr" "this$0" "Ljava/util/ArrayList;") ∈ lw_all := lw_g (lw_at lw_m5 155 rfl) rfl
theorem q1164 : (Jvm.Cond.fieldLink "java/util/ArrayList$ListItr" (13 : Nat) "java/util/ArrayList$ListItr" "cursor" "I") ∈ lw_all := lw_g (lw_at lw_m5 156 rfl) rfl
theorem q1165 : (Jvm.Cond.sameField "java/util/ArrayList$ListItr" "java/util/ArrayList$Itr" "cursor" "I") ∈ lw_all := lw_g (lw_at lw_m5 157 rfl) rfl
theorem q1168 : (Jvm.Cond.fieldLink "java/util/ArrayList$ListItr" (34 : Nat) "java/util/ArrayList$ListItr" "lastRet" "I") ∈ lw_all := lw_g (lw_at lw_m5 160 rfl) rfl
theorem q1169 : (Jvm.Cond.sameField "java/util/ArrayList$ListItr" "java/util/ArrayList$Itr" "lastRet" "I") ∈ lw_all := lw_g (lw_at lw_m5 161 rfl) rfl
theorem q1171 : (Jvm.Cond.fieldLink "java/util/ArrayList$ListItr" (53 : Nat) "java/util/ArrayList$ListItr" "expectedModCount" "I") ∈ lw_all := lw_g (lw_at lw_m5 163 rfl) rfl
theorem q1172 : (Jvm.Cond.sameField "java/util/ArrayList$ListItr" "java/util/ArrayList$Itr" "expectedModCount" "I") ∈ lw_all := lw_g (lw_at lw_m5 164 rfl) rfl
theorem q1174 : (Jvm.Cond.laysFinal "java/util/ArrayList$ListItr" "java/util/ArrayList$ListItr" "this$0" "Ljava/util/ArrayList;") ∈ lw_all := lw_g (lw_at lw_m5 166 rfl) rfl
theorem q1175 : (Jvm.Cond.soleField "java/util/ArrayList$ListItr" "this$0") ∈ lw_all := lw_g (lw_at lw_m5 167 rfl) rfl
theorem q1176 : (Jvm.Cond.lays "java/util/ArrayList$ListItr" "java/util/ArrayList$Itr" "cursor" "I") ∈ lw_all := lw_g (lw_at lw_m5 168 rfl) rfl
theorem q1178 : (Jvm.Cond.lays "java/util/ArrayList$ListItr" "java/util/ArrayList$Itr" "lastRet" "I") ∈ lw_all := lw_g (lw_at lw_m5 170 rfl) rfl
theorem q1180 : (Jvm.Cond.lays "java/util/ArrayList$ListItr" "java/util/ArrayList$Itr" "expectedModCount" "I") ∈ lw_all := lw_g (lw_at lw_m5 172 rfl) rfl
theorem q1182 : (Jvm.Cond.laysFinal "java/util/ArrayList$ListItr" "java/util/ArrayList$Itr" "this$0" "Ljava/util/ArrayList;") ∈ lw_all := lw_g (lw_at lw_m5 174 rfl) rfl
theorem q1184 : (Jvm.Cond.superclass "java/util/ArrayList$ListItr" "java/util/ArrayList$Itr") ∈ lw_all := lw_g (lw_at lw_m5 176 rfl) rfl
theorem q1276 : (Jvm.Cond.castable "java/util/ArrayList$ListItr" "java/util/ListIterator") ∈ lw_tbl := lw_at lw_m6 28 rfl
theorem q1277 : (Jvm.Cond.selects "java/util/ArrayList$ListItr" ({ cls := "java/util/ListIterator", name := "hasNext", desc := "()Z" } : Jvm.MethodName) ({ cls := "java/util/ArrayList$Itr", name := "hasNext", desc := "()Z" } : Jvm.MethodName)) ∈ lw_all := lw_g (lw_at lw_m6 29 rfl) rfl
theorem q1278 : (Jvm.Cond.unhidden "java/util/ArrayList$ListItr" "hasNext" "()Z") ∈ lw_tbl := lw_at lw_m6 30 rfl
theorem q1291 : (Jvm.Cond.selects "java/util/ArrayList$ListItr" ({ cls := "java/util/ListIterator", name := "hasPrevious", desc := "()Z" } : Jvm.MethodName) ({ cls := "java/util/ArrayList$ListItr", name := "hasPrevious", desc := "()Z" } : Jvm.MethodName)) ∈ lw_all := lw_g (lw_at lw_m6 43 rfl) rfl
theorem q1292 : (Jvm.Cond.unhidden "java/util/ArrayList$ListItr" "hasPrevious" "()Z") ∈ lw_tbl := lw_at lw_m6 44 rfl
theorem q1293 : (Jvm.Cond.instanceMethod ({ cls := "java/util/ArrayList$ListItr", name := "hasPrevious", desc := "()Z" } : Jvm.MethodName)) ∈ lw_all := lw_g (lw_at lw_m6 45 rfl) rfl
theorem q1294 : (Jvm.Cond.publicMethod ({ cls := "java/util/ArrayList$ListItr", name := "hasPrevious", desc := "()Z" } : Jvm.MethodName)) ∈ lw_tbl := lw_at lw_m6 46 rfl
theorem q1295 : (Jvm.Cond.code ({ cls := "java/util/ArrayList$ListItr", name := "hasPrevious", desc := "()Z" } : Jvm.MethodName) prog_50_method_2_code (1 : Nat) (Option.some Jvm.ClassFile.FieldType.boolean)) ∈ lw_all := lw_g (lw_at lw_m6 47 rfl) rfl
theorem q1320 : (Jvm.Cond.selects "java/util/ArrayList$ListItr" ({ cls := "java/util/ListIterator", name := "nextIndex", desc := "()I" } : Jvm.MethodName) ({ cls := "java/util/ArrayList$ListItr", name := "nextIndex", desc := "()I" } : Jvm.MethodName)) ∈ lw_all := lw_g (lw_at lw_m6 72 rfl) rfl
theorem q1321 : (Jvm.Cond.unhidden "java/util/ArrayList$ListItr" "nextIndex" "()I") ∈ lw_tbl := lw_at lw_m6 73 rfl
theorem q1322 : (Jvm.Cond.instanceMethod ({ cls := "java/util/ArrayList$ListItr", name := "nextIndex", desc := "()I" } : Jvm.MethodName)) ∈ lw_all := lw_g (lw_at lw_m6 74 rfl) rfl
theorem q1323 : (Jvm.Cond.publicMethod ({ cls := "java/util/ArrayList$ListItr", name := "nextIndex", desc := "()I" } : Jvm.MethodName)) ∈ lw_tbl := lw_at lw_m6 75 rfl
theorem q1324 : (Jvm.Cond.code ({ cls := "java/util/ArrayList$ListItr", name := "nextIndex", desc := "()I" } : Jvm.MethodName) prog_50_method_3_code (1 : Nat) (Option.some Jvm.ClassFile.FieldType.int)) ∈ lw_all := lw_g (lw_at lw_m6 76 rfl) rfl
theorem q1334 : (Jvm.Cond.selects "java/util/ArrayList$ListItr" ({ cls := "java/util/ListIterator", name := "previousIndex", desc := "()I" } : Jvm.MethodName) ({ cls := "java/util/ArrayList$ListItr", name := "previousIndex", desc := "()I" } : Jvm.MethodName)) ∈ lw_all := lw_g (lw_at lw_m6 86 rfl) rfl
theorem q1335 : (Jvm.Cond.unhidden "java/util/ArrayList$ListItr" "previousIndex" "()I") ∈ lw_tbl := lw_at lw_m6 87 rfl
theorem q1336 : (Jvm.Cond.instanceMethod ({ cls := "java/util/ArrayList$ListItr", name := "previousIndex", desc := "()I" } : Jvm.MethodName)) ∈ lw_all := lw_g (lw_at lw_m6 88 rfl) rfl
theorem q1337 : (Jvm.Cond.publicMethod ({ cls := "java/util/ArrayList$ListItr", name := "previousIndex", desc := "()I" } : Jvm.MethodName)) ∈ lw_tbl := lw_at lw_m6 89 rfl
theorem q1338 : (Jvm.Cond.code ({ cls := "java/util/ArrayList$ListItr", name := "previousIndex", desc := "()I" } : Jvm.MethodName) prog_50_method_4_code (1 : Nat) (Option.some Jvm.ClassFile.FieldType.int)) ∈ lw_all := lw_g (lw_at lw_m6 90 rfl) rfl
theorem q1442 : (Jvm.Cond.selects "java/util/ArrayList$ListItr" ({ cls := "java/lang/Object", name := "getClass", desc := "()Ljava/lang/Class;" } : Jvm.MethodName) ({ cls := "java/lang/Object", name := "getClass", desc := "()Ljava/lang/Class;" } : Jvm.MethodName)) ∈ lw_all := lw_g (lw_at lw_m6 194 rfl) rfl
theorem q1515 : (Jvm.Cond.selects "java/util/ArrayList$ListItr" ({ cls := "java/util/ListIterator", name := "previous", desc := "()Ljava/lang/Object;" } : Jvm.MethodName) ({ cls := "java/util/ArrayList$ListItr", name := "previous", desc := "()Ljava/lang/Object;" } : Jvm.MethodName)) ∈ lw_all := lw_g (lw_at lw_m7 27 rfl) rfl
theorem q1516 : (Jvm.Cond.unhidden "java/util/ArrayList$ListItr" "previous" "()Ljava/lang/Object;") ∈ lw_tbl := lw_at lw_m7 28 rfl
theorem q1517 : (Jvm.Cond.instanceMethod ({ cls := "java/util/ArrayList$ListItr", name := "previous", desc := "()Ljava/lang/Object;" } : Jvm.MethodName)) ∈ lw_all := lw_g (lw_at lw_m7 29 rfl) rfl
theorem q1518 : (Jvm.Cond.publicMethod ({ cls := "java/util/ArrayList$ListItr", name := "previous", desc := "()Ljava/lang/Object;" } : Jvm.MethodName)) ∈ lw_tbl := lw_at lw_m7 30 rfl
theorem q1519 : (Jvm.Cond.code ({ cls := "java/util/ArrayList$ListItr", name := "previous", desc := "()Ljava/lang/Object;" } : Jvm.MethodName) prog_50_method_5_code (3 : Nat) (Option.some (Jvm.ClassFile.FieldType.object "java/lang/Object"))) ∈ lw_all := lw_g (lw_at lw_m7 31 rfl) rfl
theorem q1520 : (Jvm.Cond.methodLink "java/util/ArrayList$ListItr" (17 : Nat) ({ cls := "java/util/ArrayList$ListItr", name := "checkForComodification", desc := "()V" } : Jvm.MethodName)) ∈ lw_all := lw_g (lw_at lw_m7 32 rfl) rfl
theorem q1521 : (Jvm.Cond.sameMethod "java/util/ArrayList$ListItr" "java/util/ArrayList$Itr" "checkForComodification" "()V") ∈ lw_all := lw_g (lw_at lw_m7 33 rfl) rfl
theorem q1523 : (Jvm.Cond.selects "java/util/ArrayList$ListItr" ({ cls := "java/util/ArrayList$ListItr", name := "checkForComodification", desc := "()V" } : Jvm.MethodName) ({ cls := "java/util/ArrayList$Itr", name := "checkForComodification", desc := "()V" } : Jvm.MethodName)) ∈ lw_all := lw_g (lw_at lw_m7 35 rfl) rfl
theorem q1526 : (Jvm.Cond.classLink "java/util/ArrayList$ListItr" (21 : Nat) "java/util/NoSuchElementException") ∈ lw_all := lw_g (lw_at lw_m7 38 rfl) rfl
theorem q1527 : (Jvm.Cond.methodLink "java/util/ArrayList$ListItr" (23 : Nat) ({ cls := "java/util/NoSuchElementException", name := "<init>", desc := "()V" } : Jvm.MethodName)) ∈ lw_all := lw_g (lw_at lw_m7 39 rfl) rfl
theorem q1541 : (Jvm.Cond.selects "java/util/ArrayList$ListItr" ({ cls := "java/util/ListIterator", name := "next", desc := "()Ljava/lang/Object;" } : Jvm.MethodName) ({ cls := "java/util/ArrayList$Itr", name := "next", desc := "()Ljava/lang/Object;" } : Jvm.MethodName)) ∈ lw_all := lw_g (lw_at lw_m7 53 rfl) rfl
theorem q1542 : (Jvm.Cond.unhidden "java/util/ArrayList$ListItr" "next" "()Ljava/lang/Object;") ∈ lw_tbl := lw_at lw_m7 54 rfl
theorem q1662 : (Jvm.Cond.selects "java/util/ArrayList$ListItr" ({ cls := "java/util/ListIterator", name := "add", desc := "(Ljava/lang/Object;)V" } : Jvm.MethodName) ({ cls := "java/util/ArrayList$ListItr", name := "add", desc := "(Ljava/lang/Object;)V" } : Jvm.MethodName)) ∈ lw_all := lw_g (lw_at lw_m7 174 rfl) rfl
theorem q1663 : (Jvm.Cond.unhidden "java/util/ArrayList$ListItr" "add" "(Ljava/lang/Object;)V") ∈ lw_tbl := lw_at lw_m7 175 rfl
theorem q1664 : (Jvm.Cond.instanceMethod ({ cls := "java/util/ArrayList$ListItr", name := "add", desc := "(Ljava/lang/Object;)V" } : Jvm.MethodName)) ∈ lw_all := lw_g (lw_at lw_m7 176 rfl) rfl
theorem q1665 : (Jvm.Cond.publicMethod ({ cls := "java/util/ArrayList$ListItr", name := "add", desc := "(Ljava/lang/Object;)V" } : Jvm.MethodName)) ∈ lw_tbl := lw_at lw_m7 177 rfl
theorem q1666 : (Jvm.Cond.codeWith ({ cls := "java/util/ArrayList$ListItr", name := "add", desc := "(Ljava/lang/Object;)V" } : Jvm.MethodName) prog_50_method_7_code (3 : Nat) (Option.none : Option Jvm.ClassFile.FieldType) [((4 : Nat), (41 : Nat), (44 : Nat), (44 : Nat))]) ∈ lw_all := lw_g (lw_at lw_m7 178 rfl) rfl
theorem q1667 : (Jvm.Cond.methodLink "java/util/ArrayList$ListItr" (46 : Nat) ({ cls := "java/util/ArrayList", name := "add", desc := "(ILjava/lang/Object;)V" } : Jvm.MethodName)) ∈ lw_all := lw_g (lw_at lw_m7 179 rfl) rfl
theorem q1668 : (Jvm.Cond.classLink "java/util/ArrayList$ListItr" (31 : Nat) "java/util/ConcurrentModificationException") ∈ lw_all := lw_g (lw_at lw_m7 180 rfl) rfl
theorem q1669 : (Jvm.Cond.methodLink "java/util/ArrayList$ListItr" (33 : Nat) ({ cls := "java/util/ConcurrentModificationException", name := "<init>", desc := "()V" } : Jvm.MethodName)) ∈ lw_all := lw_g (lw_at lw_m7 181 rfl) rfl
theorem q1712 : (Jvm.Cond.selects "java/util/ArrayList$ListItr" ({ cls := "java/util/ListIterator", name := "set", desc := "(Ljava/lang/Object;)V" } : Jvm.MethodName) ({ cls := "java/util/ArrayList$ListItr", name := "set", desc := "(Ljava/lang/Object;)V" } : Jvm.MethodName)) ∈ lw_all := lw_g (lw_at lw_m7 224 rfl) rfl
theorem q1713 : (Jvm.Cond.unhidden "java/util/ArrayList$ListItr" "set" "(Ljava/lang/Object;)V") ∈ lw_tbl := lw_at lw_m7 225 rfl
theorem q1714 : (Jvm.Cond.instanceMethod ({ cls := "java/util/ArrayList$ListItr", name := "set", desc := "(Ljava/lang/Object;)V" } : Jvm.MethodName)) ∈ lw_all := lw_g (lw_at lw_m7 226 rfl) rfl
theorem q1715 : (Jvm.Cond.publicMethod ({ cls := "java/util/ArrayList$ListItr", name := "set", desc := "(Ljava/lang/Object;)V" } : Jvm.MethodName)) ∈ lw_tbl := lw_at lw_m7 227 rfl
theorem q1716 : (Jvm.Cond.codeWith ({ cls := "java/util/ArrayList$ListItr", name := "set", desc := "(Ljava/lang/Object;)V" } : Jvm.MethodName) prog_50_method_6_code (3 : Nat) (Option.none : Option Jvm.ClassFile.FieldType) [((19 : Nat), (32 : Nat), (35 : Nat), (44 : Nat))]) ∈ lw_all := lw_g (lw_at lw_m7 228 rfl) rfl
theorem q1717 : (Jvm.Cond.classLink "java/util/ArrayList$ListItr" (37 : Nat) "java/lang/IllegalStateException") ∈ lw_all := lw_g (lw_at lw_m7 229 rfl) rfl
theorem q1718 : (Jvm.Cond.methodLink "java/util/ArrayList$ListItr" (39 : Nat) ({ cls := "java/lang/IllegalStateException", name := "<init>", desc := "()V" } : Jvm.MethodName)) ∈ lw_all := lw_g (lw_at lw_m7 230 rfl) rfl
theorem q1719 : (Jvm.Cond.methodLink "java/util/ArrayList$ListItr" (40 : Nat) ({ cls := "java/util/ArrayList", name := "set", desc := "(ILjava/lang/Object;)Ljava/lang/Object;" } : Jvm.MethodName)) ∈ lw_all := lw_g (lw_at lw_m7 231 rfl) rfl
theorem q1753 : (Jvm.Cond.selects "java/util/ArrayList$ListItr" ({ cls := "java/util/ListIterator", name := "remove", desc := "()V" } : Jvm.MethodName) ({ cls := "java/util/ArrayList$Itr", name := "remove", desc := "()V" } : Jvm.MethodName)) ∈ lw_all := lw_g (lw_at lw_m8 25 rfl) rfl
theorem q1754 : (Jvm.Cond.unhidden "java/util/ArrayList$ListItr" "remove" "()V") ∈ lw_tbl := lw_at lw_m8 26 rfl
theorem q2190 : (Jvm.Cond.selects "java/util/ArrayList$ListItr" ({ cls := "java/util/ArrayList$Itr", name := "checkForComodification", desc := "()V" } : Jvm.MethodName) ({ cls := "java/util/ArrayList$Itr", name := "checkForComodification", desc := "()V" } : Jvm.MethodName)) ∈ lw_all := lw_g (lw_at lw_m9 222 rfl) rfl
theorem q2222 : (Jvm.Cond.castable "java/util/ArrayList$ListItr" "java/lang/Object") ∈ lw_tbl := lw_at lw_m10 14 rfl
theorem in_J25 : ∀ w ∈ wsJ250, w ∈ lw_all := lw_in wsJ250 [1176, 1178, 1180, 1182, 1174] (by decide +kernel) (by decide +kernel)
/-! java/util/AbstractList$Itr -/
set_option maxRecDepth 100000
def RJ26 : String := "java/util/AbstractList$Itr"
abbrev cJ26_init : ByteArray := prog_46_method_1_code
def yJ26_init : MethodName := ⟨RJ26, "<init>", "(Ljava/util/AbstractList;)V"⟩
def dkwJ26_init_1 : List UInt8 := [180, 0, 20, 181, 0, 25, 177]
abbrev dktJ26_init_1 : List UInt8 := dkwJ26_init_1 ++ []
def dkwJ26_init_0 : List UInt8 := [42, 43, 181, 0, 1, 42, 183, 0, 7, 42, 3, 181, 0, 13, 42, 2, 181, 0, 17, 42, 42, 180, 0, 1]
abbrev dktJ26_init_0 : List UInt8 := dkwJ26_init_0 ++ dktJ26_init_1
theorem dksJ26_init_0 : cJ26_init.data.toList.drop 0 = dktJ26_init_0 := by decide +kernel
theorem dksJ26_init_1 : cJ26_init.data.toList.drop 24 = dktJ26_init_1 := dk_seg dksJ26_init_0 24 rfl rfl
theorem dJ26_init_0 : decode cJ26_init 0 = .ok (.aload_n 0, 1) := dk_42 (dk_at dksJ26_init_0 0 rfl rfl)
theorem dJ26_init_1 : decode cJ26_init 1 = .ok (.aload_n 1, 1) := dk_43 (dk_at dksJ26_init_0 1 rfl rfl)
theorem dJ26_init_2 : decode cJ26_init 2 = .ok (.putfield 1, 3) := dk_181 0 1 (dk_at dksJ26_init_0 2 rfl rfl)
theorem dJ26_init_5 : decode cJ26_init 5 = .ok (.aload_n 0, 1) := dk_42 (dk_at dksJ26_init_0 5 rfl rfl)
theorem dJ26_init_6 : decode cJ26_init 6 = .ok (.invokespecial 7, 3) := dk_183 0 7 (dk_at dksJ26_init_0 6 rfl rfl)
theorem dJ26_init_9 : decode cJ26_init 9 = .ok (.aload_n 0, 1) := dk_42 (dk_at dksJ26_init_0 9 rfl rfl)
theorem dJ26_init_10 : decode cJ26_init 10 = .ok (.iconst 0, 1) := dk_3 (dk_at dksJ26_init_0 10 rfl rfl)
theorem dJ26_init_11 : decode cJ26_init 11 = .ok (.putfield 13, 3) := dk_181 0 13 (dk_at dksJ26_init_0 11 rfl rfl)
theorem dJ26_init_14 : decode cJ26_init 14 = .ok (.aload_n 0, 1) := dk_42 (dk_at dksJ26_init_0 14 rfl rfl)
theorem dJ26_init_15 : decode cJ26_init 15 = .ok (.iconst (-1), 1) := dk_2 (dk_at dksJ26_init_0 15 rfl rfl)
theorem dJ26_init_16 : decode cJ26_init 16 = .ok (.putfield 17, 3) := dk_181 0 17 (dk_at dksJ26_init_0 16 rfl rfl)
theorem dJ26_init_19 : decode cJ26_init 19 = .ok (.aload_n 0, 1) := dk_42 (dk_at dksJ26_init_0 19 rfl rfl)
theorem dJ26_init_20 : decode cJ26_init 20 = .ok (.aload_n 0, 1) := dk_42 (dk_at dksJ26_init_0 20 rfl rfl)
theorem dJ26_init_21 : decode cJ26_init 21 = .ok (.getfield 1, 3) := dk_180 0 1 (dk_at dksJ26_init_0 21 rfl rfl)
theorem dJ26_init_24 : decode cJ26_init 24 = .ok (.getfield 20, 3) := dk_180 0 20 (dk_at dksJ26_init_1 0 rfl rfl)
theorem dJ26_init_27 : decode cJ26_init 27 = .ok (.putfield 25, 3) := dk_181 0 25 (dk_at dksJ26_init_1 3 rfl rfl)
theorem dJ26_init_30 : decode cJ26_init 30 = .ok (.return_, 1) := dk_177 (dk_at dksJ26_init_1 6 rfl rfl)
abbrev cJ26_hasNext : ByteArray := prog_46_method_2_code
def yJ26_hasNext : MethodName := ⟨RJ26, "hasNext", "()Z"⟩
def dkwJ26_hasNext_0 : List UInt8 := [42, 180, 0, 13, 42, 180, 0, 1, 182, 0, 28, 159, 0, 7, 4, 167, 0, 4, 3, 172]
abbrev dktJ26_hasNext_0 : List UInt8 := dkwJ26_hasNext_0 ++ []
theorem dksJ26_hasNext_0 : cJ26_hasNext.data.toList.drop 0 = dktJ26_hasNext_0 := by decide +kernel
theorem dJ26_hasNext_0 : decode cJ26_hasNext 0 = .ok (.aload_n 0, 1) := dk_42 (dk_at dksJ26_hasNext_0 0 rfl rfl)
theorem dJ26_hasNext_1 : decode cJ26_hasNext 1 = .ok (.getfield 13, 3) := dk_180 0 13 (dk_at dksJ26_hasNext_0 1 rfl rfl)
theorem dJ26_hasNext_4 : decode cJ26_hasNext 4 = .ok (.aload_n 0, 1) := dk_42 (dk_at dksJ26_hasNext_0 4 rfl rfl)
theorem dJ26_hasNext_5 : decode cJ26_hasNext 5 = .ok (.getfield 1, 3) := dk_180 0 1 (dk_at dksJ26_hasNext_0 5 rfl rfl)
theorem dJ26_hasNext_8 : decode cJ26_hasNext 8 = .ok (.invokevirtual 28, 3) := dk_182 0 28 (dk_at dksJ26_hasNext_0 8 rfl rfl)
theorem dJ26_hasNext_11 : decode cJ26_hasNext 11 = .ok (.if_icmp .eq 7, 3) := dk_159 0 7 (dk_at dksJ26_hasNext_0 11 rfl rfl)
theorem dJ26_hasNext_14 : decode cJ26_hasNext 14 = .ok (.iconst 1, 1) := dk_4 (dk_at dksJ26_hasNext_0 14 rfl rfl)
theorem dJ26_hasNext_15 : decode cJ26_hasNext 15 = .ok (.goto 4, 3) := dk_167 0 4 (dk_at dksJ26_hasNext_0 15 rfl rfl)
theorem dJ26_hasNext_18 : decode cJ26_hasNext 18 = .ok (.iconst 0, 1) := dk_3 (dk_at dksJ26_hasNext_0 18 rfl rfl)
theorem dJ26_hasNext_19 : decode cJ26_hasNext 19 = .ok (.ireturn, 1) := dk_172 (dk_at dksJ26_hasNext_0 19 rfl rfl)
abbrev cJ26_checkForComodification : ByteArray := prog_46_method_5_code
def yJ26_checkForComodification : MethodName := ⟨RJ26, "checkForComodification", "()V"⟩
def dkwJ26_checkForComodification_0 : List UInt8 := [42, 180, 0, 1, 180, 0, 20, 42, 180, 0, 25, 159, 0, 11, 187, 0, 52, 89, 183, 0, 54, 191, 177]
abbrev dktJ26_checkForComodification_0 : List UInt8 := dkwJ26_checkForComodification_0 ++ []
theorem dksJ26_checkForComodification_0 : cJ26_checkForComodification.data.toList.drop 0 = dktJ26_checkForComodification_0 := by decide +kernel
theorem dJ26_checkForComodification_0 : decode cJ26_checkForComodification 0 = .ok (.aload_n 0, 1) := dk_42 (dk_at dksJ26_checkForComodification_0 0 rfl rfl)
theorem dJ26_checkForComodification_1 : decode cJ26_checkForComodification 1 = .ok (.getfield 1, 3) := dk_180 0 1 (dk_at dksJ26_checkForComodification_0 1 rfl rfl)
theorem dJ26_checkForComodification_4 : decode cJ26_checkForComodification 4 = .ok (.getfield 20, 3) := dk_180 0 20 (dk_at dksJ26_checkForComodification_0 4 rfl rfl)
theorem dJ26_checkForComodification_7 : decode cJ26_checkForComodification 7 = .ok (.aload_n 0, 1) := dk_42 (dk_at dksJ26_checkForComodification_0 7 rfl rfl)
theorem dJ26_checkForComodification_8 : decode cJ26_checkForComodification 8 = .ok (.getfield 25, 3) := dk_180 0 25 (dk_at dksJ26_checkForComodification_0 8 rfl rfl)
theorem dJ26_checkForComodification_11 : decode cJ26_checkForComodification 11 = .ok (.if_icmp .eq 11, 3) := dk_159 0 11 (dk_at dksJ26_checkForComodification_0 11 rfl rfl)
theorem dJ26_checkForComodification_14 : decode cJ26_checkForComodification 14 = .ok (.new 52, 3) := dk_187 0 52 (dk_at dksJ26_checkForComodification_0 14 rfl rfl)
theorem dJ26_checkForComodification_17 : decode cJ26_checkForComodification 17 = .ok (.dup, 1) := dk_89 (dk_at dksJ26_checkForComodification_0 17 rfl rfl)
theorem dJ26_checkForComodification_18 : decode cJ26_checkForComodification 18 = .ok (.invokespecial 54, 3) := dk_183 0 54 (dk_at dksJ26_checkForComodification_0 18 rfl rfl)
theorem dJ26_checkForComodification_21 : decode cJ26_checkForComodification 21 = .ok (.athrow, 1) := dk_191 (dk_at dksJ26_checkForComodification_0 21 rfl rfl)
theorem dJ26_checkForComodification_22 : decode cJ26_checkForComodification 22 = .ok (.return_, 1) := dk_177 (dk_at dksJ26_checkForComodification_0 22 rfl rfl)
abbrev cJ26_next : ByteArray := prog_46_method_3_code
def yJ26_next : MethodName := ⟨RJ26, "next", "()Ljava/lang/Object;"⟩
def dkwJ26_next_1 : List UInt8 := [27, 4, 96, 181, 0, 13, 44, 176, 76, 42, 182, 0, 32, 187, 0, 41, 89, 43, 183, 0, 43, 191]
abbrev dktJ26_next_1 : List UInt8 := dkwJ26_next_1 ++ []
def dkwJ26_next_0 : List UInt8 := [42, 182, 0, 32, 42, 180, 0, 13, 60, 42, 180, 0, 1, 27, 182, 0, 35, 77, 42, 27, 181, 0, 17, 42]
abbrev dktJ26_next_0 : List UInt8 := dkwJ26_next_0 ++ dktJ26_next_1
theorem dksJ26_next_0 : cJ26_next.data.toList.drop 0 = dktJ26_next_0 := by decide +kernel
theorem dksJ26_next_1 : cJ26_next.data.toList.drop 24 = dktJ26_next_1 := dk_seg dksJ26_next_0 24 rfl rfl
theorem dJ26_next_0 : decode cJ26_next 0 = .ok (.aload_n 0, 1) := dk_42 (dk_at dksJ26_next_0 0 rfl rfl)
theorem dJ26_next_1 : decode cJ26_next 1 = .ok (.invokevirtual 32, 3) := dk_182 0 32 (dk_at dksJ26_next_0 1 rfl rfl)
theorem dJ26_next_4 : decode cJ26_next 4 = .ok (.aload_n 0, 1) := dk_42 (dk_at dksJ26_next_0 4 rfl rfl)
theorem dJ26_next_5 : decode cJ26_next 5 = .ok (.getfield 13, 3) := dk_180 0 13 (dk_at dksJ26_next_0 5 rfl rfl)
theorem dJ26_next_8 : decode cJ26_next 8 = .ok (.istore_n 1, 1) := dk_60 (dk_at dksJ26_next_0 8 rfl rfl)
theorem dJ26_next_9 : decode cJ26_next 9 = .ok (.aload_n 0, 1) := dk_42 (dk_at dksJ26_next_0 9 rfl rfl)
theorem dJ26_next_10 : decode cJ26_next 10 = .ok (.getfield 1, 3) := dk_180 0 1 (dk_at dksJ26_next_0 10 rfl rfl)
theorem dJ26_next_13 : decode cJ26_next 13 = .ok (.iload_n 1, 1) := dk_27 (dk_at dksJ26_next_0 13 rfl rfl)
theorem dJ26_next_14 : decode cJ26_next 14 = .ok (.invokevirtual 35, 3) := dk_182 0 35 (dk_at dksJ26_next_0 14 rfl rfl)
theorem dJ26_next_17 : decode cJ26_next 17 = .ok (.astore_n 2, 1) := dk_77 (dk_at dksJ26_next_0 17 rfl rfl)
theorem dJ26_next_18 : decode cJ26_next 18 = .ok (.aload_n 0, 1) := dk_42 (dk_at dksJ26_next_0 18 rfl rfl)
theorem dJ26_next_19 : decode cJ26_next 19 = .ok (.iload_n 1, 1) := dk_27 (dk_at dksJ26_next_0 19 rfl rfl)
theorem dJ26_next_20 : decode cJ26_next 20 = .ok (.putfield 17, 3) := dk_181 0 17 (dk_at dksJ26_next_0 20 rfl rfl)
theorem dJ26_next_23 : decode cJ26_next 23 = .ok (.aload_n 0, 1) := dk_42 (dk_at dksJ26_next_0 23 rfl rfl)
theorem dJ26_next_24 : decode cJ26_next 24 = .ok (.iload_n 1, 1) := dk_27 (dk_at dksJ26_next_1 0 rfl rfl)
theorem dJ26_next_25 : decode cJ26_next 25 = .ok (.iconst 1, 1) := dk_4 (dk_at dksJ26_next_1 1 rfl rfl)
theorem dJ26_next_26 : decode cJ26_next 26 = .ok (.iadd, 1) := dk_96 (dk_at dksJ26_next_1 2 rfl rfl)
theorem dJ26_next_27 : decode cJ26_next 27 = .ok (.putfield 13, 3) := dk_181 0 13 (dk_at dksJ26_next_1 3 rfl rfl)
theorem dJ26_next_30 : decode cJ26_next 30 = .ok (.aload_n 2, 1) := dk_44 (dk_at dksJ26_next_1 6 rfl rfl)
theorem dJ26_next_31 : decode cJ26_next 31 = .ok (.areturn, 1) := dk_176 (dk_at dksJ26_next_1 7 rfl rfl)
theorem dJ26_next_32 : decode cJ26_next 32 = .ok (.astore_n 1, 1) := dk_76 (dk_at dksJ26_next_1 8 rfl rfl)
theorem dJ26_next_33 : decode cJ26_next 33 = .ok (.aload_n 0, 1) := dk_42 (dk_at dksJ26_next_1 9 rfl rfl)
theorem dJ26_next_34 : decode cJ26_next 34 = .ok (.invokevirtual 32, 3) := dk_182 0 32 (dk_at dksJ26_next_1 10 rfl rfl)
theorem dJ26_next_37 : decode cJ26_next 37 = .ok (.new 41, 3) := dk_187 0 41 (dk_at dksJ26_next_1 13 rfl rfl)
theorem dJ26_next_40 : decode cJ26_next 40 = .ok (.dup, 1) := dk_89 (dk_at dksJ26_next_1 16 rfl rfl)
theorem dJ26_next_41 : decode cJ26_next 41 = .ok (.aload_n 1, 1) := dk_43 (dk_at dksJ26_next_1 17 rfl rfl)
theorem dJ26_next_42 : decode cJ26_next 42 = .ok (.invokespecial 43, 3) := dk_183 0 43 (dk_at dksJ26_next_1 18 rfl rfl)
theorem dJ26_next_45 : decode cJ26_next 45 = .ok (.athrow, 1) := dk_191 (dk_at dksJ26_next_1 21 rfl rfl)
abbrev cJ26_remove : ByteArray := prog_46_method_4_code
def yJ26_remove : MethodName := ⟨RJ26, "remove", "()V"⟩
def dkwJ26_remove_3 : List UInt8 := [187, 0, 52, 89, 183, 0, 54, 191, 177]
abbrev dktJ26_remove_3 : List UInt8 := dkwJ26_remove_3 ++ []
def dkwJ26_remove_2 : List UInt8 := [100, 181, 0, 13, 42, 2, 181, 0, 17, 42, 42, 180, 0, 1, 180, 0, 20, 181, 0, 25, 167, 0, 12, 76]
abbrev dktJ26_remove_2 : List UInt8 := dkwJ26_remove_2 ++ dktJ26_remove_3
def dkwJ26_remove_1 : List UInt8 := [180, 0, 17, 182, 0, 49, 87, 42, 180, 0, 17, 42, 180, 0, 13, 162, 0, 13, 42, 89, 180, 0, 13, 4]
abbrev dktJ26_remove_1 : List UInt8 := dkwJ26_remove_1 ++ dktJ26_remove_2
def dkwJ26_remove_0 : List UInt8 := [42, 180, 0, 17, 156, 0, 11, 187, 0, 46, 89, 183, 0, 48, 191, 42, 182, 0, 32, 42, 180, 0, 1, 42]
abbrev dktJ26_remove_0 : List UInt8 := dkwJ26_remove_0 ++ dktJ26_remove_1
theorem dksJ26_remove_0 : cJ26_remove.data.toList.drop 0 = dktJ26_remove_0 := by decide +kernel
theorem dksJ26_remove_1 : cJ26_remove.data.toList.drop 24 = dktJ26_remove_1 := dk_seg dksJ26_remove_0 24 rfl rfl
theorem dksJ26_remove_2 : cJ26_remove.data.toList.drop 48 = dktJ26_remove_2 := dk_seg dksJ26_remove_1 24 rfl rfl
theorem dksJ26_remove_3 : cJ26_remove.data.toList.drop 72 = dktJ26_remove_3 := dk_seg dksJ26_remove_2 24 rfl rfl
theorem dJ26_remove_0 : decode cJ26_remove 0 = .ok (.aload_n 0, 1) := dk_42 (dk_at dksJ26_remove_0 0 rfl rfl)
theorem dJ26_remove_1 : decode cJ26_remove 1 = .ok (.getfield 17, 3) := dk_180 0 17 (dk_at dksJ26_remove_0 1 rfl rfl)
theorem dJ26_remove_4 : decode cJ26_remove 4 = .ok (.ifCond .ge 11, 3) := dk_156 0 11 (dk_at dksJ26_remove_0 4 rfl rfl)
theorem dJ26_remove_7 : decode cJ26_remove 7 = .ok (.new 46, 3) := dk_187 0 46 (dk_at dksJ26_remove_0 7 rfl rfl)
theorem dJ26_remove_10 : decode cJ26_remove 10 = .ok (.dup, 1) := dk_89 (dk_at dksJ26_remove_0 10 rfl rfl)
theorem dJ26_remove_11 : decode cJ26_remove 11 = .ok (.invokespecial 48, 3) := dk_183 0 48 (dk_at dksJ26_remove_0 11 rfl rfl)
theorem dJ26_remove_14 : decode cJ26_remove 14 = .ok (.athrow, 1) := dk_191 (dk_at dksJ26_remove_0 14 rfl rfl)
theorem dJ26_remove_15 : decode cJ26_remove 15 = .ok (.aload_n 0, 1) := dk_42 (dk_at dksJ26_remove_0 15 rfl rfl)
theorem dJ26_remove_16 : decode cJ26_remove 16 = .ok (.invokevirtual 32, 3) := dk_182 0 32 (dk_at dksJ26_remove_0 16 rfl rfl)
theorem dJ26_remove_19 : decode cJ26_remove 19 = .ok (.aload_n 0, 1) := dk_42 (dk_at dksJ26_remove_0 19 rfl rfl)
theorem dJ26_remove_20 : decode cJ26_remove 20 = .ok (.getfield 1, 3) := dk_180 0 1 (dk_at dksJ26_remove_0 20 rfl rfl)
theorem dJ26_remove_23 : decode cJ26_remove 23 = .ok (.aload_n 0, 1) := dk_42 (dk_at dksJ26_remove_0 23 rfl rfl)
theorem dJ26_remove_24 : decode cJ26_remove 24 = .ok (.getfield 17, 3) := dk_180 0 17 (dk_at dksJ26_remove_1 0 rfl rfl)
theorem dJ26_remove_27 : decode cJ26_remove 27 = .ok (.invokevirtual 49, 3) := dk_182 0 49 (dk_at dksJ26_remove_1 3 rfl rfl)
theorem dJ26_remove_30 : decode cJ26_remove 30 = .ok (.pop, 1) := dk_87 (dk_at dksJ26_remove_1 6 rfl rfl)
theorem dJ26_remove_31 : decode cJ26_remove 31 = .ok (.aload_n 0, 1) := dk_42 (dk_at dksJ26_remove_1 7 rfl rfl)
theorem dJ26_remove_32 : decode cJ26_remove 32 = .ok (.getfield 17, 3) := dk_180 0 17 (dk_at dksJ26_remove_1 8 rfl rfl)
theorem dJ26_remove_35 : decode cJ26_remove 35 = .ok (.aload_n 0, 1) := dk_42 (dk_at dksJ26_remove_1 11 rfl rfl)
theorem dJ26_remove_36 : decode cJ26_remove 36 = .ok (.getfield 13, 3) := dk_180 0 13 (dk_at dksJ26_remove_1 12 rfl rfl)
theorem dJ26_remove_39 : decode cJ26_remove 39 = .ok (.if_icmp .ge 13, 3) := dk_162 0 13 (dk_at dksJ26_remove_1 15 rfl rfl)
theorem dJ26_remove_42 : decode cJ26_remove 42 = .ok (.aload_n 0, 1) := dk_42 (dk_at dksJ26_remove_1 18 rfl rfl)
theorem dJ26_remove_43 : decode cJ26_remove 43 = .ok (.dup, 1) := dk_89 (dk_at dksJ26_remove_1 19 rfl rfl)
theorem dJ26_remove_44 : decode cJ26_remove 44 = .ok (.getfield 13, 3) := dk_180 0 13 (dk_at dksJ26_remove_1 20 rfl rfl)
theorem dJ26_remove_47 : decode cJ26_remove 47 = .ok (.iconst 1, 1) := dk_4 (dk_at dksJ26_remove_1 23 rfl rfl)
theorem dJ26_remove_48 : decode cJ26_remove 48 = .ok (.isub, 1) := dk_100 (dk_at dksJ26_remove_2 0 rfl rfl)
theorem dJ26_remove_49 : decode cJ26_remove 49 = .ok (.putfield 13, 3) := dk_181 0 13 (dk_at dksJ26_remove_2 1 rfl rfl)
theorem dJ26_remove_52 : decode cJ26_remove 52 = .ok (.aload_n 0, 1) := dk_42 (dk_at dksJ26_remove_2 4 rfl rfl)
theorem dJ26_remove_53 : decode cJ26_remove 53 = .ok (.iconst (-1), 1) := dk_2 (dk_at dksJ26_remove_2 5 rfl rfl)
theorem dJ26_remove_54 : decode cJ26_remove 54 = .ok (.putfield 17, 3) := dk_181 0 17 (dk_at dksJ26_remove_2 6 rfl rfl)
theorem dJ26_remove_57 : decode cJ26_remove 57 = .ok (.aload_n 0, 1) := dk_42 (dk_at dksJ26_remove_2 9 rfl rfl)
theorem dJ26_remove_58 : decode cJ26_remove 58 = .ok (.aload_n 0, 1) := dk_42 (dk_at dksJ26_remove_2 10 rfl rfl)
theorem dJ26_remove_59 : decode cJ26_remove 59 = .ok (.getfield 1, 3) := dk_180 0 1 (dk_at dksJ26_remove_2 11 rfl rfl)
theorem dJ26_remove_62 : decode cJ26_remove 62 = .ok (.getfield 20, 3) := dk_180 0 20 (dk_at dksJ26_remove_2 14 rfl rfl)
theorem dJ26_remove_65 : decode cJ26_remove 65 = .ok (.putfield 25, 3) := dk_181 0 25 (dk_at dksJ26_remove_2 17 rfl rfl)
theorem dJ26_remove_68 : decode cJ26_remove 68 = .ok (.goto 12, 3) := dk_167 0 12 (dk_at dksJ26_remove_2 20 rfl rfl)
theorem dJ26_remove_71 : decode cJ26_remove 71 = .ok (.astore_n 1, 1) := dk_76 (dk_at dksJ26_remove_2 23 rfl rfl)
theorem dJ26_remove_72 : decode cJ26_remove 72 = .ok (.new 52, 3) := dk_187 0 52 (dk_at dksJ26_remove_3 0 rfl rfl)
theorem dJ26_remove_75 : decode cJ26_remove 75 = .ok (.dup, 1) := dk_89 (dk_at dksJ26_remove_3 3 rfl rfl)
theorem dJ26_remove_76 : decode cJ26_remove 76 = .ok (.invokespecial 54, 3) := dk_183 0 54 (dk_at dksJ26_remove_3 4 rfl rfl)
theorem dJ26_remove_79 : decode cJ26_remove 79 = .ok (.athrow, 1) := dk_191 (dk_at dksJ26_remove_3 7 rfl rfl)
theorem dJ26_remove_80 : decode cJ26_remove 80 = .ok (.return_, 1) := dk_177 (dk_at dksJ26_remove_3 8 rfl rfl)
theorem q88 : (Jvm.Cond.initialized "java/util/AbstractList$Itr") ∈ lw_all := lw_g (lw_at lw_m1 40 rfl) rfl
theorem q582 : (Jvm.Cond.fieldLink "java/util/AbstractList$Itr" (20 : Nat) "java/util/AbstractList" "modCount" "I") ∈ lw_all := lw_g (lw_at lw_m3 54 rfl) rfl
theorem q1221 : (Jvm.Cond.instanceMethod ({ cls := "java/util/AbstractList$Itr", name := "<init>", desc := "(Ljava/util/AbstractList;)V" } : Jvm.MethodName)) ∈ lw_all := lw_g (lw_at lw_m5 213 rfl) rfl
theorem q1222 : (Jvm.Cond.code ({ cls := "java/util/AbstractList$Itr", name := "<init>", desc := "(Ljava/util/AbstractList;)V" } : Jvm.MethodName) prog_46_method_1_code (2 : Nat) (Option.none : Option Jvm.ClassFile.FieldType)) ∈ lw_all := lw_g (lw_at lw_m5 214 rfl) rfl
theorem q1223 : (Jvm.Cond.methodLink "java/util/AbstractList$Itr" (7 : Nat) ({ cls := "java/lang/Object", name := "<init>", desc := "()V" } : Jvm.MethodName)) ∈ lw_all := lw_g (lw_at lw_m5 215 rfl) rfl
theorem q1225 : (Jvm.Cond.fieldLink "java/util/AbstractList$Itr" (13 : Nat) "java/util/AbstractList$Itr" "cursor" "I") ∈ lw_all := lw_g (lw_at lw_m5 217 rfl) rfl
theorem q1228 : (Jvm.Cond.fieldLink "java/util/AbstractList$Itr" (17 : Nat) "java/util/AbstractList$Itr" "lastRet" "I") ∈ lw_all := lw_g (lw_at lw_m5 220 rfl) rfl
theorem q1231 : (Jvm.Cond.fieldLink "java/util/AbstractList$Itr" (25 : Nat) "java/util/AbstractList$Itr" "expectedModCount" "I") ∈ lw_all := lw_g (lw_at lw_m5 223 rfl) rfl
theorem q1234 : (Jvm.Cond.fieldLink "java/util/AbstractList$Itr" (1 : Nat) "java/util/AbstractList$Itr" "this$0" "Ljava/util/AbstractList;") ∈ lw_all := lw_g (lw_at lw_m5 226 rfl) rfl
theorem q1238 : (Jvm.Cond.soleField "java/util/AbstractList$Itr" "cursor") ∈ lw_all := lw_g (lw_at lw_m5 230 rfl) rfl
theorem q1240 : (Jvm.Cond.soleField "java/util/AbstractList$Itr" "lastRet") ∈ lw_all := lw_g (lw_at lw_m5 232 rfl) rfl
theorem q1242 : (Jvm.Cond.soleField "java/util/AbstractList$Itr" "expectedModCount") ∈ lw_all := lw_g (lw_at lw_m5 234 rfl) rfl
theorem q1244 : (Jvm.Cond.soleField "java/util/AbstractList$Itr" "this$0") ∈ lw_all := lw_g (lw_at lw_m5 236 rfl) rfl
theorem q1272 : (Jvm.Cond.instanceMethod ({ cls := "java/util/AbstractList$Itr", name := "hasNext", desc := "()Z" } : Jvm.MethodName)) ∈ lw_all := lw_g (lw_at lw_m6 24 rfl) rfl
theorem q1273 : (Jvm.Cond.publicMethod ({ cls := "java/util/AbstractList$Itr", name := "hasNext", desc := "()Z" } : Jvm.MethodName)) ∈ lw_tbl := lw_at lw_m6 25 rfl
theorem q1274 : (Jvm.Cond.code ({ cls := "java/util/AbstractList$Itr", name := "hasNext", desc := "()Z" } : Jvm.MethodName) prog_46_method_2_code (1 : Nat) (Option.some Jvm.ClassFile.FieldType.boolean)) ∈ lw_all := lw_g (lw_at lw_m6 26 rfl) rfl
theorem q1275 : (Jvm.Cond.methodLink "java/util/AbstractList$Itr" (28 : Nat) ({ cls := "java/util/AbstractList", name := "size", desc := "()I" } : Jvm.MethodName)) ∈ lw_all := lw_g (lw_at lw_m6 27 rfl) rfl
theorem q1387 : (Jvm.Cond.declares ({ cls := "java/util/AbstractList$Itr", name := "checkForComodification", desc := "()V" } : Jvm.MethodName)) ∈ lw_tbl := lw_at lw_m6 139 rfl
theorem q1389 : (Jvm.Cond.instanceMethod ({ cls := "java/util/AbstractList$Itr", name := "checkForComodification", desc := "()V" } : Jvm.MethodName)) ∈ lw_all := lw_g (lw_at lw_m6 141 rfl) rfl
theorem q1390 : (Jvm.Cond.code ({ cls := "java/util/AbstractList$Itr", name := "checkForComodification", desc := "()V" } : Jvm.MethodName) prog_46_method_5_code (1 : Nat) (Option.none : Option Jvm.ClassFile.FieldType)) ∈ lw_all := lw_g (lw_at lw_m6 142 rfl) rfl
theorem q1534 : (Jvm.Cond.instanceMethod ({ cls := "java/util/AbstractList$Itr", name := "next", desc := "()Ljava/lang/Object;" } : Jvm.MethodName)) ∈ lw_all := lw_g (lw_at lw_m7 46 rfl) rfl
theorem q1535 : (Jvm.Cond.publicMethod ({ cls := "java/util/AbstractList$Itr", name := "next", desc := "()Ljava/lang/Object;" } : Jvm.MethodName)) ∈ lw_tbl := lw_at lw_m7 47 rfl
theorem q1536 : (Jvm.Cond.codeWith ({ cls := "java/util/AbstractList$Itr", name := "next", desc := "()Ljava/lang/Object;" } : Jvm.MethodName) prog_46_method_3_code (3 : Nat) (Option.some (Jvm.ClassFile.FieldType.object "java/lang/Object")) [((4 : Nat), (31 : Nat), (32 : Nat), (39 : Nat))]) ∈ lw_all := lw_g (lw_at lw_m7 48 rfl) rfl
theorem q1537 : (Jvm.Cond.methodLink "java/util/AbstractList$Itr" (32 : Nat) ({ cls := "java/util/AbstractList$Itr", name := "checkForComodification", desc := "()V" } : Jvm.MethodName)) ∈ lw_all := lw_g (lw_at lw_m7 49 rfl) rfl
theorem q1538 : (Jvm.Cond.methodLink "java/util/AbstractList$Itr" (35 : Nat) ({ cls := "java/util/AbstractList", name := "get", desc := "(I)Ljava/lang/Object;" } : Jvm.MethodName)) ∈ lw_all := lw_g (lw_at lw_m7 50 rfl) rfl
theorem q1539 : (Jvm.Cond.classLink "java/util/AbstractList$Itr" (41 : Nat) "java/util/NoSuchElementException") ∈ lw_all := lw_g (lw_at lw_m7 51 rfl) rfl
theorem q1540 : (Jvm.Cond.methodLink "java/util/AbstractList$Itr" (43 : Nat) ({ cls := "java/util/NoSuchElementException", name := "<init>", desc := "(Ljava/lang/Throwable;)V" } : Jvm.MethodName)) ∈ lw_all := lw_g (lw_at lw_m7 52 rfl) rfl
theorem q1734 : (Jvm.Cond.instanceMethod ({ cls := "java/util/AbstractList$Itr", name := "remove", desc := "()V" } : Jvm.MethodName)) ∈ lw_all := lw_g (lw_at lw_m8 6 rfl) rfl
theorem q1735 : (Jvm.Cond.publicMethod ({ cls := "java/util/AbstractList$Itr", name := "remove", desc := "()V" } : Jvm.MethodName)) ∈ lw_tbl := lw_at lw_m8 7 rfl
theorem q1736 : (Jvm.Cond.codeWith ({ cls := "java/util/AbstractList$Itr", name := "remove", desc := "()V" } : Jvm.MethodName) prog_46_method_4_code (2 : Nat) (Option.none : Option Jvm.ClassFile.FieldType) [((19 : Nat), (68 : Nat), (71 : Nat), (39 : Nat))]) ∈ lw_all := lw_g (lw_at lw_m8 8 rfl) rfl
theorem q1737 : (Jvm.Cond.classLink "java/util/AbstractList$Itr" (46 : Nat) "java/lang/IllegalStateException") ∈ lw_all := lw_g (lw_at lw_m8 9 rfl) rfl
theorem q1738 : (Jvm.Cond.methodLink "java/util/AbstractList$Itr" (48 : Nat) ({ cls := "java/lang/IllegalStateException", name := "<init>", desc := "()V" } : Jvm.MethodName)) ∈ lw_all := lw_g (lw_at lw_m8 10 rfl) rfl
theorem q1739 : (Jvm.Cond.methodLink "java/util/AbstractList$Itr" (49 : Nat) ({ cls := "java/util/AbstractList", name := "remove", desc := "(I)Ljava/lang/Object;" } : Jvm.MethodName)) ∈ lw_all := lw_g (lw_at lw_m8 11 rfl) rfl
theorem q1751 : (Jvm.Cond.classLink "java/util/AbstractList$Itr" (52 : Nat) "java/util/ConcurrentModificationException") ∈ lw_all := lw_g (lw_at lw_m8 23 rfl) rfl
theorem q1752 : (Jvm.Cond.methodLink "java/util/AbstractList$Itr" (54 : Nat) ({ cls := "java/util/ConcurrentModificationException", name := "<init>", desc := "()V" } : Jvm.MethodName)) ∈ lw_all := lw_g (lw_at lw_m8 24 rfl) rfl
theorem q2187 : (Jvm.Cond.sameMethod "java/util/AbstractList$Itr" "java/util/AbstractList$Itr" "checkForComodification" "()V") ∈ lw_all := lw_g (lw_at lw_m9 219 rfl) rfl
/-! java/util/AbstractList$ListItr -/
set_option maxRecDepth 100000
def RJ27 : String := "java/util/AbstractList$ListItr"
def TJ27 : u_T := fun k => match k with
  | 0 => ("java/util/AbstractList$Itr", "cursor", "I", false)
  | 1 => ("java/util/AbstractList$Itr", "lastRet", "I", false)
  | 2 => ("java/util/AbstractList$Itr", "expectedModCount", "I", false)
  | 3 => ("java/util/AbstractList$Itr", "this$0", "Ljava/util/AbstractList;", true)
  | _ => ("java/util/AbstractList$ListItr", "this$0", "Ljava/util/AbstractList;", true)
def tyJ27 : Nat → FieldType := fun k => match k with
  | 0 => .int
  | 1 => .int
  | 2 => .int
  | 3 => .object "java/util/AbstractList"
  | _ => .object "java/util/AbstractList"
abbrev wsJ270 : List Cond := u_ws RJ27 TJ27 5
-- two fields of one name: no nmJ27
theorem tyJ27_ok : ∀ k, k < 5 → parseFieldDescriptor (TJ27 k).2.2.1 = some (tyJ27 k) := by decide +kernel
abbrev cJ27_init : ByteArray := prog_47_method_1_code
def yJ27_init : MethodName := ⟨RJ27, "<init>", "(Ljava/util/AbstractList;I)V"⟩
def dkwJ27_init_0 : List UInt8 := [42, 43, 181, 0, 1, 42, 43, 183, 0, 7, 42, 28, 181, 0, 13, 177]
abbrev dktJ27_init_0 : List UInt8 := dkwJ27_init_0 ++ []
theorem dksJ27_init_0 : cJ27_init.data.toList.drop 0 = dktJ27_init_0 := by decide +kernel
theorem dJ27_init_0 : decode cJ27_init 0 = .ok (.aload_n 0, 1) := dk_42 (dk_at dksJ27_init_0 0 rfl rfl)
theorem dJ27_init_1 : decode cJ27_init 1 = .ok (.aload_n 1, 1) := dk_43 (dk_at dksJ27_init_0 1 rfl rfl)
theorem dJ27_init_2 : decode cJ27_init 2 = .ok (.putfield 1, 3) := dk_181 0 1 (dk_at dksJ27_init_0 2 rfl rfl)
theorem dJ27_init_5 : decode cJ27_init 5 = .ok (.aload_n 0, 1) := dk_42 (dk_at dksJ27_init_0 5 rfl rfl)
theorem dJ27_init_6 : decode cJ27_init 6 = .ok (.aload_n 1, 1) := dk_43 (dk_at dksJ27_init_0 6 rfl rfl)
theorem dJ27_init_7 : decode cJ27_init 7 = .ok (.invokespecial 7, 3) := dk_183 0 7 (dk_at dksJ27_init_0 7 rfl rfl)
theorem dJ27_init_10 : decode cJ27_init 10 = .ok (.aload_n 0, 1) := dk_42 (dk_at dksJ27_init_0 10 rfl rfl)
theorem dJ27_init_11 : decode cJ27_init 11 = .ok (.iload_n 2, 1) := dk_28 (dk_at dksJ27_init_0 11 rfl rfl)
theorem dJ27_init_12 : decode cJ27_init 12 = .ok (.putfield 13, 3) := dk_181 0 13 (dk_at dksJ27_init_0 12 rfl rfl)
theorem dJ27_init_15 : decode cJ27_init 15 = .ok (.return_, 1) := dk_177 (dk_at dksJ27_init_0 15 rfl rfl)
abbrev cJ27_hasPrevious : ByteArray := prog_47_method_2_code
def yJ27_hasPrevious : MethodName := ⟨RJ27, "hasPrevious", "()Z"⟩
def dkwJ27_hasPrevious_0 : List UInt8 := [42, 180, 0, 13, 153, 0, 7, 4, 167, 0, 4, 3, 172]
abbrev dktJ27_hasPrevious_0 : List UInt8 := dkwJ27_hasPrevious_0 ++ []
theorem dksJ27_hasPrevious_0 : cJ27_hasPrevious.data.toList.drop 0 = dktJ27_hasPrevious_0 := by decide +kernel
theorem dJ27_hasPrevious_0 : decode cJ27_hasPrevious 0 = .ok (.aload_n 0, 1) := dk_42 (dk_at dksJ27_hasPrevious_0 0 rfl rfl)
theorem dJ27_hasPrevious_1 : decode cJ27_hasPrevious 1 = .ok (.getfield 13, 3) := dk_180 0 13 (dk_at dksJ27_hasPrevious_0 1 rfl rfl)
theorem dJ27_hasPrevious_4 : decode cJ27_hasPrevious 4 = .ok (.ifCond .eq 7, 3) := dk_153 0 7 (dk_at dksJ27_hasPrevious_0 4 rfl rfl)
theorem dJ27_hasPrevious_7 : decode cJ27_hasPrevious 7 = .ok (.iconst 1, 1) := dk_4 (dk_at dksJ27_hasPrevious_0 7 rfl rfl)
theorem dJ27_hasPrevious_8 : decode cJ27_hasPrevious 8 = .ok (.goto 4, 3) := dk_167 0 4 (dk_at dksJ27_hasPrevious_0 8 rfl rfl)
theorem dJ27_hasPrevious_11 : decode cJ27_hasPrevious 11 = .ok (.iconst 0, 1) := dk_3 (dk_at dksJ27_hasPrevious_0 11 rfl rfl)
theorem dJ27_hasPrevious_12 : decode cJ27_hasPrevious 12 = .ok (.ireturn, 1) := dk_172 (dk_at dksJ27_hasPrevious_0 12 rfl rfl)
abbrev cJ27_nextIndex : ByteArray := prog_47_method_4_code
def yJ27_nextIndex : MethodName := ⟨RJ27, "nextIndex", "()I"⟩
theorem dJ27_nextIndex_0 : decode cJ27_nextIndex 0 = .ok (.aload_n 0, 1) := by decide +kernel
theorem dJ27_nextIndex_1 : decode cJ27_nextIndex 1 = .ok (.getfield 13, 3) := by decide +kernel
theorem dJ27_nextIndex_4 : decode cJ27_nextIndex 4 = .ok (.ireturn, 1) := by decide +kernel
abbrev cJ27_previousIndex : ByteArray := prog_47_method_5_code
def yJ27_previousIndex : MethodName := ⟨RJ27, "previousIndex", "()I"⟩
def dkwJ27_previousIndex_0 : List UInt8 := [42, 180, 0, 13, 4, 100, 172]
abbrev dktJ27_previousIndex_0 : List UInt8 := dkwJ27_previousIndex_0 ++ []
theorem dksJ27_previousIndex_0 : cJ27_previousIndex.data.toList.drop 0 = dktJ27_previousIndex_0 := by decide +kernel
theorem dJ27_previousIndex_0 : decode cJ27_previousIndex 0 = .ok (.aload_n 0, 1) := dk_42 (dk_at dksJ27_previousIndex_0 0 rfl rfl)
theorem dJ27_previousIndex_1 : decode cJ27_previousIndex 1 = .ok (.getfield 13, 3) := dk_180 0 13 (dk_at dksJ27_previousIndex_0 1 rfl rfl)
theorem dJ27_previousIndex_4 : decode cJ27_previousIndex 4 = .ok (.iconst 1, 1) := dk_4 (dk_at dksJ27_previousIndex_0 4 rfl rfl)
theorem dJ27_previousIndex_5 : decode cJ27_previousIndex 5 = .ok (.isub, 1) := dk_100 (dk_at dksJ27_previousIndex_0 5 rfl rfl)
theorem dJ27_previousIndex_6 : decode cJ27_previousIndex 6 = .ok (.ireturn, 1) := dk_172 (dk_at dksJ27_previousIndex_0 6 rfl rfl)
abbrev cJ27_previous : ByteArray := prog_47_method_3_code
def yJ27_previous : MethodName := ⟨RJ27, "previous", "()Ljava/lang/Object;"⟩
def dkwJ27_previous_1 : List UInt8 := [181, 0, 13, 181, 0, 27, 44, 176, 76, 42, 182, 0, 17, 187, 0, 32, 89, 43, 183, 0, 34, 191]
abbrev dktJ27_previous_1 : List UInt8 := dkwJ27_previous_1 ++ []
def dkwJ27_previous_0 : List UInt8 := [42, 182, 0, 17, 42, 180, 0, 13, 4, 100, 60, 42, 180, 0, 1, 27, 182, 0, 21, 77, 42, 42, 27, 90]
abbrev dktJ27_previous_0 : List UInt8 := dkwJ27_previous_0 ++ dktJ27_previous_1
theorem dksJ27_previous_0 : cJ27_previous.data.toList.drop 0 = dktJ27_previous_0 := by decide +kernel
theorem dksJ27_previous_1 : cJ27_previous.data.toList.drop 24 = dktJ27_previous_1 := dk_seg dksJ27_previous_0 24 rfl rfl
theorem dJ27_previous_0 : decode cJ27_previous 0 = .ok (.aload_n 0, 1) := dk_42 (dk_at dksJ27_previous_0 0 rfl rfl)
theorem dJ27_previous_1 : decode cJ27_previous 1 = .ok (.invokevirtual 17, 3) := dk_182 0 17 (dk_at dksJ27_previous_0 1 rfl rfl)
theorem dJ27_previous_4 : decode cJ27_previous 4 = .ok (.aload_n 0, 1) := dk_42 (dk_at dksJ27_previous_0 4 rfl rfl)
theorem dJ27_previous_5 : decode cJ27_previous 5 = .ok (.getfield 13, 3) := dk_180 0 13 (dk_at dksJ27_previous_0 5 rfl rfl)
theorem dJ27_previous_8 : decode cJ27_previous 8 = .ok (.iconst 1, 1) := dk_4 (dk_at dksJ27_previous_0 8 rfl rfl)
theorem dJ27_previous_9 : decode cJ27_previous 9 = .ok (.isub, 1) := dk_100 (dk_at dksJ27_previous_0 9 rfl rfl)
theorem dJ27_previous_10 : decode cJ27_previous 10 = .ok (.istore_n 1, 1) := dk_60 (dk_at dksJ27_previous_0 10 rfl rfl)
theorem dJ27_previous_11 : decode cJ27_previous 11 = .ok (.aload_n 0, 1) := dk_42 (dk_at dksJ27_previous_0 11 rfl rfl)
theorem dJ27_previous_12 : decode cJ27_previous 12 = .ok (.getfield 1, 3) := dk_180 0 1 (dk_at dksJ27_previous_0 12 rfl rfl)
theorem dJ27_previous_15 : decode cJ27_previous 15 = .ok (.iload_n 1, 1) := dk_27 (dk_at dksJ27_previous_0 15 rfl rfl)
theorem dJ27_previous_16 : decode cJ27_previous 16 = .ok (.invokevirtual 21, 3) := dk_182 0 21 (dk_at dksJ27_previous_0 16 rfl rfl)
theorem dJ27_previous_19 : decode cJ27_previous 19 = .ok (.astore_n 2, 1) := dk_77 (dk_at dksJ27_previous_0 19 rfl rfl)
theorem dJ27_previous_20 : decode cJ27_previous 20 = .ok (.aload_n 0, 1) := dk_42 (dk_at dksJ27_previous_0 20 rfl rfl)
theorem dJ27_previous_21 : decode cJ27_previous 21 = .ok (.aload_n 0, 1) := dk_42 (dk_at dksJ27_previous_0 21 rfl rfl)
theorem dJ27_previous_22 : decode cJ27_previous 22 = .ok (.iload_n 1, 1) := dk_27 (dk_at dksJ27_previous_0 22 rfl rfl)
theorem dJ27_previous_23 : decode cJ27_previous 23 = .ok (.dup_x1, 1) := dk_90 (dk_at dksJ27_previous_0 23 rfl rfl)
theorem dJ27_previous_24 : decode cJ27_previous 24 = .ok (.putfield 13, 3) := dk_181 0 13 (dk_at dksJ27_previous_1 0 rfl rfl)
theorem dJ27_previous_27 : decode cJ27_previous 27 = .ok (.putfield 27, 3) := dk_181 0 27 (dk_at dksJ27_previous_1 3 rfl rfl)
theorem dJ27_previous_30 : decode cJ27_previous 30 = .ok (.aload_n 2, 1) := dk_44 (dk_at dksJ27_previous_1 6 rfl rfl)
theorem dJ27_previous_31 : decode cJ27_previous 31 = .ok (.areturn, 1) := dk_176 (dk_at dksJ27_previous_1 7 rfl rfl)
theorem dJ27_previous_32 : decode cJ27_previous 32 = .ok (.astore_n 1, 1) := dk_76 (dk_at dksJ27_previous_1 8 rfl rfl)
theorem dJ27_previous_33 : decode cJ27_previous 33 = .ok (.aload_n 0, 1) := dk_42 (dk_at dksJ27_previous_1 9 rfl rfl)
theorem dJ27_previous_34 : decode cJ27_previous 34 = .ok (.invokevirtual 17, 3) := dk_182 0 17 (dk_at dksJ27_previous_1 10 rfl rfl)
theorem dJ27_previous_37 : decode cJ27_previous 37 = .ok (.new 32, 3) := dk_187 0 32 (dk_at dksJ27_previous_1 13 rfl rfl)
theorem dJ27_previous_40 : decode cJ27_previous 40 = .ok (.dup, 1) := dk_89 (dk_at dksJ27_previous_1 16 rfl rfl)
theorem dJ27_previous_41 : decode cJ27_previous 41 = .ok (.aload_n 1, 1) := dk_43 (dk_at dksJ27_previous_1 17 rfl rfl)
theorem dJ27_previous_42 : decode cJ27_previous 42 = .ok (.invokespecial 34, 3) := dk_183 0 34 (dk_at dksJ27_previous_1 18 rfl rfl)
theorem dJ27_previous_45 : decode cJ27_previous 45 = .ok (.athrow, 1) := dk_191 (dk_at dksJ27_previous_1 21 rfl rfl)
abbrev cJ27_add : ByteArray := prog_47_method_7_code
def yJ27_add : MethodName := ⟨RJ27, "add", "(Ljava/lang/Object;)V"⟩
def dkwJ27_add_2 : List UInt8 := [89, 183, 0, 53, 191, 177]
abbrev dktJ27_add_2 : List UInt8 := dkwJ27_add_2 ++ []
def dkwJ27_add_1 : List UInt8 := [28, 4, 96, 181, 0, 13, 42, 42, 180, 0, 1, 180, 0, 45, 181, 0, 48, 167, 0, 12, 77, 187, 0, 51]
abbrev dktJ27_add_1 : List UInt8 := dkwJ27_add_1 ++ dktJ27_add_2
def dkwJ27_add_0 : List UInt8 := [42, 182, 0, 17, 42, 180, 0, 13, 61, 42, 180, 0, 1, 28, 43, 182, 0, 54, 42, 2, 181, 0, 27, 42]
abbrev dktJ27_add_0 : List UInt8 := dkwJ27_add_0 ++ dktJ27_add_1
theorem dksJ27_add_0 : cJ27_add.data.toList.drop 0 = dktJ27_add_0 := by decide +kernel
theorem dksJ27_add_1 : cJ27_add.data.toList.drop 24 = dktJ27_add_1 := dk_seg dksJ27_add_0 24 rfl rfl
theorem dksJ27_add_2 : cJ27_add.data.toList.drop 48 = dktJ27_add_2 := dk_seg dksJ27_add_1 24 rfl rfl
theorem dJ27_add_0 : decode cJ27_add 0 = .ok (.aload_n 0, 1) := dk_42 (dk_at dksJ27_add_0 0 rfl rfl)
theorem dJ27_add_1 : decode cJ27_add 1 = .ok (.invokevirtual 17, 3) := dk_182 0 17 (dk_at dksJ27_add_0 1 rfl rfl)
theorem dJ27_add_4 : decode cJ27_add 4 = .ok (.aload_n 0, 1) := dk_42 (dk_at dksJ27_add_0 4 rfl rfl)
theorem dJ27_add_5 : decode cJ27_add 5 = .ok (.getfield 13, 3) := dk_180 0 13 (dk_at dksJ27_add_0 5 rfl rfl)
theorem dJ27_add_8 : decode cJ27_add 8 = .ok (.istore_n 2, 1) := dk_61 (dk_at dksJ27_add_0 8 rfl rfl)
theorem dJ27_add_9 : decode cJ27_add 9 = .ok (.aload_n 0, 1) := dk_42 (dk_at dksJ27_add_0 9 rfl rfl)
theorem dJ27_add_10 : decode cJ27_add 10 = .ok (.getfield 1, 3) := dk_180 0 1 (dk_at dksJ27_add_0 10 rfl rfl)
theorem dJ27_add_13 : decode cJ27_add 13 = .ok (.iload_n 2, 1) := dk_28 (dk_at dksJ27_add_0 13 rfl rfl)
theorem dJ27_add_14 : decode cJ27_add 14 = .ok (.aload_n 1, 1) := dk_43 (dk_at dksJ27_add_0 14 rfl rfl)
theorem dJ27_add_15 : decode cJ27_add 15 = .ok (.invokevirtual 54, 3) := dk_182 0 54 (dk_at dksJ27_add_0 15 rfl rfl)
theorem dJ27_add_18 : decode cJ27_add 18 = .ok (.aload_n 0, 1) := dk_42 (dk_at dksJ27_add_0 18 rfl rfl)
theorem dJ27_add_19 : decode cJ27_add 19 = .ok (.iconst (-1), 1) := dk_2 (dk_at dksJ27_add_0 19 rfl rfl)
theorem dJ27_add_20 : decode cJ27_add 20 = .ok (.putfield 27, 3) := dk_181 0 27 (dk_at dksJ27_add_0 20 rfl rfl)
theorem dJ27_add_23 : decode cJ27_add 23 = .ok (.aload_n 0, 1) := dk_42 (dk_at dksJ27_add_0 23 rfl rfl)
theorem dJ27_add_24 : decode cJ27_add 24 = .ok (.iload_n 2, 1) := dk_28 (dk_at dksJ27_add_1 0 rfl rfl)
theorem dJ27_add_25 : decode cJ27_add 25 = .ok (.iconst 1, 1) := dk_4 (dk_at dksJ27_add_1 1 rfl rfl)
theorem dJ27_add_26 : decode cJ27_add 26 = .ok (.iadd, 1) := dk_96 (dk_at dksJ27_add_1 2 rfl rfl)
theorem dJ27_add_27 : decode cJ27_add 27 = .ok (.putfield 13, 3) := dk_181 0 13 (dk_at dksJ27_add_1 3 rfl rfl)
theorem dJ27_add_30 : decode cJ27_add 30 = .ok (.aload_n 0, 1) := dk_42 (dk_at dksJ27_add_1 6 rfl rfl)
theorem dJ27_add_31 : decode cJ27_add 31 = .ok (.aload_n 0, 1) := dk_42 (dk_at dksJ27_add_1 7 rfl rfl)
theorem dJ27_add_32 : decode cJ27_add 32 = .ok (.getfield 1, 3) := dk_180 0 1 (dk_at dksJ27_add_1 8 rfl rfl)
theorem dJ27_add_35 : decode cJ27_add 35 = .ok (.getfield 45, 3) := dk_180 0 45 (dk_at dksJ27_add_1 11 rfl rfl)
theorem dJ27_add_38 : decode cJ27_add 38 = .ok (.putfield 48, 3) := dk_181 0 48 (dk_at dksJ27_add_1 14 rfl rfl)
theorem dJ27_add_41 : decode cJ27_add 41 = .ok (.goto 12, 3) := dk_167 0 12 (dk_at dksJ27_add_1 17 rfl rfl)
theorem dJ27_add_44 : decode cJ27_add 44 = .ok (.astore_n 2, 1) := dk_77 (dk_at dksJ27_add_1 20 rfl rfl)
theorem dJ27_add_45 : decode cJ27_add 45 = .ok (.new 51, 3) := dk_187 0 51 (dk_at dksJ27_add_1 21 rfl rfl)
theorem dJ27_add_48 : decode cJ27_add 48 = .ok (.dup, 1) := dk_89 (dk_at dksJ27_add_2 0 rfl rfl)
theorem dJ27_add_49 : decode cJ27_add 49 = .ok (.invokespecial 53, 3) := dk_183 0 53 (dk_at dksJ27_add_2 1 rfl rfl)
theorem dJ27_add_52 : decode cJ27_add 52 = .ok (.athrow, 1) := dk_191 (dk_at dksJ27_add_2 4 rfl rfl)
theorem dJ27_add_53 : decode cJ27_add 53 = .ok (.return_, 1) := dk_177 (dk_at dksJ27_add_2 5 rfl rfl)
abbrev cJ27_set : ByteArray := prog_47_method_6_code
def yJ27_set : MethodName := ⟨RJ27, "set", "(Ljava/lang/Object;)V"⟩
def dkwJ27_set_2 : List UInt8 := [187, 0, 51, 89, 183, 0, 53, 191, 177]
abbrev dktJ27_set_2 : List UInt8 := dkwJ27_set_2 ++ []
def dkwJ27_set_1 : List UInt8 := [180, 0, 27, 43, 182, 0, 41, 87, 42, 42, 180, 0, 1, 180, 0, 45, 181, 0, 48, 167, 0, 12, 77]
abbrev dktJ27_set_1 : List UInt8 := dkwJ27_set_1 ++ dktJ27_set_2
def dkwJ27_set_0 : List UInt8 := [42, 180, 0, 27, 156, 0, 11, 187, 0, 37, 89, 183, 0, 39, 191, 42, 182, 0, 17, 42, 180, 0, 1, 42]
abbrev dktJ27_set_0 : List UInt8 := dkwJ27_set_0 ++ dktJ27_set_1
theorem dksJ27_set_0 : cJ27_set.data.toList.drop 0 = dktJ27_set_0 := by decide +kernel
theorem dksJ27_set_1 : cJ27_set.data.toList.drop 24 = dktJ27_set_1 := dk_seg dksJ27_set_0 24 rfl rfl
theorem dksJ27_set_2 : cJ27_set.data.toList.drop 47 = dktJ27_set_2 := dk_seg dksJ27_set_1 23 rfl rfl
theorem dJ27_set_0 : decode cJ27_set 0 = .ok (.aload_n 0, 1) := dk_42 (dk_at dksJ27_set_0 0 rfl rfl)
theorem dJ27_set_1 : decode cJ27_set 1 = .ok (.getfield 27, 3) := dk_180 0 27 (dk_at dksJ27_set_0 1 rfl rfl)
theorem dJ27_set_4 : decode cJ27_set 4 = .ok (.ifCond .ge 11, 3) := dk_156 0 11 (dk_at dksJ27_set_0 4 rfl rfl)
theorem dJ27_set_7 : decode cJ27_set 7 = .ok (.new 37, 3) := dk_187 0 37 (dk_at dksJ27_set_0 7 rfl rfl)
theorem dJ27_set_10 : decode cJ27_set 10 = .ok (.dup, 1) := dk_89 (dk_at dksJ27_set_0 10 rfl rfl)
theorem dJ27_set_11 : decode cJ27_set 11 = .ok (.invokespecial 39, 3) := dk_183 0 39 (dk_at dksJ27_set_0 11 rfl rfl)
theorem dJ27_set_14 : decode cJ27_set 14 = .ok (.athrow, 1) := dk_191 (dk_at dksJ27_set_0 14 rfl rfl)
theorem dJ27_set_15 : decode cJ27_set 15 = .ok (.aload_n 0, 1) := dk_42 (dk_at dksJ27_set_0 15 rfl rfl)
theorem dJ27_set_16 : decode cJ27_set 16 = .ok (.invokevirtual 17, 3) := dk_182 0 17 (dk_at dksJ27_set_0 16 rfl rfl)
theorem dJ27_set_19 : decode cJ27_set 19 = .ok (.aload_n 0, 1) := dk_42 (dk_at dksJ27_set_0 19 rfl rfl)
theorem dJ27_set_20 : decode cJ27_set 20 = .ok (.getfield 1, 3) := dk_180 0 1 (dk_at dksJ27_set_0 20 rfl rfl)
theorem dJ27_set_23 : decode cJ27_set 23 = .ok (.aload_n 0, 1) := dk_42 (dk_at dksJ27_set_0 23 rfl rfl)
theorem dJ27_set_24 : decode cJ27_set 24 = .ok (.getfield 27, 3) := dk_180 0 27 (dk_at dksJ27_set_1 0 rfl rfl)
theorem dJ27_set_27 : decode cJ27_set 27 = .ok (.aload_n 1, 1) := dk_43 (dk_at dksJ27_set_1 3 rfl rfl)
theorem dJ27_set_28 : decode cJ27_set 28 = .ok (.invokevirtual 41, 3) := dk_182 0 41 (dk_at dksJ27_set_1 4 rfl rfl)
theorem dJ27_set_31 : decode cJ27_set 31 = .ok (.pop, 1) := dk_87 (dk_at dksJ27_set_1 7 rfl rfl)
theorem dJ27_set_32 : decode cJ27_set 32 = .ok (.aload_n 0, 1) := dk_42 (dk_at dksJ27_set_1 8 rfl rfl)
theorem dJ27_set_33 : decode cJ27_set 33 = .ok (.aload_n 0, 1) := dk_42 (dk_at dksJ27_set_1 9 rfl rfl)
theorem dJ27_set_34 : decode cJ27_set 34 = .ok (.getfield 1, 3) := dk_180 0 1 (dk_at dksJ27_set_1 10 rfl rfl)
theorem dJ27_set_37 : decode cJ27_set 37 = .ok (.getfield 45, 3) := dk_180 0 45 (dk_at dksJ27_set_1 13 rfl rfl)
theorem dJ27_set_40 : decode cJ27_set 40 = .ok (.putfield 48, 3) := dk_181 0 48 (dk_at dksJ27_set_1 16 rfl rfl)
theorem dJ27_set_43 : decode cJ27_set 43 = .ok (.goto 12, 3) := dk_167 0 12 (dk_at dksJ27_set_1 19 rfl rfl)
theorem dJ27_set_46 : decode cJ27_set 46 = .ok (.astore_n 2, 1) := dk_77 (dk_at dksJ27_set_1 22 rfl rfl)
theorem dJ27_set_47 : decode cJ27_set 47 = .ok (.new 51, 3) := dk_187 0 51 (dk_at dksJ27_set_2 0 rfl rfl)
theorem dJ27_set_50 : decode cJ27_set 50 = .ok (.dup, 1) := dk_89 (dk_at dksJ27_set_2 3 rfl rfl)
theorem dJ27_set_51 : decode cJ27_set 51 = .ok (.invokespecial 53, 3) := dk_183 0 53 (dk_at dksJ27_set_2 4 rfl rfl)
theorem dJ27_set_54 : decode cJ27_set 54 = .ok (.athrow, 1) := dk_191 (dk_at dksJ27_set_2 7 rfl rfl)
theorem dJ27_set_55 : decode cJ27_set 55 = .ok (.return_, 1) := dk_177 (dk_at dksJ27_set_2 8 rfl rfl)
theorem q89 : (Jvm.Cond.initialized "java/util/AbstractList$ListItr") ∈ lw_all := lw_g (lw_at lw_m1 41 rfl) rfl
theorem q583 : (Jvm.Cond.fieldLink "java/util/AbstractList$ListItr" (45 : Nat) "java/util/AbstractList" "modCount" "I") ∈ lw_all := lw_g (lw_at lw_m3 55 rfl) rfl
theorem q1216 : (Jvm.Cond.instantiable "java/util/AbstractList$ListItr" (5 : Nat)) ∈ lw_all := lw_g (lw_at lw_m5 208 rfl) rfl
theorem q1218 : (Jvm.Cond.instanceMethod ({ cls := "java/util/AbstractList$ListItr", name := "<init>", desc := "(Ljava/util/AbstractList;I)V" } : Jvm.MethodName)) ∈ lw_all := lw_g (lw_at lw_m5 210 rfl) rfl
theorem q1219 : (Jvm.Cond.code ({ cls := "java/util/AbstractList$ListItr", name := "<init>", desc := "(Ljava/util/AbstractList;I)V" } : Jvm.MethodName) prog_47_method_1_code (3 : Nat) (Option.none : Option Jvm.ClassFile.FieldType)) ∈ lw_all := lw_g (lw_at lw_m5 211 rfl) rfl
theorem q1220 : (Jvm.Cond.methodLinkNest "java/util/AbstractList$ListItr" (7 : Nat) ({ cls := "java/util/AbstractList$Itr", name := "<init>", desc := "(Ljava/util/AbstractList;)V" } : Jvm.MethodName) "java/util/AbstractList") ∈ lw_tbl := lw_at lw_m5 212 rfl
theorem q1224 : (Jvm.Cond.fieldLink "java/util/AbstractList$ListItr" (1 : Nat) "java/util/AbstractList$ListItr" "this$0" "Ljava/util/AbstractList;") ∈ lw_all := lw_g (lw_at lw_m5 216 rfl) rfl
theorem q1226 : (Jvm.Cond.fieldLink "java/util/AbstractList$ListItr" (13 : Nat) "java/util/AbstractList$ListItr" "cursor" "I") ∈ lw_all := lw_g (lw_at lw_m5 218 rfl) rfl
theorem q1227 : (Jvm.Cond.sameField "java/util/AbstractList$ListItr" "java/util/AbstractList$Itr" "cursor" "I") ∈ lw_all := lw_g (lw_at lw_m5 219 rfl) rfl
theorem q1229 : (Jvm.Cond.fieldLink "java/util/AbstractList$ListItr" (27 : Nat) "java/util/AbstractList$ListItr" "lastRet" "I") ∈ lw_all := lw_g (lw_at lw_m5 221 rfl) rfl
theorem q1230 : (Jvm.Cond.sameField "java/util/AbstractList$ListItr" "java/util/AbstractList$Itr" "lastRet" "I") ∈ lw_all := lw_g (lw_at lw_m5 222 rfl) rfl
theorem q1232 : (Jvm.Cond.fieldLink "java/util/AbstractList$ListItr" (48 : Nat) "java/util/AbstractList$ListItr" "expectedModCount" "I") ∈ lw_all := lw_g (lw_at lw_m5 224 rfl) rfl
theorem q1233 : (Jvm.Cond.sameField "java/util/AbstractList$ListItr" "java/util/AbstractList$Itr" "expectedModCount" "I") ∈ lw_all := lw_g (lw_at lw_m5 225 rfl) rfl
theorem q1235 : (Jvm.Cond.laysFinal "java/util/AbstractList$ListItr" "java/util/AbstractList$ListItr" "this$0" "Ljava/util/AbstractList;") ∈ lw_all := lw_g (lw_at lw_m5 227 rfl) rfl
theorem q1236 : (Jvm.Cond.soleField "java/util/AbstractList$ListItr" "this$0") ∈ lw_all := lw_g (lw_at lw_m5 228 rfl) rfl
theorem q1237 : (Jvm.Cond.lays "java/util/AbstractList$ListItr" "java/util/AbstractList$Itr" "cursor" "I") ∈ lw_all := lw_g (lw_at lw_m5 229 rfl) rfl
theorem q1239 : (Jvm.Cond.lays "java/util/AbstractList$ListItr" "java/util/AbstractList$Itr" "lastRet" "I") ∈ lw_all := lw_g (lw_at lw_m5 231 rfl) rfl
theorem q1241 : (Jvm.Cond.lays "java/util/AbstractList$ListItr" "java/util/AbstractList$Itr" "expectedModCount" "I") ∈ lw_all := lw_g (lw_at lw_m5 233 rfl) rfl
theorem q1243 : (Jvm.Cond.laysFinal "java/util/AbstractList$ListItr" "java/util/AbstractList$Itr" "this$0" "Ljava/util/AbstractList;") ∈ lw_all := lw_g (lw_at lw_m5 235 rfl) rfl
theorem q1245 : (Jvm.Cond.superclass "java/util/AbstractList$ListItr" "java/util/AbstractList$Itr") ∈ lw_all := lw_g (lw_at lw_m5 237 rfl) rfl
theorem q1269 : (Jvm.Cond.castable "java/util/AbstractList$ListItr" "java/util/ListIterator") ∈ lw_tbl := lw_at lw_m6 21 rfl
theorem q1270 : (Jvm.Cond.selects "java/util/AbstractList$ListItr" ({ cls := "java/util/ListIterator", name := "hasNext", desc := "()Z" } : Jvm.MethodName) ({ cls := "java/util/AbstractList$Itr", name := "hasNext", desc := "()Z" } : Jvm.MethodName)) ∈ lw_all := lw_g (lw_at lw_m6 22 rfl) rfl
theorem q1271 : (Jvm.Cond.unhidden "java/util/AbstractList$ListItr" "hasNext" "()Z") ∈ lw_tbl := lw_at lw_m6 23 rfl
theorem q1286 : (Jvm.Cond.selects "java/util/AbstractList$ListItr" ({ cls := "java/util/ListIterator", name := "hasPrevious", desc := "()Z" } : Jvm.MethodName) ({ cls := "java/util/AbstractList$ListItr", name := "hasPrevious", desc := "()Z" } : Jvm.MethodName)) ∈ lw_all := lw_g (lw_at lw_m6 38 rfl) rfl
theorem q1287 : (Jvm.Cond.unhidden "java/util/AbstractList$ListItr" "hasPrevious" "()Z") ∈ lw_tbl := lw_at lw_m6 39 rfl
theorem q1288 : (Jvm.Cond.instanceMethod ({ cls := "java/util/AbstractList$ListItr", name := "hasPrevious", desc := "()Z" } : Jvm.MethodName)) ∈ lw_all := lw_g (lw_at lw_m6 40 rfl) rfl
theorem q1289 : (Jvm.Cond.publicMethod ({ cls := "java/util/AbstractList$ListItr", name := "hasPrevious", desc := "()Z" } : Jvm.MethodName)) ∈ lw_tbl := lw_at lw_m6 41 rfl
theorem q1290 : (Jvm.Cond.code ({ cls := "java/util/AbstractList$ListItr", name := "hasPrevious", desc := "()Z" } : Jvm.MethodName) prog_47_method_2_code (1 : Nat) (Option.some Jvm.ClassFile.FieldType.boolean)) ∈ lw_all := lw_g (lw_at lw_m6 42 rfl) rfl
theorem q1315 : (Jvm.Cond.selects "java/util/AbstractList$ListItr" ({ cls := "java/util/ListIterator", name := "nextIndex", desc := "()I" } : Jvm.MethodName) ({ cls := "java/util/AbstractList$ListItr", name := "nextIndex", desc := "()I" } : Jvm.MethodName)) ∈ lw_all := lw_g (lw_at lw_m6 67 rfl) rfl
theorem q1316 : (Jvm.Cond.unhidden "java/util/AbstractList$ListItr" "nextIndex" "()I") ∈ lw_tbl := lw_at lw_m6 68 rfl
theorem q1317 : (Jvm.Cond.instanceMethod ({ cls := "java/util/AbstractList$ListItr", name := "nextIndex", desc := "()I" } : Jvm.MethodName)) ∈ lw_all := lw_g (lw_at lw_m6 69 rfl) rfl
theorem q1318 : (Jvm.Cond.publicMethod ({ cls := "java/util/AbstractList$ListItr", name := "nextIndex", desc := "()I" } : Jvm.MethodName)) ∈ lw_tbl := lw_at lw_m6 70 rfl
theorem q1319 : (Jvm.Cond.code ({ cls := "java/util/AbstractList$ListItr", name := "nextIndex", desc := "()I" } : Jvm.MethodName) prog_47_method_4_code (1 : Nat) (Option.some Jvm.ClassFile.FieldType.int)) ∈ lw_all := lw_g (lw_at lw_m6 71 rfl) rfl
theorem q1329 : (Jvm.Cond.selects "java/util/AbstractList$ListItr" ({ cls := "java/util/ListIterator", name := "previousIndex", desc := "()I" } : Jvm.MethodName) ({ cls := "java/util/AbstractList$ListItr", name := "previousIndex", desc := "()I" } : Jvm.MethodName)) ∈ lw_all := lw_g (lw_at lw_m6 81 rfl) rfl
theorem q1330 : (Jvm.Cond.unhidden "java/util/AbstractList$ListItr" "previousIndex" "()I") ∈ lw_tbl := lw_at lw_m6 82 rfl
theorem q1331 : (Jvm.Cond.instanceMethod ({ cls := "java/util/AbstractList$ListItr", name := "previousIndex", desc := "()I" } : Jvm.MethodName)) ∈ lw_all := lw_g (lw_at lw_m6 83 rfl) rfl
theorem q1332 : (Jvm.Cond.publicMethod ({ cls := "java/util/AbstractList$ListItr", name := "previousIndex", desc := "()I" } : Jvm.MethodName)) ∈ lw_tbl := lw_at lw_m6 84 rfl
theorem q1333 : (Jvm.Cond.code ({ cls := "java/util/AbstractList$ListItr", name := "previousIndex", desc := "()I" } : Jvm.MethodName) prog_47_method_5_code (1 : Nat) (Option.some Jvm.ClassFile.FieldType.int)) ∈ lw_all := lw_g (lw_at lw_m6 85 rfl) rfl
theorem q1380 : (Jvm.Cond.selects "java/util/AbstractList$ListItr" ({ cls := "java/util/ListIterator", name := "previous", desc := "()Ljava/lang/Object;" } : Jvm.MethodName) ({ cls := "java/util/AbstractList$ListItr", name := "previous", desc := "()Ljava/lang/Object;" } : Jvm.MethodName)) ∈ lw_all := lw_g (lw_at lw_m6 132 rfl) rfl
theorem q1381 : (Jvm.Cond.unhidden "java/util/AbstractList$ListItr" "previous" "()Ljava/lang/Object;") ∈ lw_tbl := lw_at lw_m6 133 rfl
theorem q1382 : (Jvm.Cond.instanceMethod ({ cls := "java/util/AbstractList$ListItr", name := "previous", desc := "()Ljava/lang/Object;" } : Jvm.MethodName)) ∈ lw_all := lw_g (lw_at lw_m6 134 rfl) rfl
theorem q1383 : (Jvm.Cond.publicMethod ({ cls := "java/util/AbstractList$ListItr", name := "previous", desc := "()Ljava/lang/Object;" } : Jvm.MethodName)) ∈ lw_tbl := lw_at lw_m6 135 rfl
theorem q1384 : (Jvm.Cond.codeWith ({ cls := "java/util/AbstractList$ListItr", name := "previous", desc := "()Ljava/lang/Object;" } : Jvm.MethodName) prog_47_method_3_code (3 : Nat) (Option.some (Jvm.ClassFile.FieldType.object "java/lang/Object")) [((4 : Nat), (31 : Nat), (32 : Nat), (30 : Nat))]) ∈ lw_all := lw_g (lw_at lw_m6 136 rfl) rfl
theorem q1385 : (Jvm.Cond.methodLink "java/util/AbstractList$ListItr" (17 : Nat) ({ cls := "java/util/AbstractList$ListItr", name := "checkForComodification", desc := "()V" } : Jvm.MethodName)) ∈ lw_all := lw_g (lw_at lw_m6 137 rfl) rfl
theorem q1386 : (Jvm.Cond.sameMethod "java/util/AbstractList$ListItr" "java/util/AbstractList$Itr" "checkForComodification" "()V") ∈ lw_all := lw_g (lw_at lw_m6 138 rfl) rfl
theorem q1388 : (Jvm.Cond.selects "java/util/AbstractList$ListItr" ({ cls := "java/util/AbstractList$ListItr", name := "checkForComodification", desc := "()V" } : Jvm.MethodName) ({ cls := "java/util/AbstractList$Itr", name := "checkForComodification", desc := "()V" } : Jvm.MethodName)) ∈ lw_all := lw_g (lw_at lw_m6 140 rfl) rfl
theorem q1391 : (Jvm.Cond.methodLink "java/util/AbstractList$ListItr" (21 : Nat) ({ cls := "java/util/AbstractList", name := "get", desc := "(I)Ljava/lang/Object;" } : Jvm.MethodName)) ∈ lw_all := lw_g (lw_at lw_m6 143 rfl) rfl
theorem q1396 : (Jvm.Cond.classLink "java/util/AbstractList$ListItr" (32 : Nat) "java/util/NoSuchElementException") ∈ lw_all := lw_g (lw_at lw_m6 148 rfl) rfl
theorem q1397 : (Jvm.Cond.methodLink "java/util/AbstractList$ListItr" (34 : Nat) ({ cls := "java/util/NoSuchElementException", name := "<init>", desc := "(Ljava/lang/Throwable;)V" } : Jvm.MethodName)) ∈ lw_all := lw_g (lw_at lw_m6 149 rfl) rfl
theorem q1440 : (Jvm.Cond.selects "java/util/AbstractList$ListItr" ({ cls := "java/lang/Object", name := "getClass", desc := "()Ljava/lang/Class;" } : Jvm.MethodName) ({ cls := "java/lang/Object", name := "getClass", desc := "()Ljava/lang/Class;" } : Jvm.MethodName)) ∈ lw_all := lw_g (lw_at lw_m6 192 rfl) rfl
theorem q1532 : (Jvm.Cond.selects "java/util/AbstractList$ListItr" ({ cls := "java/util/ListIterator", name := "next", desc := "()Ljava/lang/Object;" } : Jvm.MethodName) ({ cls := "java/util/AbstractList$Itr", name := "next", desc := "()Ljava/lang/Object;" } : Jvm.MethodName)) ∈ lw_all := lw_g (lw_at lw_m7 44 rfl) rfl
theorem q1533 : (Jvm.Cond.unhidden "java/util/AbstractList$ListItr" "next" "()Ljava/lang/Object;") ∈ lw_tbl := lw_at lw_m7 45 rfl
theorem q1613 : (Jvm.Cond.selects "java/util/AbstractList$ListItr" ({ cls := "java/util/ListIterator", name := "add", desc := "(Ljava/lang/Object;)V" } : Jvm.MethodName) ({ cls := "java/util/AbstractList$ListItr", name := "add", desc := "(Ljava/lang/Object;)V" } : Jvm.MethodName)) ∈ lw_all := lw_g (lw_at lw_m7 125 rfl) rfl
theorem q1614 : (Jvm.Cond.unhidden "java/util/AbstractList$ListItr" "add" "(Ljava/lang/Object;)V") ∈ lw_tbl := lw_at lw_m7 126 rfl
theorem q1615 : (Jvm.Cond.instanceMethod ({ cls := "java/util/AbstractList$ListItr", name := "add", desc := "(Ljava/lang/Object;)V" } : Jvm.MethodName)) ∈ lw_all := lw_g (lw_at lw_m7 127 rfl) rfl
theorem q1616 : (Jvm.Cond.publicMethod ({ cls := "java/util/AbstractList$ListItr", name := "add", desc := "(Ljava/lang/Object;)V" } : Jvm.MethodName)) ∈ lw_tbl := lw_at lw_m7 128 rfl
theorem q1617 : (Jvm.Cond.codeWith ({ cls := "java/util/AbstractList$ListItr", name := "add", desc := "(Ljava/lang/Object;)V" } : Jvm.MethodName) prog_47_method_7_code (3 : Nat) (Option.none : Option Jvm.ClassFile.FieldType) [((4 : Nat), (41 : Nat), (44 : Nat), (30 : Nat))]) ∈ lw_all := lw_g (lw_at lw_m7 129 rfl) rfl
theorem q1618 : (Jvm.Cond.methodLink "java/util/AbstractList$ListItr" (54 : Nat) ({ cls := "java/util/AbstractList", name := "add", desc := "(ILjava/lang/Object;)V" } : Jvm.MethodName)) ∈ lw_all := lw_g (lw_at lw_m7 130 rfl) rfl
theorem q1647 : (Jvm.Cond.classLink "java/util/AbstractList$ListItr" (51 : Nat) "java/util/ConcurrentModificationException") ∈ lw_all := lw_g (lw_at lw_m7 159 rfl) rfl
theorem q1656 : (Jvm.Cond.methodLink "java/util/AbstractList$ListItr" (53 : Nat) ({ cls := "java/util/ConcurrentModificationException", name := "<init>", desc := "()V" } : Jvm.MethodName)) ∈ lw_all := lw_g (lw_at lw_m7 168 rfl) rfl
theorem q1682 : (Jvm.Cond.selects "java/util/AbstractList$ListItr" ({ cls := "java/util/ListIterator", name := "set", desc := "(Ljava/lang/Object;)V" } : Jvm.MethodName) ({ cls := "java/util/AbstractList$ListItr", name := "set", desc := "(Ljava/lang/Object;)V" } : Jvm.MethodName)) ∈ lw_all := lw_g (lw_at lw_m7 194 rfl) rfl
theorem q1683 : (Jvm.Cond.unhidden "java/util/AbstractList$ListItr" "set" "(Ljava/lang/Object;)V") ∈ lw_tbl := lw_at lw_m7 195 rfl
theorem q1684 : (Jvm.Cond.instanceMethod ({ cls := "java/util/AbstractList$ListItr", name := "set", desc := "(Ljava/lang/Object;)V" } : Jvm.MethodName)) ∈ lw_all := lw_g (lw_at lw_m7 196 rfl) rfl
theorem q1685 : (Jvm.Cond.publicMethod ({ cls := "java/util/AbstractList$ListItr", name := "set", desc := "(Ljava/lang/Object;)V" } : Jvm.MethodName)) ∈ lw_tbl := lw_at lw_m7 197 rfl
theorem q1686 : (Jvm.Cond.codeWith ({ cls := "java/util/AbstractList$ListItr", name := "set", desc := "(Ljava/lang/Object;)V" } : Jvm.MethodName) prog_47_method_6_code (3 : Nat) (Option.none : Option Jvm.ClassFile.FieldType) [((19 : Nat), (43 : Nat), (46 : Nat), (30 : Nat))]) ∈ lw_all := lw_g (lw_at lw_m7 198 rfl) rfl
theorem q1687 : (Jvm.Cond.classLink "java/util/AbstractList$ListItr" (37 : Nat) "java/lang/IllegalStateException") ∈ lw_all := lw_g (lw_at lw_m7 199 rfl) rfl
theorem q1696 : (Jvm.Cond.methodLink "java/util/AbstractList$ListItr" (39 : Nat) ({ cls := "java/lang/IllegalStateException", name := "<init>", desc := "()V" } : Jvm.MethodName)) ∈ lw_all := lw_g (lw_at lw_m7 208 rfl) rfl
theorem q1702 : (Jvm.Cond.methodLink "java/util/AbstractList$ListItr" (41 : Nat) ({ cls := "java/util/AbstractList", name := "set", desc := "(ILjava/lang/Object;)Ljava/lang/Object;" } : Jvm.MethodName)) ∈ lw_all := lw_g (lw_at lw_m7 214 rfl) rfl
theorem q1732 : (Jvm.Cond.selects "java/util/AbstractList$ListItr" ({ cls := "java/util/ListIterator", name := "remove", desc := "()V" } : Jvm.MethodName) ({ cls := "java/util/AbstractList$Itr", name := "remove", desc := "()V" } : Jvm.MethodName)) ∈ lw_all := lw_g (lw_at lw_m8 4 rfl) rfl
theorem q1733 : (Jvm.Cond.unhidden "java/util/AbstractList$ListItr" "remove" "()V") ∈ lw_tbl := lw_at lw_m8 5 rfl
theorem q2188 : (Jvm.Cond.selects "java/util/AbstractList$ListItr" ({ cls := "java/util/AbstractList$Itr", name := "checkForComodification", desc := "()V" } : Jvm.MethodName) ({ cls := "java/util/AbstractList$Itr", name := "checkForComodification", desc := "()V" } : Jvm.MethodName)) ∈ lw_all := lw_g (lw_at lw_m9 220 rfl) rfl
theorem q2223 : (Jvm.Cond.castable "java/util/AbstractList$ListItr" "java/lang/Object") ∈ lw_tbl := lw_at lw_m10 15 rfl
theorem in_J27 : ∀ w ∈ wsJ270, w ∈ lw_all := lw_in wsJ270 [1237, 1239, 1241, 1243, 1235] (by decide +kernel) (by decide +kernel)
/-! java/util/NoSuchElementException -/
set_option maxRecDepth 100000
def RJ28 : String := "java/util/NoSuchElementException"
def TJ28 : u_T := fun k => match k with
  | 0 => ("java/lang/Throwable", "cause", "Ljava/lang/Throwable;", false)
  | 1 => ("java/lang/Throwable", "stackTrace", "[Ljava/lang/StackTraceElement;", false)
  | 2 => ("java/lang/Throwable", "suppressedExceptions", "Ljava/util/List;", false)
  | 3 => ("java/lang/Throwable", "detailMessage", "Ljava/lang/String;", false)
  | 4 => ("java/lang/Throwable", "backtrace", "Ljava/lang/Object;", false)
  | _ => ("java/lang/Throwable", "depth", "I", false)
def tyJ28 : Nat → FieldType := fun k => match k with
  | 0 => .object "java/lang/Throwable"
  | 1 => .array (.object "java/lang/StackTraceElement")
  | 2 => .object "java/util/List"
  | 3 => .object "java/lang/String"
  | 4 => .object "java/lang/Object"
  | _ => .int
abbrev wsJ280 : List Cond := u_ws RJ28 TJ28 6
theorem nmJ28 : ∀ a, a < 6 → ∀ b, b < 6 → a ≠ b → (TJ28 a).2.1 ≠ (TJ28 b).2.1 := by decide +kernel
theorem tyJ28_ok : ∀ k, k < 6 → parseFieldDescriptor (TJ28 k).2.2.1 = some (tyJ28 k) := by decide +kernel
abbrev cJ28_init : ByteArray := prog_58_method_1_code
def yJ28_init : MethodName := ⟨RJ28, "<init>", "()V"⟩
theorem dJ28_init_0 : decode cJ28_init 0 = .ok (.aload_n 0, 1) := by decide +kernel
theorem dJ28_init_1 : decode cJ28_init 1 = .ok (.invokespecial 1, 3) := by decide +kernel
theorem dJ28_init_4 : decode cJ28_init 4 = .ok (.return_, 1) := by decide +kernel
abbrev cJ28_init_2 : ByteArray := prog_58_method_3_code
def yJ28_init_2 : MethodName := ⟨RJ28, "<init>", "(Ljava/lang/Throwable;)V"⟩
def dkwJ28_init_2_0 : List UInt8 := [42, 43, 183, 0, 10, 177]
abbrev dktJ28_init_2_0 : List UInt8 := dkwJ28_init_2_0 ++ []
theorem dksJ28_init_2_0 : cJ28_init_2.data.toList.drop 0 = dktJ28_init_2_0 := by decide +kernel
theorem dJ28_init_2_0 : decode cJ28_init_2 0 = .ok (.aload_n 0, 1) := dk_42 (dk_at dksJ28_init_2_0 0 rfl rfl)
theorem dJ28_init_2_1 : decode cJ28_init_2 1 = .ok (.aload_n 1, 1) := dk_43 (dk_at dksJ28_init_2_0 1 rfl rfl)
theorem dJ28_init_2_2 : decode cJ28_init_2 2 = .ok (.invokespecial 10, 3) := dk_183 0 10 (dk_at dksJ28_init_2_0 2 rfl rfl)
theorem dJ28_init_2_5 : decode cJ28_init_2 5 = .ok (.return_, 1) := dk_177 (dk_at dksJ28_init_2_0 5 rfl rfl)
theorem q90 : (Jvm.Cond.initialized "java/util/NoSuchElementException") ∈ lw_all := lw_g (lw_at lw_m1 42 rfl) rfl
theorem q548 : (Jvm.Cond.selects "java/util/NoSuchElementException" ({ cls := "java/lang/Throwable", name := "fillInStackTrace", desc := "()Ljava/lang/Throwable;" } : Jvm.MethodName) ({ cls := "java/lang/Throwable", name := "fillInStackTrace", desc := "()Ljava/lang/Throwable;" } : Jvm.MethodName)) ∈ lw_all := lw_g (lw_at lw_m3 20 rfl) rfl
theorem q1297 : (Jvm.Cond.instantiable "java/util/NoSuchElementException" (6 : Nat)) ∈ lw_all := lw_g (lw_at lw_m6 49 rfl) rfl
theorem q1298 : (Jvm.Cond.castable "java/util/NoSuchElementException" "java/util/NoSuchElementException") ∈ lw_tbl := lw_at lw_m6 50 rfl
theorem q1299 : (Jvm.Cond.selects "java/util/NoSuchElementException" ({ cls := "java/lang/Throwable", name := "fillInStackTrace", desc := "(I)Ljava/lang/Throwable;" } : Jvm.MethodName) ({ cls := "java/lang/Throwable", name := "fillInStackTrace", desc := "(I)Ljava/lang/Throwable;" } : Jvm.MethodName)) ∈ lw_all := lw_g (lw_at lw_m6 51 rfl) rfl
theorem q1300 : (Jvm.Cond.lays "java/util/NoSuchElementException" "java/lang/Throwable" "cause" "Ljava/lang/Throwable;") ∈ lw_all := lw_g (lw_at lw_m6 52 rfl) rfl
theorem q1301 : (Jvm.Cond.lays "java/util/NoSuchElementException" "java/lang/Throwable" "stackTrace" "[Ljava/lang/StackTraceElement;") ∈ lw_all := lw_g (lw_at lw_m6 53 rfl) rfl
theorem q1302 : (Jvm.Cond.lays "java/util/NoSuchElementException" "java/lang/Throwable" "suppressedExceptions" "Ljava/util/List;") ∈ lw_all := lw_g (lw_at lw_m6 54 rfl) rfl
theorem q1303 : (Jvm.Cond.lays "java/util/NoSuchElementException" "java/lang/Throwable" "detailMessage" "Ljava/lang/String;") ∈ lw_all := lw_g (lw_at lw_m6 55 rfl) rfl
theorem q1304 : (Jvm.Cond.lays "java/util/NoSuchElementException" "java/lang/Throwable" "backtrace" "Ljava/lang/Object;") ∈ lw_all := lw_g (lw_at lw_m6 56 rfl) rfl
theorem q1306 : (Jvm.Cond.instanceMethod ({ cls := "java/util/NoSuchElementException", name := "<init>", desc := "()V" } : Jvm.MethodName)) ∈ lw_all := lw_g (lw_at lw_m6 58 rfl) rfl
theorem q1307 : (Jvm.Cond.code ({ cls := "java/util/NoSuchElementException", name := "<init>", desc := "()V" } : Jvm.MethodName) prog_58_method_1_code (1 : Nat) (Option.none : Option Jvm.ClassFile.FieldType)) ∈ lw_all := lw_g (lw_at lw_m6 59 rfl) rfl
theorem q1308 : (Jvm.Cond.methodLink "java/util/NoSuchElementException" (1 : Nat) ({ cls := "java/lang/RuntimeException", name := "<init>", desc := "()V" } : Jvm.MethodName)) ∈ lw_all := lw_g (lw_at lw_m6 60 rfl) rfl
theorem q1309 : (Jvm.Cond.lays "java/util/NoSuchElementException" "java/lang/Throwable" "depth" "I") ∈ lw_all := lw_g (lw_at lw_m6 61 rfl) rfl
theorem q1310 : (Jvm.Cond.superclass "java/util/NoSuchElementException" "java/lang/RuntimeException") ∈ lw_all := lw_g (lw_at lw_m6 62 rfl) rfl
theorem q1398 : (Jvm.Cond.instanceMethod ({ cls := "java/util/NoSuchElementException", name := "<init>", desc := "(Ljava/lang/Throwable;)V" } : Jvm.MethodName)) ∈ lw_all := lw_g (lw_at lw_m6 150 rfl) rfl
theorem q1399 : (Jvm.Cond.code ({ cls := "java/util/NoSuchElementException", name := "<init>", desc := "(Ljava/lang/Throwable;)V" } : Jvm.MethodName) prog_58_method_3_code (2 : Nat) (Option.none : Option Jvm.ClassFile.FieldType)) ∈ lw_all := lw_g (lw_at lw_m6 151 rfl) rfl
theorem q1400 : (Jvm.Cond.methodLink "java/util/NoSuchElementException" (10 : Nat) ({ cls := "java/lang/RuntimeException", name := "<init>", desc := "(Ljava/lang/Throwable;)V" } : Jvm.MethodName)) ∈ lw_all := lw_g (lw_at lw_m6 152 rfl) rfl
theorem q1417 : (Jvm.Cond.selects "java/util/NoSuchElementException" ({ cls := "java/lang/Throwable", name := "toString", desc := "()Ljava/lang/String;" } : Jvm.MethodName) ({ cls := "java/lang/Throwable", name := "toString", desc := "()Ljava/lang/String;" } : Jvm.MethodName)) ∈ lw_all := lw_g (lw_at lw_m6 169 rfl) rfl
theorem q1445 : (Jvm.Cond.selects "java/util/NoSuchElementException" ({ cls := "java/lang/Object", name := "getClass", desc := "()Ljava/lang/Class;" } : Jvm.MethodName) ({ cls := "java/lang/Object", name := "getClass", desc := "()Ljava/lang/Class;" } : Jvm.MethodName)) ∈ lw_all := lw_g (lw_at lw_m6 197 rfl) rfl
theorem q1455 : (Jvm.Cond.selects "java/util/NoSuchElementException" ({ cls := "java/lang/Throwable", name := "getLocalizedMessage", desc := "()Ljava/lang/String;" } : Jvm.MethodName) ({ cls := "java/lang/Throwable", name := "getLocalizedMessage", desc := "()Ljava/lang/String;" } : Jvm.MethodName)) ∈ lw_all := lw_g (lw_at lw_m6 207 rfl) rfl
theorem q1471 : (Jvm.Cond.selects "java/util/NoSuchElementException" ({ cls := "java/lang/Throwable", name := "getMessage", desc := "()Ljava/lang/String;" } : Jvm.MethodName) ({ cls := "java/lang/Throwable", name := "getMessage", desc := "()Ljava/lang/String;" } : Jvm.MethodName)) ∈ lw_all := lw_g (lw_at lw_m6 223 rfl) rfl
theorem q2224 : (Jvm.Cond.castable "java/util/NoSuchElementException" "java/lang/Object") ∈ lw_tbl := lw_at lw_m10 16 rfl
theorem in_J28 : ∀ w ∈ wsJ280, w ∈ lw_all := lw_in wsJ280 [1300, 1301, 1302, 1303, 1304, 1309] (by decide +kernel) (by decide +kernel)
/-! java/lang/Byte -/
set_option maxRecDepth 100000
def RJ29 : String := "java/lang/Byte"
abbrev cJ29_byteValue : ByteArray := prog_18_method_11_code
def yJ29_byteValue : MethodName := ⟨RJ29, "byteValue", "()B"⟩
theorem dJ29_byteValue_0 : decode cJ29_byteValue 0 = .ok (.aload_n 0, 1) := by decide +kernel
theorem dJ29_byteValue_1 : decode cJ29_byteValue 1 = .ok (.getfield 100, 3) := by decide +kernel
theorem dJ29_byteValue_4 : decode cJ29_byteValue 4 = .ok (.ireturn, 1) := by decide +kernel
abbrev cJ29_valueOf : ByteArray := prog_18_method_3_code
def yJ29_valueOf : MethodName := ⟨RJ29, "valueOf", "(B)Ljava/lang/Byte;"⟩
def dkwJ29_valueOf_0 : List UInt8 := [17, 0, 128, 60, 178, 0, 43, 26, 17, 0, 128, 96, 50, 176]
abbrev dktJ29_valueOf_0 : List UInt8 := dkwJ29_valueOf_0 ++ []
theorem dksJ29_valueOf_0 : cJ29_valueOf.data.toList.drop 0 = dktJ29_valueOf_0 := by decide +kernel
theorem dJ29_valueOf_0 : decode cJ29_valueOf 0 = .ok (.sipush 128, 3) := dk_17 0 128 (dk_at dksJ29_valueOf_0 0 rfl rfl)
theorem dJ29_valueOf_3 : decode cJ29_valueOf 3 = .ok (.istore_n 1, 1) := dk_60 (dk_at dksJ29_valueOf_0 3 rfl rfl)
theorem dJ29_valueOf_4 : decode cJ29_valueOf 4 = .ok (.getstatic 43, 3) := dk_178 0 43 (dk_at dksJ29_valueOf_0 4 rfl rfl)
theorem dJ29_valueOf_7 : decode cJ29_valueOf 7 = .ok (.iload_n 0, 1) := dk_26 (dk_at dksJ29_valueOf_0 7 rfl rfl)
theorem dJ29_valueOf_8 : decode cJ29_valueOf 8 = .ok (.sipush 128, 3) := dk_17 0 128 (dk_at dksJ29_valueOf_0 8 rfl rfl)
theorem dJ29_valueOf_11 : decode cJ29_valueOf 11 = .ok (.iadd, 1) := dk_96 (dk_at dksJ29_valueOf_0 11 rfl rfl)
theorem dJ29_valueOf_12 : decode cJ29_valueOf 12 = .ok (.aaload, 1) := dk_50 (dk_at dksJ29_valueOf_0 12 rfl rfl)
theorem dJ29_valueOf_13 : decode cJ29_valueOf 13 = .ok (.areturn, 1) := dk_176 (dk_at dksJ29_valueOf_0 13 rfl rfl)
theorem q92 : (Jvm.Cond.initialized "java/lang/Byte") ∈ lw_all := lw_g (lw_at lw_m1 44 rfl) rfl
theorem q1369 : (Jvm.Cond.instanceMethod ({ cls := "java/lang/Byte", name := "byteValue", desc := "()B" } : Jvm.MethodName)) ∈ lw_all := lw_g (lw_at lw_m6 121 rfl) rfl
theorem q1370 : (Jvm.Cond.selects "java/lang/Byte" ({ cls := "java/lang/Byte", name := "byteValue", desc := "()B" } : Jvm.MethodName) ({ cls := "java/lang/Byte", name := "byteValue", desc := "()B" } : Jvm.MethodName)) ∈ lw_all := lw_g (lw_at lw_m6 122 rfl) rfl
theorem q1371 : (Jvm.Cond.code ({ cls := "java/lang/Byte", name := "byteValue", desc := "()B" } : Jvm.MethodName) prog_18_method_11_code (1 : Nat) (Option.some Jvm.ClassFile.FieldType.byte)) ∈ lw_all := lw_g (lw_at lw_m6 123 rfl) rfl
theorem q1587 : (Jvm.Cond.static ({ cls := "java/lang/Byte", name := "valueOf", desc := "(B)Ljava/lang/Byte;" } : Jvm.MethodName)) ∈ lw_all := lw_g (lw_at lw_m7 99 rfl) rfl
theorem q1588 : (Jvm.Cond.code ({ cls := "java/lang/Byte", name := "valueOf", desc := "(B)Ljava/lang/Byte;" } : Jvm.MethodName) prog_18_method_3_code (2 : Nat) (Option.some (Jvm.ClassFile.FieldType.object "java/lang/Byte"))) ∈ lw_all := lw_g (lw_at lw_m7 100 rfl) rfl
theorem q1589 : (Jvm.Cond.fieldLink "java/lang/Byte" (43 : Nat) "java/lang/Byte$ByteCache" "cache" "[Ljava/lang/Byte;") ∈ lw_all := lw_g (lw_at lw_m7 101 rfl) rfl
theorem q2229 : (Jvm.Cond.castable "java/lang/Byte" "java/lang/Object") ∈ lw_tbl := lw_at lw_m10 21 rfl
theorem q2242 : (Jvm.Cond.fieldLink "java/lang/Byte" (100 : Nat) "java/lang/Byte" "value" "B") ∈ lw_all := lw_g (lw_at lw_m10 34 rfl) rfl
/-! java/lang/String -/
set_option maxRecDepth 100000
def RJ3 : String := "java/lang/String"
def TJ3 : u_T := fun k => match k with
  | 0 => ("java/lang/String", "value", "[B", true)
  | 1 => ("java/lang/String", "coder", "B", true)
  | 2 => ("java/lang/String", "hash", "I", false)
  | _ => ("java/lang/String", "hashIsZero", "Z", false)
def tyJ3 : Nat → FieldType := fun k => match k with
  | 0 => .array .byte
  | 1 => .byte
  | 2 => .int
  | _ => .boolean
abbrev wsJ30 : List Cond := u_ws RJ3 TJ3 4
theorem nmJ3 : ∀ a, a < 4 → ∀ b, b < 4 → a ≠ b → (TJ3 a).2.1 ≠ (TJ3 b).2.1 := by decide +kernel
theorem tyJ3_ok : ∀ k, k < 4 → parseFieldDescriptor (TJ3 k).2.2.1 = some (tyJ3 k) := by decide +kernel
abbrev cJ3_checkBoundsOffCount : ByteArray := prog_36_method_157_code
def yJ3_checkBoundsOffCount : MethodName := ⟨RJ3, "checkBoundsOffCount", "(III)I"⟩
def dkwJ3_checkBoundsOffCount_0 : List UInt8 := [26, 27, 28, 178, 4, 29, 184, 4, 41, 172]
abbrev dktJ3_checkBoundsOffCount_0 : List UInt8 := dkwJ3_checkBoundsOffCount_0 ++ []
theorem dksJ3_checkBoundsOffCount_0 : cJ3_checkBoundsOffCount.data.toList.drop 0 = dktJ3_checkBoundsOffCount_0 := by decide +kernel
theorem dJ3_checkBoundsOffCount_0 : decode cJ3_checkBoundsOffCount 0 = .ok (.iload_n 0, 1) := dk_26 (dk_at dksJ3_checkBoundsOffCount_0 0 rfl rfl)
theorem dJ3_checkBoundsOffCount_1 : decode cJ3_checkBoundsOffCount 1 = .ok (.iload_n 1, 1) := dk_27 (dk_at dksJ3_checkBoundsOffCount_0 1 rfl rfl)
theorem dJ3_checkBoundsOffCount_2 : decode cJ3_checkBoundsOffCount 2 = .ok (.iload_n 2, 1) := dk_28 (dk_at dksJ3_checkBoundsOffCount_0 2 rfl rfl)
theorem dJ3_checkBoundsOffCount_3 : decode cJ3_checkBoundsOffCount 3 = .ok (.getstatic 1053, 3) := dk_178 4 29 (dk_at dksJ3_checkBoundsOffCount_0 3 rfl rfl)
theorem dJ3_checkBoundsOffCount_6 : decode cJ3_checkBoundsOffCount 6 = .ok (.invokestatic 1065, 3) := dk_184 4 41 (dk_at dksJ3_checkBoundsOffCount_0 6 rfl rfl)
theorem dJ3_checkBoundsOffCount_9 : decode cJ3_checkBoundsOffCount 9 = .ok (.ireturn, 1) := dk_172 (dk_at dksJ3_checkBoundsOffCount_0 9 rfl rfl)
abbrev cJ3_checkIndex : ByteArray := prog_36_method_155_code
def yJ3_checkIndex : MethodName := ⟨RJ3, "checkIndex", "(II)V"⟩
def dkwJ3_checkIndex_0 : List UInt8 := [26, 27, 178, 4, 29, 184, 4, 35, 87, 177]
abbrev dktJ3_checkIndex_0 : List UInt8 := dkwJ3_checkIndex_0 ++ []
theorem dksJ3_checkIndex_0 : cJ3_checkIndex.data.toList.drop 0 = dktJ3_checkIndex_0 := by decide +kernel
theorem dJ3_checkIndex_0 : decode cJ3_checkIndex 0 = .ok (.iload_n 0, 1) := dk_26 (dk_at dksJ3_checkIndex_0 0 rfl rfl)
theorem dJ3_checkIndex_1 : decode cJ3_checkIndex 1 = .ok (.iload_n 1, 1) := dk_27 (dk_at dksJ3_checkIndex_0 1 rfl rfl)
theorem dJ3_checkIndex_2 : decode cJ3_checkIndex 2 = .ok (.getstatic 1053, 3) := dk_178 4 29 (dk_at dksJ3_checkIndex_0 2 rfl rfl)
theorem dJ3_checkIndex_5 : decode cJ3_checkIndex 5 = .ok (.invokestatic 1059, 3) := dk_184 4 35 (dk_at dksJ3_checkIndex_0 5 rfl rfl)
theorem dJ3_checkIndex_8 : decode cJ3_checkIndex 8 = .ok (.pop, 1) := dk_87 (dk_at dksJ3_checkIndex_0 8 rfl rfl)
theorem dJ3_checkIndex_9 : decode cJ3_checkIndex 9 = .ok (.return_, 1) := dk_177 (dk_at dksJ3_checkIndex_0 9 rfl rfl)
abbrev cJ3_init : ByteArray := prog_36_method_53_code
def yJ3_init : MethodName := ⟨RJ3, "<init>", "(Ljava/lang/StringBuilder;)V"⟩
def dkwJ3_init_0 : List UInt8 := [42, 43, 1, 183, 1, 233, 177]
abbrev dktJ3_init_0 : List UInt8 := dkwJ3_init_0 ++ []
theorem dksJ3_init_0 : cJ3_init.data.toList.drop 0 = dktJ3_init_0 := by decide +kernel
theorem dJ3_init_0 : decode cJ3_init 0 = .ok (.aload_n 0, 1) := dk_42 (dk_at dksJ3_init_0 0 rfl rfl)
theorem dJ3_init_1 : decode cJ3_init 1 = .ok (.aload_n 1, 1) := dk_43 (dk_at dksJ3_init_0 1 rfl rfl)
theorem dJ3_init_2 : decode cJ3_init 2 = .ok (.aconst_null, 1) := dk_1 (dk_at dksJ3_init_0 2 rfl rfl)
theorem dJ3_init_3 : decode cJ3_init 3 = .ok (.invokespecial 489, 3) := dk_183 1 233 (dk_at dksJ3_init_0 3 rfl rfl)
theorem dJ3_init_6 : decode cJ3_init 6 = .ok (.return_, 1) := dk_177 (dk_at dksJ3_init_0 6 rfl rfl)
abbrev cJ3_init_2 : ByteArray := prog_36_method_150_code
def yJ3_init_2 : MethodName := ⟨RJ3, "<init>", "(Ljava/lang/AbstractStringBuilder;Ljava/lang/Void;)V"⟩
def dkwJ3_init_2_4 : List UInt8 := [181, 0, 9, 177]
abbrev dktJ3_init_2_4 : List UInt8 := dkwJ3_init_2_4 ++ []
def dkwJ3_init_2_3 : List UInt8 := [184, 0, 47, 181, 0, 15, 177, 42, 4, 181, 0, 15, 42, 45, 3, 21, 4, 4, 120, 184, 0, 54]
abbrev dktJ3_init_2_3 : List UInt8 := dkwJ3_init_2_3 ++ dktJ3_init_2_4
def dkwJ3_init_2_2 : List UInt8 := [180, 4, 24, 153, 0, 28, 42, 45, 3, 21, 4, 184, 4, 27, 181, 0, 9, 42, 42, 180, 0, 9, 21, 4]
abbrev dktJ3_init_2_2 : List UInt8 := dkwJ3_init_2_2 ++ dktJ3_init_2_3
def dkwJ3_init_2_1 : List UInt8 := [181, 0, 15, 42, 45, 3, 21, 4, 184, 0, 54, 181, 0, 9, 167, 0, 59, 178, 0, 38, 153, 0, 35, 43]
abbrev dktJ3_init_2_1 : List UInt8 := dkwJ3_init_2_1 ++ dktJ3_init_2_2
def dkwJ3_init_2_0 : List UInt8 := [42, 183, 0, 1, 43, 182, 2, 40, 78, 43, 182, 2, 37, 54, 4, 43, 182, 4, 23, 153, 0, 22, 42, 3]
abbrev dktJ3_init_2_0 : List UInt8 := dkwJ3_init_2_0 ++ dktJ3_init_2_1
theorem dksJ3_init_2_0 : cJ3_init_2.data.toList.drop 0 = dktJ3_init_2_0 := by decide +kernel
theorem dksJ3_init_2_1 : cJ3_init_2.data.toList.drop 24 = dktJ3_init_2_1 := dk_seg dksJ3_init_2_0 24 rfl rfl
theorem dksJ3_init_2_2 : cJ3_init_2.data.toList.drop 48 = dktJ3_init_2_2 := dk_seg dksJ3_init_2_1 24 rfl rfl
theorem dksJ3_init_2_3 : cJ3_init_2.data.toList.drop 72 = dktJ3_init_2_3 := dk_seg dksJ3_init_2_2 24 rfl rfl
theorem dksJ3_init_2_4 : cJ3_init_2.data.toList.drop 94 = dktJ3_init_2_4 := dk_seg dksJ3_init_2_3 22 rfl rfl
theorem dJ3_init_2_0 : decode cJ3_init_2 0 = .ok (.aload_n 0, 1) := dk_42 (dk_at dksJ3_init_2_0 0 rfl rfl)
theorem dJ3_init_2_1 : decode cJ3_init_2 1 = .ok (.invokespecial 1, 3) := dk_183 0 1 (dk_at dksJ3_init_2_0 1 rfl rfl)
theorem dJ3_init_2_4 : decode cJ3_init_2 4 = .ok (.aload_n 1, 1) := dk_43 (dk_at dksJ3_init_2_0 4 rfl rfl)
theorem dJ3_init_2_5 : decode cJ3_init_2 5 = .ok (.invokevirtual 552, 3) := dk_182 2 40 (dk_at dksJ3_init_2_0 5 rfl rfl)
theorem dJ3_init_2_8 : decode cJ3_init_2 8 = .ok (.astore_n 3, 1) := dk_78 (dk_at dksJ3_init_2_0 8 rfl rfl)
theorem dJ3_init_2_9 : decode cJ3_init_2 9 = .ok (.aload_n 1, 1) := dk_43 (dk_at dksJ3_init_2_0 9 rfl rfl)
theorem dJ3_init_2_10 : decode cJ3_init_2 10 = .ok (.invokevirtual 549, 3) := dk_182 2 37 (dk_at dksJ3_init_2_0 10 rfl rfl)
theorem dJ3_init_2_13 : decode cJ3_init_2 13 = .ok (.istore 4, 2) := dk_54 4 (dk_at dksJ3_init_2_0 13 rfl rfl)
theorem dJ3_init_2_15 : decode cJ3_init_2 15 = .ok (.aload_n 1, 1) := dk_43 (dk_at dksJ3_init_2_0 15 rfl rfl)
theorem dJ3_init_2_16 : decode cJ3_init_2 16 = .ok (.invokevirtual 1047, 3) := dk_182 4 23 (dk_at dksJ3_init_2_0 16 rfl rfl)
theorem dJ3_init_2_19 : decode cJ3_init_2 19 = .ok (.ifCond .eq 22, 3) := dk_153 0 22 (dk_at dksJ3_init_2_0 19 rfl rfl)
theorem dJ3_init_2_22 : decode cJ3_init_2 22 = .ok (.aload_n 0, 1) := dk_42 (dk_at dksJ3_init_2_0 22 rfl rfl)
theorem dJ3_init_2_23 : decode cJ3_init_2 23 = .ok (.iconst 0, 1) := dk_3 (dk_at dksJ3_init_2_0 23 rfl rfl)
theorem dJ3_init_2_24 : decode cJ3_init_2 24 = .ok (.putfield 15, 3) := dk_181 0 15 (dk_at dksJ3_init_2_1 0 rfl rfl)
theorem dJ3_init_2_27 : decode cJ3_init_2 27 = .ok (.aload_n 0, 1) := dk_42 (dk_at dksJ3_init_2_1 3 rfl rfl)
theorem dJ3_init_2_28 : decode cJ3_init_2 28 = .ok (.aload_n 3, 1) := dk_45 (dk_at dksJ3_init_2_1 4 rfl rfl)
theorem dJ3_init_2_29 : decode cJ3_init_2 29 = .ok (.iconst 0, 1) := dk_3 (dk_at dksJ3_init_2_1 5 rfl rfl)
theorem dJ3_init_2_30 : decode cJ3_init_2 30 = .ok (.iload 4, 2) := dk_21 4 (dk_at dksJ3_init_2_1 6 rfl rfl)
theorem dJ3_init_2_32 : decode cJ3_init_2 32 = .ok (.invokestatic 54, 3) := dk_184 0 54 (dk_at dksJ3_init_2_1 8 rfl rfl)
theorem dJ3_init_2_35 : decode cJ3_init_2 35 = .ok (.putfield 9, 3) := dk_181 0 9 (dk_at dksJ3_init_2_1 11 rfl rfl)
theorem dJ3_init_2_38 : decode cJ3_init_2 38 = .ok (.goto 59, 3) := dk_167 0 59 (dk_at dksJ3_init_2_1 14 rfl rfl)
theorem dJ3_init_2_41 : decode cJ3_init_2 41 = .ok (.getstatic 38, 3) := dk_178 0 38 (dk_at dksJ3_init_2_1 17 rfl rfl)
theorem dJ3_init_2_44 : decode cJ3_init_2 44 = .ok (.ifCond .eq 35, 3) := dk_153 0 35 (dk_at dksJ3_init_2_1 20 rfl rfl)
theorem dJ3_init_2_47 : decode cJ3_init_2 47 = .ok (.aload_n 1, 1) := dk_43 (dk_at dksJ3_init_2_1 23 rfl rfl)
theorem dJ3_init_2_48 : decode cJ3_init_2 48 = .ok (.getfield 1048, 3) := dk_180 4 24 (dk_at dksJ3_init_2_2 0 rfl rfl)
theorem dJ3_init_2_51 : decode cJ3_init_2 51 = .ok (.ifCond .eq 28, 3) := dk_153 0 28 (dk_at dksJ3_init_2_2 3 rfl rfl)
theorem dJ3_init_2_54 : decode cJ3_init_2 54 = .ok (.aload_n 0, 1) := dk_42 (dk_at dksJ3_init_2_2 6 rfl rfl)
theorem dJ3_init_2_55 : decode cJ3_init_2 55 = .ok (.aload_n 3, 1) := dk_45 (dk_at dksJ3_init_2_2 7 rfl rfl)
theorem dJ3_init_2_56 : decode cJ3_init_2 56 = .ok (.iconst 0, 1) := dk_3 (dk_at dksJ3_init_2_2 8 rfl rfl)
theorem dJ3_init_2_57 : decode cJ3_init_2 57 = .ok (.iload 4, 2) := dk_21 4 (dk_at dksJ3_init_2_2 9 rfl rfl)
theorem dJ3_init_2_59 : decode cJ3_init_2 59 = .ok (.invokestatic 1051, 3) := dk_184 4 27 (dk_at dksJ3_init_2_2 11 rfl rfl)
theorem dJ3_init_2_62 : decode cJ3_init_2 62 = .ok (.putfield 9, 3) := dk_181 0 9 (dk_at dksJ3_init_2_2 14 rfl rfl)
theorem dJ3_init_2_65 : decode cJ3_init_2 65 = .ok (.aload_n 0, 1) := dk_42 (dk_at dksJ3_init_2_2 17 rfl rfl)
theorem dJ3_init_2_66 : decode cJ3_init_2 66 = .ok (.aload_n 0, 1) := dk_42 (dk_at dksJ3_init_2_2 18 rfl rfl)
theorem dJ3_init_2_67 : decode cJ3_init_2 67 = .ok (.getfield 9, 3) := dk_180 0 9 (dk_at dksJ3_init_2_2 19 rfl rfl)
theorem dJ3_init_2_70 : decode cJ3_init_2 70 = .ok (.iload 4, 2) := dk_21 4 (dk_at dksJ3_init_2_2 22 rfl rfl)
theorem dJ3_init_2_72 : decode cJ3_init_2 72 = .ok (.invokestatic 47, 3) := dk_184 0 47 (dk_at dksJ3_init_2_3 0 rfl rfl)
theorem dJ3_init_2_75 : decode cJ3_init_2 75 = .ok (.putfield 15, 3) := dk_181 0 15 (dk_at dksJ3_init_2_3 3 rfl rfl)
theorem dJ3_init_2_78 : decode cJ3_init_2 78 = .ok (.return_, 1) := dk_177 (dk_at dksJ3_init_2_3 6 rfl rfl)
theorem dJ3_init_2_79 : decode cJ3_init_2 79 = .ok (.aload_n 0, 1) := dk_42 (dk_at dksJ3_init_2_3 7 rfl rfl)
theorem dJ3_init_2_80 : decode cJ3_init_2 80 = .ok (.iconst 1, 1) := dk_4 (dk_at dksJ3_init_2_3 8 rfl rfl)
theorem dJ3_init_2_81 : decode cJ3_init_2 81 = .ok (.putfield 15, 3) := dk_181 0 15 (dk_at dksJ3_init_2_3 9 rfl rfl)
theorem dJ3_init_2_84 : decode cJ3_init_2 84 = .ok (.aload_n 0, 1) := dk_42 (dk_at dksJ3_init_2_3 12 rfl rfl)
theorem dJ3_init_2_85 : decode cJ3_init_2 85 = .ok (.aload_n 3, 1) := dk_45 (dk_at dksJ3_init_2_3 13 rfl rfl)
theorem dJ3_init_2_86 : decode cJ3_init_2 86 = .ok (.iconst 0, 1) := dk_3 (dk_at dksJ3_init_2_3 14 rfl rfl)
theorem dJ3_init_2_87 : decode cJ3_init_2 87 = .ok (.iload 4, 2) := dk_21 4 (dk_at dksJ3_init_2_3 15 rfl rfl)
theorem dJ3_init_2_89 : decode cJ3_init_2 89 = .ok (.iconst 1, 1) := dk_4 (dk_at dksJ3_init_2_3 17 rfl rfl)
theorem dJ3_init_2_90 : decode cJ3_init_2 90 = .ok (.ishl, 1) := dk_120 (dk_at dksJ3_init_2_3 18 rfl rfl)
theorem dJ3_init_2_91 : decode cJ3_init_2 91 = .ok (.invokestatic 54, 3) := dk_184 0 54 (dk_at dksJ3_init_2_3 19 rfl rfl)
theorem dJ3_init_2_94 : decode cJ3_init_2 94 = .ok (.putfield 9, 3) := dk_181 0 9 (dk_at dksJ3_init_2_4 0 rfl rfl)
theorem dJ3_init_2_97 : decode cJ3_init_2 97 = .ok (.return_, 1) := dk_177 (dk_at dksJ3_init_2_4 3 rfl rfl)
abbrev cJ3_equals : ByteArray := prog_36_method_66_code
def yJ3_equals : MethodName := ⟨RJ3, "equals", "(Ljava/lang/Object;)Z"⟩
def dkwJ3_equals_2 : List UInt8 := [184, 2, 29, 153, 0, 7, 4, 167, 0, 4, 3, 172]
abbrev dktJ3_equals_2 : List UInt8 := dkwJ3_equals_2 ++ []
def dkwJ3_equals_1 : List UInt8 := [153, 0, 14, 42, 180, 0, 15, 44, 180, 0, 15, 160, 0, 21, 42, 180, 0, 9, 44, 180, 0, 9]
abbrev dktJ3_equals_1 : List UInt8 := dkwJ3_equals_1 ++ dktJ3_equals_2
def dkwJ3_equals_0 : List UInt8 := [42, 43, 166, 0, 5, 4, 172, 43, 193, 0, 10, 153, 0, 43, 43, 192, 0, 10, 77, 178, 0, 38]
abbrev dktJ3_equals_0 : List UInt8 := dkwJ3_equals_0 ++ dktJ3_equals_1
theorem dksJ3_equals_0 : cJ3_equals.data.toList.drop 0 = dktJ3_equals_0 := by decide +kernel
theorem dksJ3_equals_1 : cJ3_equals.data.toList.drop 22 = dktJ3_equals_1 := dk_seg dksJ3_equals_0 22 rfl rfl
theorem dksJ3_equals_2 : cJ3_equals.data.toList.drop 44 = dktJ3_equals_2 := dk_seg dksJ3_equals_1 22 rfl rfl
theorem dJ3_equals_0 : decode cJ3_equals 0 = .ok (.aload_n 0, 1) := dk_42 (dk_at dksJ3_equals_0 0 rfl rfl)
theorem dJ3_equals_1 : decode cJ3_equals 1 = .ok (.aload_n 1, 1) := dk_43 (dk_at dksJ3_equals_0 1 rfl rfl)
theorem dJ3_equals_2 : decode cJ3_equals 2 = .ok (.if_acmp .ne 5, 3) := dk_166 0 5 (dk_at dksJ3_equals_0 2 rfl rfl)
theorem dJ3_equals_5 : decode cJ3_equals 5 = .ok (.iconst 1, 1) := dk_4 (dk_at dksJ3_equals_0 5 rfl rfl)
theorem dJ3_equals_6 : decode cJ3_equals 6 = .ok (.ireturn, 1) := dk_172 (dk_at dksJ3_equals_0 6 rfl rfl)
theorem dJ3_equals_7 : decode cJ3_equals 7 = .ok (.aload_n 1, 1) := dk_43 (dk_at dksJ3_equals_0 7 rfl rfl)
theorem dJ3_equals_8 : decode cJ3_equals 8 = .ok (.instanceof 10, 3) := dk_193 0 10 (dk_at dksJ3_equals_0 8 rfl rfl)
theorem dJ3_equals_11 : decode cJ3_equals 11 = .ok (.ifCond .eq 43, 3) := dk_153 0 43 (dk_at dksJ3_equals_0 11 rfl rfl)
theorem dJ3_equals_14 : decode cJ3_equals 14 = .ok (.aload_n 1, 1) := dk_43 (dk_at dksJ3_equals_0 14 rfl rfl)
theorem dJ3_equals_15 : decode cJ3_equals 15 = .ok (.checkcast 10, 3) := dk_192 0 10 (dk_at dksJ3_equals_0 15 rfl rfl)
theorem dJ3_equals_18 : decode cJ3_equals 18 = .ok (.astore_n 2, 1) := dk_77 (dk_at dksJ3_equals_0 18 rfl rfl)
theorem dJ3_equals_19 : decode cJ3_equals 19 = .ok (.getstatic 38, 3) := dk_178 0 38 (dk_at dksJ3_equals_0 19 rfl rfl)
theorem dJ3_equals_22 : decode cJ3_equals 22 = .ok (.ifCond .eq 14, 3) := dk_153 0 14 (dk_at dksJ3_equals_1 0 rfl rfl)
theorem dJ3_equals_25 : decode cJ3_equals 25 = .ok (.aload_n 0, 1) := dk_42 (dk_at dksJ3_equals_1 3 rfl rfl)
theorem dJ3_equals_26 : decode cJ3_equals 26 = .ok (.getfield 15, 3) := dk_180 0 15 (dk_at dksJ3_equals_1 4 rfl rfl)
theorem dJ3_equals_29 : decode cJ3_equals 29 = .ok (.aload_n 2, 1) := dk_44 (dk_at dksJ3_equals_1 7 rfl rfl)
theorem dJ3_equals_30 : decode cJ3_equals 30 = .ok (.getfield 15, 3) := dk_180 0 15 (dk_at dksJ3_equals_1 8 rfl rfl)
theorem dJ3_equals_33 : decode cJ3_equals 33 = .ok (.if_icmp .ne 21, 3) := dk_160 0 21 (dk_at dksJ3_equals_1 11 rfl rfl)
theorem dJ3_equals_36 : decode cJ3_equals 36 = .ok (.aload_n 0, 1) := dk_42 (dk_at dksJ3_equals_1 14 rfl rfl)
theorem dJ3_equals_37 : decode cJ3_equals 37 = .ok (.getfield 9, 3) := dk_180 0 9 (dk_at dksJ3_equals_1 15 rfl rfl)
theorem dJ3_equals_40 : decode cJ3_equals 40 = .ok (.aload_n 2, 1) := dk_44 (dk_at dksJ3_equals_1 18 rfl rfl)
theorem dJ3_equals_41 : decode cJ3_equals 41 = .ok (.getfield 9, 3) := dk_180 0 9 (dk_at dksJ3_equals_1 19 rfl rfl)
theorem dJ3_equals_44 : decode cJ3_equals 44 = .ok (.invokestatic 541, 3) := dk_184 2 29 (dk_at dksJ3_equals_2 0 rfl rfl)
theorem dJ3_equals_47 : decode cJ3_equals 47 = .ok (.ifCond .eq 7, 3) := dk_153 0 7 (dk_at dksJ3_equals_2 3 rfl rfl)
theorem dJ3_equals_50 : decode cJ3_equals 50 = .ok (.iconst 1, 1) := dk_4 (dk_at dksJ3_equals_2 6 rfl rfl)
theorem dJ3_equals_51 : decode cJ3_equals 51 = .ok (.goto 4, 3) := dk_167 0 4 (dk_at dksJ3_equals_2 7 rfl rfl)
theorem dJ3_equals_54 : decode cJ3_equals 54 = .ok (.iconst 0, 1) := dk_3 (dk_at dksJ3_equals_2 10 rfl rfl)
theorem dJ3_equals_55 : decode cJ3_equals 55 = .ok (.ireturn, 1) := dk_172 (dk_at dksJ3_equals_2 11 rfl rfl)
abbrev cJ3_length : ByteArray := prog_36_method_54_code
def yJ3_length : MethodName := ⟨RJ3, "length", "()I"⟩
def dkwJ3_length_0 : List UInt8 := [42, 180, 0, 9, 190, 42, 182, 1, 79, 122, 172]
abbrev dktJ3_length_0 : List UInt8 := dkwJ3_length_0 ++ []
theorem dksJ3_length_0 : cJ3_length.data.toList.drop 0 = dktJ3_length_0 := by decide +kernel
theorem dJ3_length_0 : decode cJ3_length 0 = .ok (.aload_n 0, 1) := dk_42 (dk_at dksJ3_length_0 0 rfl rfl)
theorem dJ3_length_1 : decode cJ3_length 1 = .ok (.getfield 9, 3) := dk_180 0 9 (dk_at dksJ3_length_0 1 rfl rfl)
theorem dJ3_length_4 : decode cJ3_length 4 = .ok (.arraylength, 1) := dk_190 (dk_at dksJ3_length_0 4 rfl rfl)
theorem dJ3_length_5 : decode cJ3_length 5 = .ok (.aload_n 0, 1) := dk_42 (dk_at dksJ3_length_0 5 rfl rfl)
theorem dJ3_length_6 : decode cJ3_length 6 = .ok (.invokevirtual 335, 3) := dk_182 1 79 (dk_at dksJ3_length_0 6 rfl rfl)
theorem dJ3_length_9 : decode cJ3_length 9 = .ok (.ishr, 1) := dk_122 (dk_at dksJ3_length_0 9 rfl rfl)
theorem dJ3_length_10 : decode cJ3_length 10 = .ok (.ireturn, 1) := dk_172 (dk_at dksJ3_length_0 10 rfl rfl)
abbrev cJ3_coder : ByteArray := prog_36_method_152_code
def yJ3_coder : MethodName := ⟨RJ3, "coder", "()B"⟩
def dkwJ3_coder_0 : List UInt8 := [178, 0, 38, 153, 0, 10, 42, 180, 0, 15, 167, 0, 4, 4, 172]
abbrev dktJ3_coder_0 : List UInt8 := dkwJ3_coder_0 ++ []
theorem dksJ3_coder_0 : cJ3_coder.data.toList.drop 0 = dktJ3_coder_0 := by decide +kernel
theorem dJ3_coder_0 : decode cJ3_coder 0 = .ok (.getstatic 38, 3) := dk_178 0 38 (dk_at dksJ3_coder_0 0 rfl rfl)
theorem dJ3_coder_3 : decode cJ3_coder 3 = .ok (.ifCond .eq 10, 3) := dk_153 0 10 (dk_at dksJ3_coder_0 3 rfl rfl)
theorem dJ3_coder_6 : decode cJ3_coder 6 = .ok (.aload_n 0, 1) := dk_42 (dk_at dksJ3_coder_0 6 rfl rfl)
theorem dJ3_coder_7 : decode cJ3_coder 7 = .ok (.getfield 15, 3) := dk_180 0 15 (dk_at dksJ3_coder_0 7 rfl rfl)
theorem dJ3_coder_10 : decode cJ3_coder 10 = .ok (.goto 4, 3) := dk_167 0 4 (dk_at dksJ3_coder_0 10 rfl rfl)
theorem dJ3_coder_13 : decode cJ3_coder 13 = .ok (.iconst 1, 1) := dk_4 (dk_at dksJ3_coder_0 13 rfl rfl)
theorem dJ3_coder_14 : decode cJ3_coder 14 = .ok (.ireturn, 1) := dk_172 (dk_at dksJ3_coder_0 14 rfl rfl)
abbrev cJ3_charAt : ByteArray := prog_36_method_56_code
def yJ3_charAt : MethodName := ⟨RJ3, "charAt", "(I)C"⟩
def dkwJ3_charAt_1 : List UInt8 := [172]
abbrev dktJ3_charAt_1 : List UInt8 := dkwJ3_charAt_1 ++ []
def dkwJ3_charAt_0 : List UInt8 := [42, 182, 1, 236, 153, 0, 12, 42, 180, 0, 9, 27, 184, 1, 239, 172, 42, 180, 0, 9, 27, 184, 1, 242]
abbrev dktJ3_charAt_0 : List UInt8 := dkwJ3_charAt_0 ++ dktJ3_charAt_1
theorem dksJ3_charAt_0 : cJ3_charAt.data.toList.drop 0 = dktJ3_charAt_0 := by decide +kernel
theorem dksJ3_charAt_1 : cJ3_charAt.data.toList.drop 24 = dktJ3_charAt_1 := dk_seg dksJ3_charAt_0 24 rfl rfl
theorem dJ3_charAt_0 : decode cJ3_charAt 0 = .ok (.aload_n 0, 1) := dk_42 (dk_at dksJ3_charAt_0 0 rfl rfl)
theorem dJ3_charAt_1 : decode cJ3_charAt 1 = .ok (.invokevirtual 492, 3) := dk_182 1 236 (dk_at dksJ3_charAt_0 1 rfl rfl)
theorem dJ3_charAt_4 : decode cJ3_charAt 4 = .ok (.ifCond .eq 12, 3) := dk_153 0 12 (dk_at dksJ3_charAt_0 4 rfl rfl)
theorem dJ3_charAt_7 : decode cJ3_charAt 7 = .ok (.aload_n 0, 1) := dk_42 (dk_at dksJ3_charAt_0 7 rfl rfl)
theorem dJ3_charAt_8 : decode cJ3_charAt 8 = .ok (.getfield 9, 3) := dk_180 0 9 (dk_at dksJ3_charAt_0 8 rfl rfl)
theorem dJ3_charAt_11 : decode cJ3_charAt 11 = .ok (.iload_n 1, 1) := dk_27 (dk_at dksJ3_charAt_0 11 rfl rfl)
theorem dJ3_charAt_12 : decode cJ3_charAt 12 = .ok (.invokestatic 495, 3) := dk_184 1 239 (dk_at dksJ3_charAt_0 12 rfl rfl)
theorem dJ3_charAt_15 : decode cJ3_charAt 15 = .ok (.ireturn, 1) := dk_172 (dk_at dksJ3_charAt_0 15 rfl rfl)
theorem dJ3_charAt_16 : decode cJ3_charAt 16 = .ok (.aload_n 0, 1) := dk_42 (dk_at dksJ3_charAt_0 16 rfl rfl)
theorem dJ3_charAt_17 : decode cJ3_charAt 17 = .ok (.getfield 9, 3) := dk_180 0 9 (dk_at dksJ3_charAt_0 17 rfl rfl)
theorem dJ3_charAt_20 : decode cJ3_charAt 20 = .ok (.iload_n 1, 1) := dk_27 (dk_at dksJ3_charAt_0 20 rfl rfl)
theorem dJ3_charAt_21 : decode cJ3_charAt 21 = .ok (.invokestatic 498, 3) := dk_184 1 242 (dk_at dksJ3_charAt_0 21 rfl rfl)
theorem dJ3_charAt_24 : decode cJ3_charAt 24 = .ok (.ireturn, 1) := dk_172 (dk_at dksJ3_charAt_1 0 rfl rfl)
abbrev cJ3_isLatin1 : ByteArray := prog_36_method_154_code
def yJ3_isLatin1 : MethodName := ⟨RJ3, "isLatin1", "()Z"⟩
def dkwJ3_isLatin1_0 : List UInt8 := [178, 0, 38, 153, 0, 14, 42, 180, 0, 15, 154, 0, 7, 4, 167, 0, 4, 3, 172]
abbrev dktJ3_isLatin1_0 : List UInt8 := dkwJ3_isLatin1_0 ++ []
theorem dksJ3_isLatin1_0 : cJ3_isLatin1.data.toList.drop 0 = dktJ3_isLatin1_0 := by decide +kernel
theorem dJ3_isLatin1_0 : decode cJ3_isLatin1 0 = .ok (.getstatic 38, 3) := dk_178 0 38 (dk_at dksJ3_isLatin1_0 0 rfl rfl)
theorem dJ3_isLatin1_3 : decode cJ3_isLatin1 3 = .ok (.ifCond .eq 14, 3) := dk_153 0 14 (dk_at dksJ3_isLatin1_0 3 rfl rfl)
theorem dJ3_isLatin1_6 : decode cJ3_isLatin1 6 = .ok (.aload_n 0, 1) := dk_42 (dk_at dksJ3_isLatin1_0 6 rfl rfl)
theorem dJ3_isLatin1_7 : decode cJ3_isLatin1 7 = .ok (.getfield 15, 3) := dk_180 0 15 (dk_at dksJ3_isLatin1_0 7 rfl rfl)
theorem dJ3_isLatin1_10 : decode cJ3_isLatin1 10 = .ok (.ifCond .ne 7, 3) := dk_154 0 7 (dk_at dksJ3_isLatin1_0 10 rfl rfl)
theorem dJ3_isLatin1_13 : decode cJ3_isLatin1 13 = .ok (.iconst 1, 1) := dk_4 (dk_at dksJ3_isLatin1_0 13 rfl rfl)
theorem dJ3_isLatin1_14 : decode cJ3_isLatin1 14 = .ok (.goto 4, 3) := dk_167 0 4 (dk_at dksJ3_isLatin1_0 14 rfl rfl)
theorem dJ3_isLatin1_17 : decode cJ3_isLatin1 17 = .ok (.iconst 0, 1) := dk_3 (dk_at dksJ3_isLatin1_0 17 rfl rfl)
theorem dJ3_isLatin1_18 : decode cJ3_isLatin1 18 = .ok (.ireturn, 1) := dk_172 (dk_at dksJ3_isLatin1_0 18 rfl rfl)
abbrev cJ3_isEmpty : ByteArray := prog_36_method_55_code
def yJ3_isEmpty : MethodName := ⟨RJ3, "isEmpty", "()Z"⟩
def dkwJ3_isEmpty_0 : List UInt8 := [42, 180, 0, 9, 190, 154, 0, 7, 4, 167, 0, 4, 3, 172]
abbrev dktJ3_isEmpty_0 : List UInt8 := dkwJ3_isEmpty_0 ++ []
theorem dksJ3_isEmpty_0 : cJ3_isEmpty.data.toList.drop 0 = dktJ3_isEmpty_0 := by decide +kernel
theorem dJ3_isEmpty_0 : decode cJ3_isEmpty 0 = .ok (.aload_n 0, 1) := dk_42 (dk_at dksJ3_isEmpty_0 0 rfl rfl)
theorem dJ3_isEmpty_1 : decode cJ3_isEmpty 1 = .ok (.getfield 9, 3) := dk_180 0 9 (dk_at dksJ3_isEmpty_0 1 rfl rfl)
theorem dJ3_isEmpty_4 : decode cJ3_isEmpty 4 = .ok (.arraylength, 1) := dk_190 (dk_at dksJ3_isEmpty_0 4 rfl rfl)
theorem dJ3_isEmpty_5 : decode cJ3_isEmpty 5 = .ok (.ifCond .ne 7, 3) := dk_154 0 7 (dk_at dksJ3_isEmpty_0 5 rfl rfl)
theorem dJ3_isEmpty_8 : decode cJ3_isEmpty 8 = .ok (.iconst 1, 1) := dk_4 (dk_at dksJ3_isEmpty_0 8 rfl rfl)
theorem dJ3_isEmpty_9 : decode cJ3_isEmpty 9 = .ok (.goto 4, 3) := dk_167 0 4 (dk_at dksJ3_isEmpty_0 9 rfl rfl)
theorem dJ3_isEmpty_12 : decode cJ3_isEmpty 12 = .ok (.iconst 0, 1) := dk_3 (dk_at dksJ3_isEmpty_0 12 rfl rfl)
theorem dJ3_isEmpty_13 : decode cJ3_isEmpty 13 = .ok (.ireturn, 1) := dk_172 (dk_at dksJ3_isEmpty_0 13 rfl rfl)
abbrev cJ3_checkBoundsBeginEnd : ByteArray := prog_36_method_158_code
def yJ3_checkBoundsBeginEnd : MethodName := ⟨RJ3, "checkBoundsBeginEnd", "(III)V"⟩
def dkwJ3_checkBoundsBeginEnd_0 : List UInt8 := [26, 27, 28, 178, 4, 29, 184, 4, 38, 87, 177]
abbrev dktJ3_checkBoundsBeginEnd_0 : List UInt8 := dkwJ3_checkBoundsBeginEnd_0 ++ []
theorem dksJ3_checkBoundsBeginEnd_0 : cJ3_checkBoundsBeginEnd.data.toList.drop 0 = dktJ3_checkBoundsBeginEnd_0 := by decide +kernel
theorem dJ3_checkBoundsBeginEnd_0 : decode cJ3_checkBoundsBeginEnd 0 = .ok (.iload_n 0, 1) := dk_26 (dk_at dksJ3_checkBoundsBeginEnd_0 0 rfl rfl)
theorem dJ3_checkBoundsBeginEnd_1 : decode cJ3_checkBoundsBeginEnd 1 = .ok (.iload_n 1, 1) := dk_27 (dk_at dksJ3_checkBoundsBeginEnd_0 1 rfl rfl)
theorem dJ3_checkBoundsBeginEnd_2 : decode cJ3_checkBoundsBeginEnd 2 = .ok (.iload_n 2, 1) := dk_28 (dk_at dksJ3_checkBoundsBeginEnd_0 2 rfl rfl)
theorem dJ3_checkBoundsBeginEnd_3 : decode cJ3_checkBoundsBeginEnd 3 = .ok (.getstatic 1053, 3) := dk_178 4 29 (dk_at dksJ3_checkBoundsBeginEnd_0 3 rfl rfl)
theorem dJ3_checkBoundsBeginEnd_6 : decode cJ3_checkBoundsBeginEnd 6 = .ok (.invokestatic 1062, 3) := dk_184 4 38 (dk_at dksJ3_checkBoundsBeginEnd_0 6 rfl rfl)
theorem dJ3_checkBoundsBeginEnd_9 : decode cJ3_checkBoundsBeginEnd 9 = .ok (.pop, 1) := dk_87 (dk_at dksJ3_checkBoundsBeginEnd_0 9 rfl rfl)
theorem dJ3_checkBoundsBeginEnd_10 : decode cJ3_checkBoundsBeginEnd 10 = .ok (.return_, 1) := dk_177 (dk_at dksJ3_checkBoundsBeginEnd_0 10 rfl rfl)
abbrev cJ3_getBytes : ByteArray := prog_36_method_147_code
def yJ3_getBytes : MethodName := ⟨RJ3, "getBytes", "([BIB)V"⟩
def dkwJ3_getBytes_1 : List UInt8 := [184, 0, 212, 167, 0, 18, 42, 180, 0, 9, 3, 43, 28, 42, 180, 0, 9, 190, 184, 0, 106, 177]
abbrev dktJ3_getBytes_1 : List UInt8 := dkwJ3_getBytes_1 ++ []
def dkwJ3_getBytes_0 : List UInt8 := [42, 182, 1, 79, 29, 160, 0, 23, 42, 180, 0, 9, 3, 43, 28, 29, 120, 42, 180, 0, 9, 190]
abbrev dktJ3_getBytes_0 : List UInt8 := dkwJ3_getBytes_0 ++ dktJ3_getBytes_1
theorem dksJ3_getBytes_0 : cJ3_getBytes.data.toList.drop 0 = dktJ3_getBytes_0 := by decide +kernel
theorem dksJ3_getBytes_1 : cJ3_getBytes.data.toList.drop 22 = dktJ3_getBytes_1 := dk_seg dksJ3_getBytes_0 22 rfl rfl
theorem dJ3_getBytes_0 : decode cJ3_getBytes 0 = .ok (.aload_n 0, 1) := dk_42 (dk_at dksJ3_getBytes_0 0 rfl rfl)
theorem dJ3_getBytes_1 : decode cJ3_getBytes 1 = .ok (.invokevirtual 335, 3) := dk_182 1 79 (dk_at dksJ3_getBytes_0 1 rfl rfl)
theorem dJ3_getBytes_4 : decode cJ3_getBytes 4 = .ok (.iload_n 3, 1) := dk_29 (dk_at dksJ3_getBytes_0 4 rfl rfl)
theorem dJ3_getBytes_5 : decode cJ3_getBytes 5 = .ok (.if_icmp .ne 23, 3) := dk_160 0 23 (dk_at dksJ3_getBytes_0 5 rfl rfl)
theorem dJ3_getBytes_8 : decode cJ3_getBytes 8 = .ok (.aload_n 0, 1) := dk_42 (dk_at dksJ3_getBytes_0 8 rfl rfl)
theorem dJ3_getBytes_9 : decode cJ3_getBytes 9 = .ok (.getfield 9, 3) := dk_180 0 9 (dk_at dksJ3_getBytes_0 9 rfl rfl)
theorem dJ3_getBytes_12 : decode cJ3_getBytes 12 = .ok (.iconst 0, 1) := dk_3 (dk_at dksJ3_getBytes_0 12 rfl rfl)
theorem dJ3_getBytes_13 : decode cJ3_getBytes 13 = .ok (.aload_n 1, 1) := dk_43 (dk_at dksJ3_getBytes_0 13 rfl rfl)
theorem dJ3_getBytes_14 : decode cJ3_getBytes 14 = .ok (.iload_n 2, 1) := dk_28 (dk_at dksJ3_getBytes_0 14 rfl rfl)
theorem dJ3_getBytes_15 : decode cJ3_getBytes 15 = .ok (.iload_n 3, 1) := dk_29 (dk_at dksJ3_getBytes_0 15 rfl rfl)
theorem dJ3_getBytes_16 : decode cJ3_getBytes 16 = .ok (.ishl, 1) := dk_120 (dk_at dksJ3_getBytes_0 16 rfl rfl)
theorem dJ3_getBytes_17 : decode cJ3_getBytes 17 = .ok (.aload_n 0, 1) := dk_42 (dk_at dksJ3_getBytes_0 17 rfl rfl)
theorem dJ3_getBytes_18 : decode cJ3_getBytes 18 = .ok (.getfield 9, 3) := dk_180 0 9 (dk_at dksJ3_getBytes_0 18 rfl rfl)
theorem dJ3_getBytes_21 : decode cJ3_getBytes 21 = .ok (.arraylength, 1) := dk_190 (dk_at dksJ3_getBytes_0 21 rfl rfl)
theorem dJ3_getBytes_22 : decode cJ3_getBytes 22 = .ok (.invokestatic 212, 3) := dk_184 0 212 (dk_at dksJ3_getBytes_1 0 rfl rfl)
theorem dJ3_getBytes_25 : decode cJ3_getBytes 25 = .ok (.goto 18, 3) := dk_167 0 18 (dk_at dksJ3_getBytes_1 3 rfl rfl)
theorem dJ3_getBytes_28 : decode cJ3_getBytes 28 = .ok (.aload_n 0, 1) := dk_42 (dk_at dksJ3_getBytes_1 6 rfl rfl)
theorem dJ3_getBytes_29 : decode cJ3_getBytes 29 = .ok (.getfield 9, 3) := dk_180 0 9 (dk_at dksJ3_getBytes_1 7 rfl rfl)
theorem dJ3_getBytes_32 : decode cJ3_getBytes 32 = .ok (.iconst 0, 1) := dk_3 (dk_at dksJ3_getBytes_1 10 rfl rfl)
theorem dJ3_getBytes_33 : decode cJ3_getBytes 33 = .ok (.aload_n 1, 1) := dk_43 (dk_at dksJ3_getBytes_1 11 rfl rfl)
theorem dJ3_getBytes_34 : decode cJ3_getBytes 34 = .ok (.iload_n 2, 1) := dk_28 (dk_at dksJ3_getBytes_1 12 rfl rfl)
theorem dJ3_getBytes_35 : decode cJ3_getBytes 35 = .ok (.aload_n 0, 1) := dk_42 (dk_at dksJ3_getBytes_1 13 rfl rfl)
theorem dJ3_getBytes_36 : decode cJ3_getBytes 36 = .ok (.getfield 9, 3) := dk_180 0 9 (dk_at dksJ3_getBytes_1 14 rfl rfl)
theorem dJ3_getBytes_39 : decode cJ3_getBytes 39 = .ok (.arraylength, 1) := dk_190 (dk_at dksJ3_getBytes_1 17 rfl rfl)
theorem dJ3_getBytes_40 : decode cJ3_getBytes 40 = .ok (.invokestatic 106, 3) := dk_184 0 106 (dk_at dksJ3_getBytes_1 18 rfl rfl)
theorem dJ3_getBytes_43 : decode cJ3_getBytes 43 = .ok (.return_, 1) := dk_177 (dk_at dksJ3_getBytes_1 21 rfl rfl)
theorem q57 : (Jvm.Cond.initialized "java/lang/String") ∈ lw_all := lw_g (lw_at lw_m1 9 rfl) rfl
theorem q298 : (Jvm.Cond.laysStatic "java/lang/String" "COMPACT_STRINGS" "Z") ∈ lw_tbl := lw_at lw_m2 10 rfl
theorem q308 : (Jvm.Cond.fieldLink "java/lang/String" (1048 : Nat) "java/lang/AbstractStringBuilder" "maybeLatin1" "Z") ∈ lw_all := lw_g (lw_at lw_m2 20 rfl) rfl
theorem q384 : (Jvm.Cond.static ({ cls := "java/lang/String", name := "checkBoundsOffCount", desc := "(III)I" } : Jvm.MethodName)) ∈ lw_all := lw_g (lw_at lw_m2 96 rfl) rfl
theorem q385 : (Jvm.Cond.code ({ cls := "java/lang/String", name := "checkBoundsOffCount", desc := "(III)I" } : Jvm.MethodName) prog_36_method_157_code (3 : Nat) (Option.some Jvm.ClassFile.FieldType.int)) ∈ lw_all := lw_g (lw_at lw_m2 97 rfl) rfl
theorem q386 : (Jvm.Cond.fieldLink "java/lang/String" (1053 : Nat) "jdk/internal/util/Preconditions" "SIOOBE_FORMATTER" "Ljava/util/function/BiFunction;") ∈ lw_all := lw_g (lw_at lw_m2 98 rfl) rfl
theorem q388 : (Jvm.Cond.methodLink "java/lang/String" (1065 : Nat) ({ cls := "jdk/internal/util/Preconditions", name := "checkFromIndexSize", desc := "(IIILjava/util/function/BiFunction;)I" } : Jvm.MethodName)) ∈ lw_all := lw_g (lw_at lw_m2 100 rfl) rfl
theorem q407 : (Jvm.Cond.static ({ cls := "java/lang/String", name := "checkIndex", desc := "(II)V" } : Jvm.MethodName)) ∈ lw_all := lw_g (lw_at lw_m2 119 rfl) rfl
theorem q408 : (Jvm.Cond.code ({ cls := "java/lang/String", name := "checkIndex", desc := "(II)V" } : Jvm.MethodName) prog_36_method_155_code (2 : Nat) (Option.none : Option Jvm.ClassFile.FieldType)) ∈ lw_all := lw_g (lw_at lw_m2 120 rfl) rfl
theorem q409 : (Jvm.Cond.methodLink "java/lang/String" (1059 : Nat) ({ cls := "jdk/internal/util/Preconditions", name := "checkIndex", desc := "(IILjava/util/function/BiFunction;)I" } : Jvm.MethodName)) ∈ lw_all := lw_g (lw_at lw_m2 121 rfl) rfl
theorem q417 : (Jvm.Cond.instantiable "java/lang/String" (4 : Nat)) ∈ lw_all := lw_g (lw_at lw_m2 129 rfl) rfl
theorem q419 : (Jvm.Cond.instanceMethod ({ cls := "java/lang/String", name := "<init>", desc := "(Ljava/lang/StringBuilder;)V" } : Jvm.MethodName)) ∈ lw_all := lw_g (lw_at lw_m2 131 rfl) rfl
theorem q420 : (Jvm.Cond.code ({ cls := "java/lang/String", name := "<init>", desc := "(Ljava/lang/StringBuilder;)V" } : Jvm.MethodName) prog_36_method_53_code (2 : Nat) (Option.none : Option Jvm.ClassFile.FieldType)) ∈ lw_all := lw_g (lw_at lw_m2 132 rfl) rfl
theorem q421 : (Jvm.Cond.methodLink "java/lang/String" (489 : Nat) ({ cls := "java/lang/String", name := "<init>", desc := "(Ljava/lang/AbstractStringBuilder;Ljava/lang/Void;)V" } : Jvm.MethodName)) ∈ lw_all := lw_g (lw_at lw_m2 133 rfl) rfl
theorem q422 : (Jvm.Cond.instanceMethod ({ cls := "java/lang/String", name := "<init>", desc := "(Ljava/lang/AbstractStringBuilder;Ljava/lang/Void;)V" } : Jvm.MethodName)) ∈ lw_all := lw_g (lw_at lw_m2 134 rfl) rfl
theorem q423 : (Jvm.Cond.code ({ cls := "java/lang/String", name := "<init>", desc := "(Ljava/lang/AbstractStringBuilder;Ljava/lang/Void;)V" } : Jvm.MethodName) prog_36_method_150_code (5 : Nat) (Option.none : Option Jvm.ClassFile.FieldType)) ∈ lw_all := lw_g (lw_at lw_m2 135 rfl) rfl
theorem q424 : (Jvm.Cond.methodLink "java/lang/String" (1 : Nat) ({ cls := "java/lang/Object", name := "<init>", desc := "()V" } : Jvm.MethodName)) ∈ lw_all := lw_g (lw_at lw_m2 136 rfl) rfl
theorem q425 : (Jvm.Cond.methodLink "java/lang/String" (552 : Nat) ({ cls := "java/lang/AbstractStringBuilder", name := "getValue", desc := "()[B" } : Jvm.MethodName)) ∈ lw_all := lw_g (lw_at lw_m2 137 rfl) rfl
theorem q430 : (Jvm.Cond.methodLink "java/lang/String" (549 : Nat) ({ cls := "java/lang/AbstractStringBuilder", name := "length", desc := "()I" } : Jvm.MethodName)) ∈ lw_all := lw_g (lw_at lw_m2 142 rfl) rfl
theorem q438 : (Jvm.Cond.methodLink "java/lang/String" (1047 : Nat) ({ cls := "java/lang/AbstractStringBuilder", name := "isLatin1", desc := "()Z" } : Jvm.MethodName)) ∈ lw_all := lw_g (lw_at lw_m2 150 rfl) rfl
theorem q439 : (Jvm.Cond.methodLink "java/lang/String" (54 : Nat) ({ cls := "java/util/Arrays", name := "copyOfRange", desc := "([BII)[B" } : Jvm.MethodName)) ∈ lw_all := lw_g (lw_at lw_m2 151 rfl) rfl
theorem q448 : (Jvm.Cond.fieldLink "java/lang/String" (38 : Nat) "java/lang/String" "COMPACT_STRINGS" "Z") ∈ lw_all := lw_g (lw_at lw_m2 160 rfl) rfl
theorem q449 : (Jvm.Cond.methodLink "java/lang/String" (1051 : Nat) ({ cls := "java/lang/StringUTF16", name := "compress", desc := "([BII)[B" } : Jvm.MethodName)) ∈ lw_all := lw_g (lw_at lw_m2 161 rfl) rfl
theorem q459 : (Jvm.Cond.methodLink "java/lang/String" (47 : Nat) ({ cls := "java/lang/StringUTF16", name := "coderFromArrayLen", desc := "([BI)B" } : Jvm.MethodName)) ∈ lw_all := lw_g (lw_at lw_m2 171 rfl) rfl
theorem q462 : (Jvm.Cond.fieldLink "java/lang/String" (9 : Nat) "java/lang/String" "value" "[B") ∈ lw_all := lw_g (lw_at lw_m2 174 rfl) rfl
theorem q463 : (Jvm.Cond.fieldLink "java/lang/String" (15 : Nat) "java/lang/String" "coder" "B") ∈ lw_all := lw_g (lw_at lw_m2 175 rfl) rfl
theorem q464 : (Jvm.Cond.laysFinal "java/lang/String" "java/lang/String" "value" "[B") ∈ lw_all := lw_g (lw_at lw_m2 176 rfl) rfl
theorem q465 : (Jvm.Cond.soleField "java/lang/String" "value") ∈ lw_all := lw_g (lw_at lw_m2 177 rfl) rfl
theorem q466 : (Jvm.Cond.laysFinal "java/lang/String" "java/lang/String" "coder" "B") ∈ lw_all := lw_g (lw_at lw_m2 178 rfl) rfl
theorem q467 : (Jvm.Cond.soleField "java/lang/String" "coder") ∈ lw_all := lw_g (lw_at lw_m2 179 rfl) rfl
theorem q468 : (Jvm.Cond.lays "java/lang/String" "java/lang/String" "hash" "I") ∈ lw_all := lw_g (lw_at lw_m2 180 rfl) rfl
theorem q469 : (Jvm.Cond.soleField "java/lang/String" "hash") ∈ lw_all := lw_g (lw_at lw_m2 181 rfl) rfl
theorem q470 : (Jvm.Cond.lays "java/lang/String" "java/lang/String" "hashIsZero" "Z") ∈ lw_all := lw_g (lw_at lw_m2 182 rfl) rfl
theorem q471 : (Jvm.Cond.soleField "java/lang/String" "hashIsZero") ∈ lw_all := lw_g (lw_at lw_m2 183 rfl) rfl
theorem q472 : (Jvm.Cond.superclass "java/lang/String" "java/lang/Object") ∈ lw_all := lw_g (lw_at lw_m2 184 rfl) rfl
theorem q632 : (Jvm.Cond.selects "java/lang/String" ({ cls := "java/lang/Object", name := "equals", desc := "(Ljava/lang/Object;)Z" } : Jvm.MethodName) ({ cls := "java/lang/String", name := "equals", desc := "(Ljava/lang/Object;)Z" } : Jvm.MethodName)) ∈ lw_all := lw_g (lw_at lw_m3 104 rfl) rfl
theorem q633 : (Jvm.Cond.instanceMethod ({ cls := "java/lang/String", name := "equals", desc := "(Ljava/lang/Object;)Z" } : Jvm.MethodName)) ∈ lw_all := lw_g (lw_at lw_m3 105 rfl) rfl
theorem q634 : (Jvm.Cond.code ({ cls := "java/lang/String", name := "equals", desc := "(Ljava/lang/Object;)Z" } : Jvm.MethodName) prog_36_method_66_code (3 : Nat) (Option.some Jvm.ClassFile.FieldType.boolean)) ∈ lw_all := lw_g (lw_at lw_m3 106 rfl) rfl
theorem q635 : (Jvm.Cond.classLink "java/lang/String" (10 : Nat) "java/lang/String") ∈ lw_all := lw_g (lw_at lw_m3 107 rfl) rfl
theorem q636 : (Jvm.Cond.methodLink "java/lang/String" (541 : Nat) ({ cls := "java/lang/StringLatin1", name := "equals", desc := "([B[B)Z" } : Jvm.MethodName)) ∈ lw_all := lw_g (lw_at lw_m3 108 rfl) rfl
theorem q681 : (Jvm.Cond.instanceMethod ({ cls := "java/lang/String", name := "length", desc := "()I" } : Jvm.MethodName)) ∈ lw_all := lw_g (lw_at lw_m3 153 rfl) rfl
theorem q682 : (Jvm.Cond.selects "java/lang/String" ({ cls := "java/lang/String", name := "length", desc := "()I" } : Jvm.MethodName) ({ cls := "java/lang/String", name := "length", desc := "()I" } : Jvm.MethodName)) ∈ lw_all := lw_g (lw_at lw_m3 154 rfl) rfl
theorem q683 : (Jvm.Cond.code ({ cls := "java/lang/String", name := "length", desc := "()I" } : Jvm.MethodName) prog_36_method_54_code (1 : Nat) (Option.some Jvm.ClassFile.FieldType.int)) ∈ lw_all := lw_g (lw_at lw_m3 155 rfl) rfl
theorem q684 : (Jvm.Cond.methodLink "java/lang/String" (335 : Nat) ({ cls := "java/lang/String", name := "coder", desc := "()B" } : Jvm.MethodName)) ∈ lw_all := lw_g (lw_at lw_m3 156 rfl) rfl
theorem q685 : (Jvm.Cond.instanceMethod ({ cls := "java/lang/String", name := "coder", desc := "()B" } : Jvm.MethodName)) ∈ lw_all := lw_g (lw_at lw_m3 157 rfl) rfl
theorem q686 : (Jvm.Cond.selects "java/lang/String" ({ cls := "java/lang/String", name := "coder", desc := "()B" } : Jvm.MethodName) ({ cls := "java/lang/String", name := "coder", desc := "()B" } : Jvm.MethodName)) ∈ lw_all := lw_g (lw_at lw_m3 158 rfl) rfl
theorem q687 : (Jvm.Cond.code ({ cls := "java/lang/String", name := "coder", desc := "()B" } : Jvm.MethodName) prog_36_method_152_code (1 : Nat) (Option.some Jvm.ClassFile.FieldType.byte)) ∈ lw_all := lw_g (lw_at lw_m3 159 rfl) rfl
theorem q690 : (Jvm.Cond.instanceMethod ({ cls := "java/lang/String", name := "charAt", desc := "(I)C" } : Jvm.MethodName)) ∈ lw_all := lw_g (lw_at lw_m3 162 rfl) rfl
theorem q691 : (Jvm.Cond.selects "java/lang/String" ({ cls := "java/lang/String", name := "charAt", desc := "(I)C" } : Jvm.MethodName) ({ cls := "java/lang/String", name := "charAt", desc := "(I)C" } : Jvm.MethodName)) ∈ lw_all := lw_g (lw_at lw_m3 163 rfl) rfl
theorem q692 : (Jvm.Cond.code ({ cls := "java/lang/String", name := "charAt", desc := "(I)C" } : Jvm.MethodName) prog_36_method_56_code (2 : Nat) (Option.some Jvm.ClassFile.FieldType.char)) ∈ lw_all := lw_g (lw_at lw_m3 164 rfl) rfl
theorem q693 : (Jvm.Cond.methodLink "java/lang/String" (492 : Nat) ({ cls := "java/lang/String", name := "isLatin1", desc := "()Z" } : Jvm.MethodName)) ∈ lw_all := lw_g (lw_at lw_m3 165 rfl) rfl
theorem q694 : (Jvm.Cond.instanceMethod ({ cls := "java/lang/String", name := "isLatin1", desc := "()Z" } : Jvm.MethodName)) ∈ lw_all := lw_g (lw_at lw_m3 166 rfl) rfl
theorem q695 : (Jvm.Cond.selects "java/lang/String" ({ cls := "java/lang/String", name := "isLatin1", desc := "()Z" } : Jvm.MethodName) ({ cls := "java/lang/String", name := "isLatin1", desc := "()Z" } : Jvm.MethodName)) ∈ lw_all := lw_g (lw_at lw_m3 167 rfl) rfl
theorem q696 : (Jvm.Cond.code ({ cls := "java/lang/String", name := "isLatin1", desc := "()Z" } : Jvm.MethodName) prog_36_method_154_code (1 : Nat) (Option.some Jvm.ClassFile.FieldType.boolean)) ∈ lw_all := lw_g (lw_at lw_m3 168 rfl) rfl
theorem q697 : (Jvm.Cond.methodLink "java/lang/String" (495 : Nat) ({ cls := "java/lang/StringLatin1", name := "charAt", desc := "([BI)C" } : Jvm.MethodName)) ∈ lw_all := lw_g (lw_at lw_m3 169 rfl) rfl
theorem q701 : (Jvm.Cond.methodLink "java/lang/String" (498 : Nat) ({ cls := "java/lang/StringUTF16", name := "charAt", desc := "([BI)C" } : Jvm.MethodName)) ∈ lw_all := lw_g (lw_at lw_m3 173 rfl) rfl
theorem q736 : (Jvm.Cond.instanceMethod ({ cls := "java/lang/String", name := "isEmpty", desc := "()Z" } : Jvm.MethodName)) ∈ lw_all := lw_g (lw_at lw_m3 208 rfl) rfl
theorem q737 : (Jvm.Cond.selects "java/lang/String" ({ cls := "java/lang/String", name := "isEmpty", desc := "()Z" } : Jvm.MethodName) ({ cls := "java/lang/String", name := "isEmpty", desc := "()Z" } : Jvm.MethodName)) ∈ lw_all := lw_g (lw_at lw_m3 209 rfl) rfl
theorem q738 : (Jvm.Cond.code ({ cls := "java/lang/String", name := "isEmpty", desc := "()Z" } : Jvm.MethodName) prog_36_method_55_code (1 : Nat) (Option.some Jvm.ClassFile.FieldType.boolean)) ∈ lw_all := lw_g (lw_at lw_m3 210 rfl) rfl
theorem q1438 : (Jvm.Cond.selects "java/lang/String" ({ cls := "java/lang/Object", name := "getClass", desc := "()Ljava/lang/Class;" } : Jvm.MethodName) ({ cls := "java/lang/Object", name := "getClass", desc := "()Ljava/lang/Class;" } : Jvm.MethodName)) ∈ lw_all := lw_g (lw_at lw_m6 190 rfl) rfl
theorem q1492 : (Jvm.Cond.static ({ cls := "java/lang/String", name := "checkBoundsBeginEnd", desc := "(III)V" } : Jvm.MethodName)) ∈ lw_all := lw_g (lw_at lw_m7 4 rfl) rfl
theorem q1493 : (Jvm.Cond.code ({ cls := "java/lang/String", name := "checkBoundsBeginEnd", desc := "(III)V" } : Jvm.MethodName) prog_36_method_158_code (3 : Nat) (Option.none : Option Jvm.ClassFile.FieldType)) ∈ lw_all := lw_g (lw_at lw_m7 5 rfl) rfl
theorem q1494 : (Jvm.Cond.methodLink "java/lang/String" (1062 : Nat) ({ cls := "jdk/internal/util/Preconditions", name := "checkFromToIndex", desc := "(IIILjava/util/function/BiFunction;)I" } : Jvm.MethodName)) ∈ lw_all := lw_g (lw_at lw_m7 6 rfl) rfl
theorem q1508 : (Jvm.Cond.instanceMethod ({ cls := "java/lang/String", name := "getBytes", desc := "([BIB)V" } : Jvm.MethodName)) ∈ lw_all := lw_g (lw_at lw_m7 20 rfl) rfl
theorem q1509 : (Jvm.Cond.selects "java/lang/String" ({ cls := "java/lang/String", name := "getBytes", desc := "([BIB)V" } : Jvm.MethodName) ({ cls := "java/lang/String", name := "getBytes", desc := "([BIB)V" } : Jvm.MethodName)) ∈ lw_all := lw_g (lw_at lw_m7 21 rfl) rfl
theorem q1510 : (Jvm.Cond.code ({ cls := "java/lang/String", name := "getBytes", desc := "([BIB)V" } : Jvm.MethodName) prog_36_method_147_code (4 : Nat) (Option.none : Option Jvm.ClassFile.FieldType)) ∈ lw_all := lw_g (lw_at lw_m7 22 rfl) rfl
theorem q1511 : (Jvm.Cond.methodLink "java/lang/String" (212 : Nat) ({ cls := "java/lang/System", name := "arraycopy", desc := "(Ljava/lang/Object;ILjava/lang/Object;II)V" } : Jvm.MethodName)) ∈ lw_all := lw_g (lw_at lw_m7 23 rfl) rfl
theorem q1512 : (Jvm.Cond.methodLink "java/lang/String" (106 : Nat) ({ cls := "java/lang/StringLatin1", name := "inflate", desc := "([BI[BII)V" } : Jvm.MethodName)) ∈ lw_all := lw_g (lw_at lw_m7 24 rfl) rfl
theorem q2177 : (Jvm.Cond.selects "java/lang/String" ({ cls := "java/lang/String", name := "equals", desc := "(Ljava/lang/Object;)Z" } : Jvm.MethodName) ({ cls := "java/lang/String", name := "equals", desc := "(Ljava/lang/Object;)Z" } : Jvm.MethodName)) ∈ lw_all := lw_g (lw_at lw_m9 209 rfl) rfl
theorem q2206 : (Jvm.Cond.castable "java/lang/String" "java/lang/Object") ∈ lw_tbl := lw_at lw_m9 238 rfl
theorem in_J3 : ∀ w ∈ wsJ30, w ∈ lw_all := lw_in wsJ30 [464, 466, 468, 470] (by decide +kernel) (by decide +kernel)
/-! java/util/ConcurrentModificationException -/
set_option maxRecDepth 100000
def RJ30 : String := "java/util/ConcurrentModificationException"
def TJ30 : u_T := fun k => match k with
  | 0 => ("java/lang/Throwable", "cause", "Ljava/lang/Throwable;", false)
  | 1 => ("java/lang/Throwable", "stackTrace", "[Ljava/lang/StackTraceElement;", false)
  | 2 => ("java/lang/Throwable", "suppressedExceptions", "Ljava/util/List;", false)
  | 3 => ("java/lang/Throwable", "detailMessage", "Ljava/lang/String;", false)
  | 4 => ("java/lang/Throwable", "backtrace", "Ljava/lang/Object;", false)
  | _ => ("java/lang/Throwable", "depth", "I", false)
def tyJ30 : Nat → FieldType := fun k => match k with
  | 0 => .object "java/lang/Throwable"
  | 1 => .array (.object "java/lang/StackTraceElement")
  | 2 => .object "java/util/List"
  | 3 => .object "java/lang/String"
  | 4 => .object "java/lang/Object"
  | _ => .int
abbrev wsJ300 : List Cond := u_ws RJ30 TJ30 6
theorem nmJ30 : ∀ a, a < 6 → ∀ b, b < 6 → a ≠ b → (TJ30 a).2.1 ≠ (TJ30 b).2.1 := by decide +kernel
theorem tyJ30_ok : ∀ k, k < 6 → parseFieldDescriptor (TJ30 k).2.2.1 = some (tyJ30 k) := by decide +kernel
abbrev cJ30_init : ByteArray := prog_54_method_1_code
def yJ30_init : MethodName := ⟨RJ30, "<init>", "()V"⟩
theorem dJ30_init_0 : decode cJ30_init 0 = .ok (.aload_n 0, 1) := by decide +kernel
theorem dJ30_init_1 : decode cJ30_init 1 = .ok (.invokespecial 1, 3) := by decide +kernel
theorem dJ30_init_4 : decode cJ30_init 4 = .ok (.return_, 1) := by decide +kernel
theorem q94 : (Jvm.Cond.initialized "java/util/ConcurrentModificationException") ∈ lw_all := lw_g (lw_at lw_m1 46 rfl) rfl
theorem q547 : (Jvm.Cond.selects "java/util/ConcurrentModificationException" ({ cls := "java/lang/Throwable", name := "fillInStackTrace", desc := "()Ljava/lang/Throwable;" } : Jvm.MethodName) ({ cls := "java/lang/Throwable", name := "fillInStackTrace", desc := "()Ljava/lang/Throwable;" } : Jvm.MethodName)) ∈ lw_all := lw_g (lw_at lw_m3 19 rfl) rfl
theorem q1416 : (Jvm.Cond.selects "java/util/ConcurrentModificationException" ({ cls := "java/lang/Throwable", name := "toString", desc := "()Ljava/lang/String;" } : Jvm.MethodName) ({ cls := "java/lang/Throwable", name := "toString", desc := "()Ljava/lang/String;" } : Jvm.MethodName)) ∈ lw_all := lw_g (lw_at lw_m6 168 rfl) rfl
theorem q1444 : (Jvm.Cond.selects "java/util/ConcurrentModificationException" ({ cls := "java/lang/Object", name := "getClass", desc := "()Ljava/lang/Class;" } : Jvm.MethodName) ({ cls := "java/lang/Object", name := "getClass", desc := "()Ljava/lang/Class;" } : Jvm.MethodName)) ∈ lw_all := lw_g (lw_at lw_m6 196 rfl) rfl
theorem q1454 : (Jvm.Cond.selects "java/util/ConcurrentModificationException" ({ cls := "java/lang/Throwable", name := "getLocalizedMessage", desc := "()Ljava/lang/String;" } : Jvm.MethodName) ({ cls := "java/lang/Throwable", name := "getLocalizedMessage", desc := "()Ljava/lang/String;" } : Jvm.MethodName)) ∈ lw_all := lw_g (lw_at lw_m6 206 rfl) rfl
theorem q1470 : (Jvm.Cond.selects "java/util/ConcurrentModificationException" ({ cls := "java/lang/Throwable", name := "getMessage", desc := "()Ljava/lang/String;" } : Jvm.MethodName) ({ cls := "java/lang/Throwable", name := "getMessage", desc := "()Ljava/lang/String;" } : Jvm.MethodName)) ∈ lw_all := lw_g (lw_at lw_m6 222 rfl) rfl
theorem q1648 : (Jvm.Cond.instantiable "java/util/ConcurrentModificationException" (6 : Nat)) ∈ lw_all := lw_g (lw_at lw_m7 160 rfl) rfl
theorem q1649 : (Jvm.Cond.castable "java/util/ConcurrentModificationException" "java/util/ConcurrentModificationException") ∈ lw_tbl := lw_at lw_m7 161 rfl
theorem q1650 : (Jvm.Cond.selects "java/util/ConcurrentModificationException" ({ cls := "java/lang/Throwable", name := "fillInStackTrace", desc := "(I)Ljava/lang/Throwable;" } : Jvm.MethodName) ({ cls := "java/lang/Throwable", name := "fillInStackTrace", desc := "(I)Ljava/lang/Throwable;" } : Jvm.MethodName)) ∈ lw_all := lw_g (lw_at lw_m7 162 rfl) rfl
theorem q1651 : (Jvm.Cond.lays "java/util/ConcurrentModificationException" "java/lang/Throwable" "cause" "Ljava/lang/Throwable;") ∈ lw_all := lw_g (lw_at lw_m7 163 rfl) rfl
theorem q1652 : (Jvm.Cond.lays "java/util/ConcurrentModificationException" "java/lang/Throwable" "stackTrace" "[Ljava/lang/StackTraceElement;") ∈ lw_all := lw_g (lw_at lw_m7 164 rfl) rfl
theorem q1653 : (Jvm.Cond.lays "java/util/ConcurrentModificationException" "java/lang/Throwable" "suppressedExceptions" "Ljava/util/List;") ∈ lw_all := lw_g (lw_at lw_m7 165 rfl) rfl
theorem q1654 : (Jvm.Cond.lays "java/util/ConcurrentModificationException" "java/lang/Throwable" "detailMessage" "Ljava/lang/String;") ∈ lw_all := lw_g (lw_at lw_m7 166 rfl) rfl
theorem q1655 : (Jvm.Cond.lays "java/util/ConcurrentModificationException" "java/lang/Throwable" "backtrace" "Ljava/lang/Object;") ∈ lw_all := lw_g (lw_at lw_m7 167 rfl) rfl
theorem q1657 : (Jvm.Cond.instanceMethod ({ cls := "java/util/ConcurrentModificationException", name := "<init>", desc := "()V" } : Jvm.MethodName)) ∈ lw_all := lw_g (lw_at lw_m7 169 rfl) rfl
theorem q1658 : (Jvm.Cond.code ({ cls := "java/util/ConcurrentModificationException", name := "<init>", desc := "()V" } : Jvm.MethodName) prog_54_method_1_code (1 : Nat) (Option.none : Option Jvm.ClassFile.FieldType)) ∈ lw_all := lw_g (lw_at lw_m7 170 rfl) rfl
theorem q1659 : (Jvm.Cond.methodLink "java/util/ConcurrentModificationException" (1 : Nat) ({ cls := "java/lang/RuntimeException", name := "<init>", desc := "()V" } : Jvm.MethodName)) ∈ lw_all := lw_g (lw_at lw_m7 171 rfl) rfl
theorem q1660 : (Jvm.Cond.lays "java/util/ConcurrentModificationException" "java/lang/Throwable" "depth" "I") ∈ lw_all := lw_g (lw_at lw_m7 172 rfl) rfl
theorem q1661 : (Jvm.Cond.superclass "java/util/ConcurrentModificationException" "java/lang/RuntimeException") ∈ lw_all := lw_g (lw_at lw_m7 173 rfl) rfl
theorem q2226 : (Jvm.Cond.castable "java/util/ConcurrentModificationException" "java/lang/Object") ∈ lw_tbl := lw_at lw_m10 18 rfl
theorem in_J30 : ∀ w ∈ wsJ300, w ∈ lw_all := lw_in wsJ300 [1651, 1652, 1653, 1654, 1655, 1660] (by decide +kernel) (by decide +kernel)
/-! java/lang/IllegalStateException -/
set_option maxRecDepth 100000
def RJ31 : String := "java/lang/IllegalStateException"
def TJ31 : u_T := fun k => match k with
  | 0 => ("java/lang/Throwable", "cause", "Ljava/lang/Throwable;", false)
  | 1 => ("java/lang/Throwable", "stackTrace", "[Ljava/lang/StackTraceElement;", false)
  | 2 => ("java/lang/Throwable", "suppressedExceptions", "Ljava/util/List;", false)
  | 3 => ("java/lang/Throwable", "detailMessage", "Ljava/lang/String;", false)
  | 4 => ("java/lang/Throwable", "backtrace", "Ljava/lang/Object;", false)
  | _ => ("java/lang/Throwable", "depth", "I", false)
def tyJ31 : Nat → FieldType := fun k => match k with
  | 0 => .object "java/lang/Throwable"
  | 1 => .array (.object "java/lang/StackTraceElement")
  | 2 => .object "java/util/List"
  | 3 => .object "java/lang/String"
  | 4 => .object "java/lang/Object"
  | _ => .int
abbrev wsJ310 : List Cond := u_ws RJ31 TJ31 6
theorem nmJ31 : ∀ a, a < 6 → ∀ b, b < 6 → a ≠ b → (TJ31 a).2.1 ≠ (TJ31 b).2.1 := by decide +kernel
theorem tyJ31_ok : ∀ k, k < 6 → parseFieldDescriptor (TJ31 k).2.2.1 = some (tyJ31 k) := by decide +kernel
abbrev cJ31_init : ByteArray := prog_28_method_1_code
def yJ31_init : MethodName := ⟨RJ31, "<init>", "()V"⟩
theorem dJ31_init_0 : decode cJ31_init 0 = .ok (.aload_n 0, 1) := by decide +kernel
theorem dJ31_init_1 : decode cJ31_init 1 = .ok (.invokespecial 1, 3) := by decide +kernel
theorem dJ31_init_4 : decode cJ31_init 4 = .ok (.return_, 1) := by decide +kernel
theorem q95 : (Jvm.Cond.initialized "java/lang/IllegalStateException") ∈ lw_all := lw_g (lw_at lw_m1 47 rfl) rfl
theorem q527 : (Jvm.Cond.selects "java/lang/IllegalStateException" ({ cls := "java/lang/Throwable", name := "fillInStackTrace", desc := "()Ljava/lang/Throwable;" } : Jvm.MethodName) ({ cls := "java/lang/Throwable", name := "fillInStackTrace", desc := "()Ljava/lang/Throwable;" } : Jvm.MethodName)) ∈ lw_all := lw_g (lw_at lw_m2 239 rfl) rfl
theorem q622 : (Jvm.Cond.selects "java/lang/IllegalStateException" ({ cls := "java/lang/Object", name := "equals", desc := "(Ljava/lang/Object;)Z" } : Jvm.MethodName) ({ cls := "java/lang/Object", name := "equals", desc := "(Ljava/lang/Object;)Z" } : Jvm.MethodName)) ∈ lw_all := lw_g (lw_at lw_m3 94 rfl) rfl
theorem q1414 : (Jvm.Cond.selects "java/lang/IllegalStateException" ({ cls := "java/lang/Throwable", name := "toString", desc := "()Ljava/lang/String;" } : Jvm.MethodName) ({ cls := "java/lang/Throwable", name := "toString", desc := "()Ljava/lang/String;" } : Jvm.MethodName)) ∈ lw_all := lw_g (lw_at lw_m6 166 rfl) rfl
theorem q1435 : (Jvm.Cond.selects "java/lang/IllegalStateException" ({ cls := "java/lang/Object", name := "getClass", desc := "()Ljava/lang/Class;" } : Jvm.MethodName) ({ cls := "java/lang/Object", name := "getClass", desc := "()Ljava/lang/Class;" } : Jvm.MethodName)) ∈ lw_all := lw_g (lw_at lw_m6 187 rfl) rfl
theorem q1452 : (Jvm.Cond.selects "java/lang/IllegalStateException" ({ cls := "java/lang/Throwable", name := "getLocalizedMessage", desc := "()Ljava/lang/String;" } : Jvm.MethodName) ({ cls := "java/lang/Throwable", name := "getLocalizedMessage", desc := "()Ljava/lang/String;" } : Jvm.MethodName)) ∈ lw_all := lw_g (lw_at lw_m6 204 rfl) rfl
theorem q1462 : (Jvm.Cond.selects "java/lang/IllegalStateException" ({ cls := "java/lang/Throwable", name := "getMessage", desc := "()Ljava/lang/String;" } : Jvm.MethodName) ({ cls := "java/lang/Throwable", name := "getMessage", desc := "()Ljava/lang/String;" } : Jvm.MethodName)) ∈ lw_all := lw_g (lw_at lw_m6 214 rfl) rfl
theorem q1688 : (Jvm.Cond.instantiable "java/lang/IllegalStateException" (6 : Nat)) ∈ lw_all := lw_g (lw_at lw_m7 200 rfl) rfl
theorem q1689 : (Jvm.Cond.castable "java/lang/IllegalStateException" "java/lang/IllegalStateException") ∈ lw_tbl := lw_at lw_m7 201 rfl
theorem q1690 : (Jvm.Cond.selects "java/lang/IllegalStateException" ({ cls := "java/lang/Throwable", name := "fillInStackTrace", desc := "(I)Ljava/lang/Throwable;" } : Jvm.MethodName) ({ cls := "java/lang/Throwable", name := "fillInStackTrace", desc := "(I)Ljava/lang/Throwable;" } : Jvm.MethodName)) ∈ lw_all := lw_g (lw_at lw_m7 202 rfl) rfl
theorem q1691 : (Jvm.Cond.lays "java/lang/IllegalStateException" "java/lang/Throwable" "cause" "Ljava/lang/Throwable;") ∈ lw_all := lw_g (lw_at lw_m7 203 rfl) rfl
theorem q1692 : (Jvm.Cond.lays "java/lang/IllegalStateException" "java/lang/Throwable" "stackTrace" "[Ljava/lang/StackTraceElement;") ∈ lw_all := lw_g (lw_at lw_m7 204 rfl) rfl
theorem q1693 : (Jvm.Cond.lays "java/lang/IllegalStateException" "java/lang/Throwable" "suppressedExceptions" "Ljava/util/List;") ∈ lw_all := lw_g (lw_at lw_m7 205 rfl) rfl
theorem q1694 : (Jvm.Cond.lays "java/lang/IllegalStateException" "java/lang/Throwable" "detailMessage" "Ljava/lang/String;") ∈ lw_all := lw_g (lw_at lw_m7 206 rfl) rfl
theorem q1695 : (Jvm.Cond.lays "java/lang/IllegalStateException" "java/lang/Throwable" "backtrace" "Ljava/lang/Object;") ∈ lw_all := lw_g (lw_at lw_m7 207 rfl) rfl
theorem q1697 : (Jvm.Cond.instanceMethod ({ cls := "java/lang/IllegalStateException", name := "<init>", desc := "()V" } : Jvm.MethodName)) ∈ lw_all := lw_g (lw_at lw_m7 209 rfl) rfl
theorem q1698 : (Jvm.Cond.code ({ cls := "java/lang/IllegalStateException", name := "<init>", desc := "()V" } : Jvm.MethodName) prog_28_method_1_code (1 : Nat) (Option.none : Option Jvm.ClassFile.FieldType)) ∈ lw_all := lw_g (lw_at lw_m7 210 rfl) rfl
theorem q1699 : (Jvm.Cond.methodLink "java/lang/IllegalStateException" (1 : Nat) ({ cls := "java/lang/RuntimeException", name := "<init>", desc := "()V" } : Jvm.MethodName)) ∈ lw_all := lw_g (lw_at lw_m7 211 rfl) rfl
theorem q1700 : (Jvm.Cond.lays "java/lang/IllegalStateException" "java/lang/Throwable" "depth" "I") ∈ lw_all := lw_g (lw_at lw_m7 212 rfl) rfl
theorem q1701 : (Jvm.Cond.superclass "java/lang/IllegalStateException" "java/lang/RuntimeException") ∈ lw_all := lw_g (lw_at lw_m7 213 rfl) rfl
theorem q2227 : (Jvm.Cond.castable "java/lang/IllegalStateException" "java/lang/Object") ∈ lw_tbl := lw_at lw_m10 19 rfl
theorem in_J31 : ∀ w ∈ wsJ310, w ∈ lw_all := lw_in wsJ310 [1691, 1692, 1693, 1694, 1695, 1700] (by decide +kernel) (by decide +kernel)
/-! java/lang/Object -/
set_option maxRecDepth 100000
def RJ32 : String := "java/lang/Object"
abbrev cJ32_init : ByteArray := object_method_1_code
def yJ32_init : MethodName := ⟨RJ32, "<init>", "()V"⟩
theorem dJ32_init_0 : decode cJ32_init 0 = .ok (.return_, 1) := by decide +kernel
abbrev cJ32_equals : ByteArray := object_method_4_code
def yJ32_equals : MethodName := ⟨RJ32, "equals", "(Ljava/lang/Object;)Z"⟩
def dkwJ32_equals_0 : List UInt8 := [42, 43, 166, 0, 7, 4, 167, 0, 4, 3, 172]
abbrev dktJ32_equals_0 : List UInt8 := dkwJ32_equals_0 ++ []
theorem dksJ32_equals_0 : cJ32_equals.data.toList.drop 0 = dktJ32_equals_0 := by decide +kernel
theorem dJ32_equals_0 : decode cJ32_equals 0 = .ok (.aload_n 0, 1) := dk_42 (dk_at dksJ32_equals_0 0 rfl rfl)
theorem dJ32_equals_1 : decode cJ32_equals 1 = .ok (.aload_n 1, 1) := dk_43 (dk_at dksJ32_equals_0 1 rfl rfl)
theorem dJ32_equals_2 : decode cJ32_equals 2 = .ok (.if_acmp .ne 7, 3) := dk_166 0 7 (dk_at dksJ32_equals_0 2 rfl rfl)
theorem dJ32_equals_5 : decode cJ32_equals 5 = .ok (.iconst 1, 1) := dk_4 (dk_at dksJ32_equals_0 5 rfl rfl)
theorem dJ32_equals_6 : decode cJ32_equals 6 = .ok (.goto 4, 3) := dk_167 0 4 (dk_at dksJ32_equals_0 6 rfl rfl)
theorem dJ32_equals_9 : decode cJ32_equals 9 = .ok (.iconst 0, 1) := dk_3 (dk_at dksJ32_equals_0 9 rfl rfl)
theorem dJ32_equals_10 : decode cJ32_equals 10 = .ok (.ireturn, 1) := dk_172 (dk_at dksJ32_equals_0 10 rfl rfl)
theorem q102 : (Jvm.Cond.instanceMethod ({ cls := "java/lang/Object", name := "<init>", desc := "()V" } : Jvm.MethodName)) ∈ lw_all := lw_g (lw_at lw_m1 54 rfl) rfl
theorem q103 : (Jvm.Cond.code ({ cls := "java/lang/Object", name := "<init>", desc := "()V" } : Jvm.MethodName) object_method_1_code (1 : Nat) (Option.none : Option Jvm.ClassFile.FieldType)) ∈ lw_all := lw_g (lw_at lw_m1 55 rfl) rfl
theorem q350 : (Jvm.Cond.native ({ cls := "java/lang/Object", name := "clone", desc := "()Ljava/lang/Object;" } : Jvm.MethodName)) ∈ lw_all := lw_g (lw_at lw_m2 62 rfl) rfl
theorem q351 : (Jvm.Cond.instanceMethod ({ cls := "java/lang/Object", name := "clone", desc := "()Ljava/lang/Object;" } : Jvm.MethodName)) ∈ lw_all := lw_g (lw_at lw_m2 63 rfl) rfl
theorem q605 : (Jvm.Cond.declares ({ cls := "java/lang/Object", name := "equals", desc := "(Ljava/lang/Object;)Z" } : Jvm.MethodName)) ∈ lw_tbl := lw_at lw_m3 77 rfl
theorem q607 : (Jvm.Cond.instanceMethod ({ cls := "java/lang/Object", name := "equals", desc := "(Ljava/lang/Object;)Z" } : Jvm.MethodName)) ∈ lw_all := lw_g (lw_at lw_m3 79 rfl) rfl
theorem q608 : (Jvm.Cond.sameMethod "java/lang/Object" "java/lang/Object" "equals" "(Ljava/lang/Object;)Z") ∈ lw_all := lw_g (lw_at lw_m3 80 rfl) rfl
theorem q640 : (Jvm.Cond.code ({ cls := "java/lang/Object", name := "equals", desc := "(Ljava/lang/Object;)Z" } : Jvm.MethodName) object_method_4_code (2 : Nat) (Option.some Jvm.ClassFile.FieldType.boolean)) ∈ lw_all := lw_g (lw_at lw_m3 112 rfl) rfl
theorem q1420 : (Jvm.Cond.instanceMethod ({ cls := "java/lang/Object", name := "getClass", desc := "()Ljava/lang/Class;" } : Jvm.MethodName)) ∈ lw_all := lw_g (lw_at lw_m6 172 rfl) rfl
theorem q1421 : (Jvm.Cond.sameMethod "java/lang/Object" "java/lang/Object" "getClass" "()Ljava/lang/Class;") ∈ lw_all := lw_g (lw_at lw_m6 173 rfl) rfl
theorem q1446 : (Jvm.Cond.native ({ cls := "java/lang/Object", name := "getClass", desc := "()Ljava/lang/Class;" } : Jvm.MethodName)) ∈ lw_all := lw_g (lw_at lw_m6 198 rfl) rfl
theorem q2194 : (Jvm.Cond.initialized "java/lang/Object") ∈ lw_all := lw_g (lw_at lw_m9 226 rfl) rfl
theorem q2232 : (Jvm.Cond.declares ({ cls := "java/lang/Object", name := "getClass", desc := "()Ljava/lang/Class;" } : Jvm.MethodName)) ∈ lw_tbl := lw_at lw_m10 24 rfl
/-! java/lang/StringUTF16 -/
set_option maxRecDepth 100000
def RJ4 : String := "java/lang/StringUTF16"
abbrev cJ4_newBytesFor : ByteArray := prog_39_method_2_code
def yJ4_newBytesFor : MethodName := ⟨RJ4, "newBytesFor", "(I)[B"⟩
def dkwJ4_newBytesFor_0 : List UInt8 := [26, 184, 0, 11, 188, 8, 176]
abbrev dktJ4_newBytesFor_0 : List UInt8 := dkwJ4_newBytesFor_0 ++ []
theorem dksJ4_newBytesFor_0 : cJ4_newBytesFor.data.toList.drop 0 = dktJ4_newBytesFor_0 := by decide +kernel
theorem dJ4_newBytesFor_0 : decode cJ4_newBytesFor 0 = .ok (.iload_n 0, 1) := dk_26 (dk_at dksJ4_newBytesFor_0 0 rfl rfl)
theorem dJ4_newBytesFor_1 : decode cJ4_newBytesFor 1 = .ok (.invokestatic 11, 3) := dk_184 0 11 (dk_at dksJ4_newBytesFor_0 1 rfl rfl)
theorem dJ4_newBytesFor_4 : decode cJ4_newBytesFor 4 = .ok (.newarray .byte, 2) := dk_188_8 (dk_at dksJ4_newBytesFor_0 4 rfl rfl)
theorem dJ4_newBytesFor_6 : decode cJ4_newBytesFor 6 = .ok (.areturn, 1) := dk_176 (dk_at dksJ4_newBytesFor_0 6 rfl rfl)
abbrev cJ4_newBytesLength : ByteArray := prog_39_method_3_code
def yJ4_newBytesLength : MethodName := ⟨RJ4, "newBytesLength", "(I)I"⟩
def dkwJ4_newBytesLength_2 : List UInt8 := [182, 0, 32, 182, 0, 37, 183, 0, 41, 191, 26, 4, 120, 172]
abbrev dktJ4_newBytesLength_2 : List UInt8 := dkwJ4_newBytesLength_2 ++ []
def dkwJ4_newBytesLength_1 : List UInt8 := [187, 0, 23, 89, 183, 0, 25, 18, 26, 182, 0, 28, 26, 182, 0, 32, 18, 35, 182, 0, 28, 18, 20]
abbrev dktJ4_newBytesLength_1 : List UInt8 := dkwJ4_newBytesLength_1 ++ dktJ4_newBytesLength_2
def dkwJ4_newBytesLength_0 : List UInt8 := [26, 156, 0, 11, 187, 0, 17, 89, 183, 0, 19, 191, 26, 18, 20, 161, 0, 40, 187, 0, 21, 89]
abbrev dktJ4_newBytesLength_0 : List UInt8 := dkwJ4_newBytesLength_0 ++ dktJ4_newBytesLength_1
theorem dksJ4_newBytesLength_0 : cJ4_newBytesLength.data.toList.drop 0 = dktJ4_newBytesLength_0 := by decide +kernel
theorem dksJ4_newBytesLength_1 : cJ4_newBytesLength.data.toList.drop 22 = dktJ4_newBytesLength_1 := dk_seg dksJ4_newBytesLength_0 22 rfl rfl
theorem dksJ4_newBytesLength_2 : cJ4_newBytesLength.data.toList.drop 45 = dktJ4_newBytesLength_2 := dk_seg dksJ4_newBytesLength_1 23 rfl rfl
theorem dJ4_newBytesLength_0 : decode cJ4_newBytesLength 0 = .ok (.iload_n 0, 1) := dk_26 (dk_at dksJ4_newBytesLength_0 0 rfl rfl)
theorem dJ4_newBytesLength_1 : decode cJ4_newBytesLength 1 = .ok (.ifCond .ge 11, 3) := dk_156 0 11 (dk_at dksJ4_newBytesLength_0 1 rfl rfl)
theorem dJ4_newBytesLength_4 : decode cJ4_newBytesLength 4 = .ok (.new 17, 3) := dk_187 0 17 (dk_at dksJ4_newBytesLength_0 4 rfl rfl)
theorem dJ4_newBytesLength_7 : decode cJ4_newBytesLength 7 = .ok (.dup, 1) := dk_89 (dk_at dksJ4_newBytesLength_0 7 rfl rfl)
theorem dJ4_newBytesLength_8 : decode cJ4_newBytesLength 8 = .ok (.invokespecial 19, 3) := dk_183 0 19 (dk_at dksJ4_newBytesLength_0 8 rfl rfl)
theorem dJ4_newBytesLength_11 : decode cJ4_newBytesLength 11 = .ok (.athrow, 1) := dk_191 (dk_at dksJ4_newBytesLength_0 11 rfl rfl)
theorem dJ4_newBytesLength_12 : decode cJ4_newBytesLength 12 = .ok (.iload_n 0, 1) := dk_26 (dk_at dksJ4_newBytesLength_0 12 rfl rfl)
theorem dJ4_newBytesLength_13 : decode cJ4_newBytesLength 13 = .ok (.ldc 20, 2) := dk_18 20 (dk_at dksJ4_newBytesLength_0 13 rfl rfl)
theorem dJ4_newBytesLength_15 : decode cJ4_newBytesLength 15 = .ok (.if_icmp .lt 40, 3) := dk_161 0 40 (dk_at dksJ4_newBytesLength_0 15 rfl rfl)
theorem dJ4_newBytesLength_18 : decode cJ4_newBytesLength 18 = .ok (.new 21, 3) := dk_187 0 21 (dk_at dksJ4_newBytesLength_0 18 rfl rfl)
theorem dJ4_newBytesLength_21 : decode cJ4_newBytesLength 21 = .ok (.dup, 1) := dk_89 (dk_at dksJ4_newBytesLength_0 21 rfl rfl)
theorem dJ4_newBytesLength_22 : decode cJ4_newBytesLength 22 = .ok (.new 23, 3) := dk_187 0 23 (dk_at dksJ4_newBytesLength_1 0 rfl rfl)
theorem dJ4_newBytesLength_25 : decode cJ4_newBytesLength 25 = .ok (.dup, 1) := dk_89 (dk_at dksJ4_newBytesLength_1 3 rfl rfl)
theorem dJ4_newBytesLength_26 : decode cJ4_newBytesLength 26 = .ok (.invokespecial 25, 3) := dk_183 0 25 (dk_at dksJ4_newBytesLength_1 4 rfl rfl)
theorem dJ4_newBytesLength_29 : decode cJ4_newBytesLength 29 = .ok (.ldc 26, 2) := dk_18 26 (dk_at dksJ4_newBytesLength_1 7 rfl rfl)
theorem dJ4_newBytesLength_31 : decode cJ4_newBytesLength 31 = .ok (.invokevirtual 28, 3) := dk_182 0 28 (dk_at dksJ4_newBytesLength_1 9 rfl rfl)
theorem dJ4_newBytesLength_34 : decode cJ4_newBytesLength 34 = .ok (.iload_n 0, 1) := dk_26 (dk_at dksJ4_newBytesLength_1 12 rfl rfl)
theorem dJ4_newBytesLength_35 : decode cJ4_newBytesLength 35 = .ok (.invokevirtual 32, 3) := dk_182 0 32 (dk_at dksJ4_newBytesLength_1 13 rfl rfl)
theorem dJ4_newBytesLength_38 : decode cJ4_newBytesLength 38 = .ok (.ldc 35, 2) := dk_18 35 (dk_at dksJ4_newBytesLength_1 16 rfl rfl)
theorem dJ4_newBytesLength_40 : decode cJ4_newBytesLength 40 = .ok (.invokevirtual 28, 3) := dk_182 0 28 (dk_at dksJ4_newBytesLength_1 18 rfl rfl)
theorem dJ4_newBytesLength_43 : decode cJ4_newBytesLength 43 = .ok (.ldc 20, 2) := dk_18 20 (dk_at dksJ4_newBytesLength_1 21 rfl rfl)
theorem dJ4_newBytesLength_45 : decode cJ4_newBytesLength 45 = .ok (.invokevirtual 32, 3) := dk_182 0 32 (dk_at dksJ4_newBytesLength_2 0 rfl rfl)
theorem dJ4_newBytesLength_48 : decode cJ4_newBytesLength 48 = .ok (.invokevirtual 37, 3) := dk_182 0 37 (dk_at dksJ4_newBytesLength_2 3 rfl rfl)
theorem dJ4_newBytesLength_51 : decode cJ4_newBytesLength 51 = .ok (.invokespecial 41, 3) := dk_183 0 41 (dk_at dksJ4_newBytesLength_2 6 rfl rfl)
theorem dJ4_newBytesLength_54 : decode cJ4_newBytesLength 54 = .ok (.athrow, 1) := dk_191 (dk_at dksJ4_newBytesLength_2 9 rfl rfl)
theorem dJ4_newBytesLength_55 : decode cJ4_newBytesLength 55 = .ok (.iload_n 0, 1) := dk_26 (dk_at dksJ4_newBytesLength_2 10 rfl rfl)
theorem dJ4_newBytesLength_56 : decode cJ4_newBytesLength 56 = .ok (.iconst 1, 1) := dk_4 (dk_at dksJ4_newBytesLength_2 11 rfl rfl)
theorem dJ4_newBytesLength_57 : decode cJ4_newBytesLength 57 = .ok (.ishl, 1) := dk_120 (dk_at dksJ4_newBytesLength_2 12 rfl rfl)
theorem dJ4_newBytesLength_58 : decode cJ4_newBytesLength 58 = .ok (.ireturn, 1) := dk_172 (dk_at dksJ4_newBytesLength_2 13 rfl rfl)
abbrev cJ4_inflate : ByteArray := prog_39_method_86_code
def yJ4_inflate : MethodName := ⟨RJ4, "inflate", "([BI[BII)V"⟩
def dkwJ4_inflate_1 : List UInt8 := [132, 1, 1, 51, 17, 0, 255, 126, 184, 0, 111, 132, 5, 1, 167, 255, 228, 177]
abbrev dktJ4_inflate_1 : List UInt8 := dkwJ4_inflate_1 ++ []
def dkwJ4_inflate_0 : List UInt8 := [29, 21, 4, 44, 184, 0, 173, 3, 54, 5, 21, 5, 21, 4, 162, 0, 27, 44, 29, 132, 3, 1, 42, 27]
abbrev dktJ4_inflate_0 : List UInt8 := dkwJ4_inflate_0 ++ dktJ4_inflate_1
theorem dksJ4_inflate_0 : cJ4_inflate.data.toList.drop 0 = dktJ4_inflate_0 := by decide +kernel
theorem dksJ4_inflate_1 : cJ4_inflate.data.toList.drop 24 = dktJ4_inflate_1 := dk_seg dksJ4_inflate_0 24 rfl rfl
theorem dJ4_inflate_0 : decode cJ4_inflate 0 = .ok (.iload_n 3, 1) := dk_29 (dk_at dksJ4_inflate_0 0 rfl rfl)
theorem dJ4_inflate_1 : decode cJ4_inflate 1 = .ok (.iload 4, 2) := dk_21 4 (dk_at dksJ4_inflate_0 1 rfl rfl)
theorem dJ4_inflate_3 : decode cJ4_inflate 3 = .ok (.aload_n 2, 1) := dk_44 (dk_at dksJ4_inflate_0 3 rfl rfl)
theorem dJ4_inflate_4 : decode cJ4_inflate 4 = .ok (.invokestatic 173, 3) := dk_184 0 173 (dk_at dksJ4_inflate_0 4 rfl rfl)
theorem dJ4_inflate_7 : decode cJ4_inflate 7 = .ok (.iconst 0, 1) := dk_3 (dk_at dksJ4_inflate_0 7 rfl rfl)
theorem dJ4_inflate_8 : decode cJ4_inflate 8 = .ok (.istore 5, 2) := dk_54 5 (dk_at dksJ4_inflate_0 8 rfl rfl)
theorem dJ4_inflate_10 : decode cJ4_inflate 10 = .ok (.iload 5, 2) := dk_21 5 (dk_at dksJ4_inflate_0 10 rfl rfl)
theorem dJ4_inflate_12 : decode cJ4_inflate 12 = .ok (.iload 4, 2) := dk_21 4 (dk_at dksJ4_inflate_0 12 rfl rfl)
theorem dJ4_inflate_14 : decode cJ4_inflate 14 = .ok (.if_icmp .ge 27, 3) := dk_162 0 27 (dk_at dksJ4_inflate_0 14 rfl rfl)
theorem dJ4_inflate_17 : decode cJ4_inflate 17 = .ok (.aload_n 2, 1) := dk_44 (dk_at dksJ4_inflate_0 17 rfl rfl)
theorem dJ4_inflate_18 : decode cJ4_inflate 18 = .ok (.iload_n 3, 1) := dk_29 (dk_at dksJ4_inflate_0 18 rfl rfl)
theorem dJ4_inflate_19 : decode cJ4_inflate 19 = .ok (.iinc 3 1, 3) := dk_132 3 1 (dk_at dksJ4_inflate_0 19 rfl rfl)
theorem dJ4_inflate_22 : decode cJ4_inflate 22 = .ok (.aload_n 0, 1) := dk_42 (dk_at dksJ4_inflate_0 22 rfl rfl)
theorem dJ4_inflate_23 : decode cJ4_inflate 23 = .ok (.iload_n 1, 1) := dk_27 (dk_at dksJ4_inflate_0 23 rfl rfl)
theorem dJ4_inflate_24 : decode cJ4_inflate 24 = .ok (.iinc 1 1, 3) := dk_132 1 1 (dk_at dksJ4_inflate_1 0 rfl rfl)
theorem dJ4_inflate_27 : decode cJ4_inflate 27 = .ok (.baload, 1) := dk_51 (dk_at dksJ4_inflate_1 3 rfl rfl)
theorem dJ4_inflate_28 : decode cJ4_inflate 28 = .ok (.sipush 255, 3) := dk_17 0 255 (dk_at dksJ4_inflate_1 4 rfl rfl)
theorem dJ4_inflate_31 : decode cJ4_inflate 31 = .ok (.iand, 1) := dk_126 (dk_at dksJ4_inflate_1 7 rfl rfl)
theorem dJ4_inflate_32 : decode cJ4_inflate 32 = .ok (.invokestatic 111, 3) := dk_184 0 111 (dk_at dksJ4_inflate_1 8 rfl rfl)
theorem dJ4_inflate_35 : decode cJ4_inflate 35 = .ok (.iinc 5 1, 3) := dk_132 5 1 (dk_at dksJ4_inflate_1 11 rfl rfl)
theorem dJ4_inflate_38 : decode cJ4_inflate 38 = .ok (.goto (-28), 3) := dk_167 255 228 (dk_at dksJ4_inflate_1 14 rfl rfl)
theorem dJ4_inflate_41 : decode cJ4_inflate 41 = .ok (.return_, 1) := dk_177 (dk_at dksJ4_inflate_1 17 rfl rfl)
abbrev cJ4_checkBoundsOffCount : ByteArray := prog_39_method_94_code
def yJ4_checkBoundsOffCount : MethodName := ⟨RJ4, "checkBoundsOffCount", "(II[B)V"⟩
def dkwJ4_checkBoundsOffCount_0 : List UInt8 := [26, 27, 44, 184, 0, 48, 184, 1, 163, 87, 177]
abbrev dktJ4_checkBoundsOffCount_0 : List UInt8 := dkwJ4_checkBoundsOffCount_0 ++ []
theorem dksJ4_checkBoundsOffCount_0 : cJ4_checkBoundsOffCount.data.toList.drop 0 = dktJ4_checkBoundsOffCount_0 := by decide +kernel
theorem dJ4_checkBoundsOffCount_0 : decode cJ4_checkBoundsOffCount 0 = .ok (.iload_n 0, 1) := dk_26 (dk_at dksJ4_checkBoundsOffCount_0 0 rfl rfl)
theorem dJ4_checkBoundsOffCount_1 : decode cJ4_checkBoundsOffCount 1 = .ok (.iload_n 1, 1) := dk_27 (dk_at dksJ4_checkBoundsOffCount_0 1 rfl rfl)
theorem dJ4_checkBoundsOffCount_2 : decode cJ4_checkBoundsOffCount 2 = .ok (.aload_n 2, 1) := dk_44 (dk_at dksJ4_checkBoundsOffCount_0 2 rfl rfl)
theorem dJ4_checkBoundsOffCount_3 : decode cJ4_checkBoundsOffCount 3 = .ok (.invokestatic 48, 3) := dk_184 0 48 (dk_at dksJ4_checkBoundsOffCount_0 3 rfl rfl)
theorem dJ4_checkBoundsOffCount_6 : decode cJ4_checkBoundsOffCount 6 = .ok (.invokestatic 419, 3) := dk_184 1 163 (dk_at dksJ4_checkBoundsOffCount_0 6 rfl rfl)
theorem dJ4_checkBoundsOffCount_9 : decode cJ4_checkBoundsOffCount 9 = .ok (.pop, 1) := dk_87 (dk_at dksJ4_checkBoundsOffCount_0 9 rfl rfl)
theorem dJ4_checkBoundsOffCount_10 : decode cJ4_checkBoundsOffCount 10 = .ok (.return_, 1) := dk_177 (dk_at dksJ4_checkBoundsOffCount_0 10 rfl rfl)
abbrev cJ4_length : ByteArray := prog_39_method_6_code
def yJ4_length : MethodName := ⟨RJ4, "length", "([B)I"⟩
def dkwJ4_length_0 : List UInt8 := [42, 190, 4, 122, 172]
abbrev dktJ4_length_0 : List UInt8 := dkwJ4_length_0 ++ []
theorem dksJ4_length_0 : cJ4_length.data.toList.drop 0 = dktJ4_length_0 := by decide +kernel
theorem dJ4_length_0 : decode cJ4_length 0 = .ok (.aload_n 0, 1) := dk_42 (dk_at dksJ4_length_0 0 rfl rfl)
theorem dJ4_length_1 : decode cJ4_length 1 = .ok (.arraylength, 1) := dk_190 (dk_at dksJ4_length_0 1 rfl rfl)
theorem dJ4_length_2 : decode cJ4_length 2 = .ok (.iconst 1, 1) := dk_4 (dk_at dksJ4_length_0 2 rfl rfl)
theorem dJ4_length_3 : decode cJ4_length 3 = .ok (.ishr, 1) := dk_122 (dk_at dksJ4_length_0 3 rfl rfl)
theorem dJ4_length_4 : decode cJ4_length 4 = .ok (.ireturn, 1) := dk_172 (dk_at dksJ4_length_0 4 rfl rfl)
abbrev cJ4_putChar : ByteArray := prog_39_method_4_code
def yJ4_putChar : MethodName := ⟨RJ4, "putChar", "([BII)V"⟩
def dkwJ4_putChar_2 : List UInt8 := [178, 0, 63, 122, 145, 84, 177]
abbrev dktJ4_putChar_2 : List UInt8 := dkwJ4_putChar_2 ++ []
def dkwJ4_putChar_1 : List UInt8 := [183, 0, 56, 191, 27, 4, 120, 60, 42, 27, 132, 1, 1, 28, 178, 0, 59, 122, 145, 84, 42, 27, 28]
abbrev dktJ4_putChar_1 : List UInt8 := dkwJ4_putChar_1 ++ dktJ4_putChar_2
def dkwJ4_putChar_0 : List UInt8 := [178, 0, 44, 154, 0, 25, 27, 155, 0, 11, 27, 42, 184, 0, 48, 161, 0, 13, 187, 0, 52, 89, 18, 54]
abbrev dktJ4_putChar_0 : List UInt8 := dkwJ4_putChar_0 ++ dktJ4_putChar_1
theorem dksJ4_putChar_0 : cJ4_putChar.data.toList.drop 0 = dktJ4_putChar_0 := by decide +kernel
theorem dksJ4_putChar_1 : cJ4_putChar.data.toList.drop 24 = dktJ4_putChar_1 := dk_seg dksJ4_putChar_0 24 rfl rfl
theorem dksJ4_putChar_2 : cJ4_putChar.data.toList.drop 47 = dktJ4_putChar_2 := dk_seg dksJ4_putChar_1 23 rfl rfl
theorem dJ4_putChar_0 : decode cJ4_putChar 0 = .ok (.getstatic 44, 3) := dk_178 0 44 (dk_at dksJ4_putChar_0 0 rfl rfl)
theorem dJ4_putChar_3 : decode cJ4_putChar 3 = .ok (.ifCond .ne 25, 3) := dk_154 0 25 (dk_at dksJ4_putChar_0 3 rfl rfl)
theorem dJ4_putChar_6 : decode cJ4_putChar 6 = .ok (.iload_n 1, 1) := dk_27 (dk_at dksJ4_putChar_0 6 rfl rfl)
theorem dJ4_putChar_7 : decode cJ4_putChar 7 = .ok (.ifCond .lt 11, 3) := dk_155 0 11 (dk_at dksJ4_putChar_0 7 rfl rfl)
theorem dJ4_putChar_10 : decode cJ4_putChar 10 = .ok (.iload_n 1, 1) := dk_27 (dk_at dksJ4_putChar_0 10 rfl rfl)
theorem dJ4_putChar_11 : decode cJ4_putChar 11 = .ok (.aload_n 0, 1) := dk_42 (dk_at dksJ4_putChar_0 11 rfl rfl)
theorem dJ4_putChar_12 : decode cJ4_putChar 12 = .ok (.invokestatic 48, 3) := dk_184 0 48 (dk_at dksJ4_putChar_0 12 rfl rfl)
theorem dJ4_putChar_15 : decode cJ4_putChar 15 = .ok (.if_icmp .lt 13, 3) := dk_161 0 13 (dk_at dksJ4_putChar_0 15 rfl rfl)
theorem dJ4_putChar_18 : decode cJ4_putChar 18 = .ok (.new 52, 3) := dk_187 0 52 (dk_at dksJ4_putChar_0 18 rfl rfl)
theorem dJ4_putChar_21 : decode cJ4_putChar 21 = .ok (.dup, 1) := dk_89 (dk_at dksJ4_putChar_0 21 rfl rfl)
theorem dJ4_putChar_22 : decode cJ4_putChar 22 = .ok (.ldc 54, 2) := dk_18 54 (dk_at dksJ4_putChar_0 22 rfl rfl)
theorem dJ4_putChar_24 : decode cJ4_putChar 24 = .ok (.invokespecial 56, 3) := dk_183 0 56 (dk_at dksJ4_putChar_1 0 rfl rfl)
theorem dJ4_putChar_27 : decode cJ4_putChar 27 = .ok (.athrow, 1) := dk_191 (dk_at dksJ4_putChar_1 3 rfl rfl)
theorem dJ4_putChar_28 : decode cJ4_putChar 28 = .ok (.iload_n 1, 1) := dk_27 (dk_at dksJ4_putChar_1 4 rfl rfl)
theorem dJ4_putChar_29 : decode cJ4_putChar 29 = .ok (.iconst 1, 1) := dk_4 (dk_at dksJ4_putChar_1 5 rfl rfl)
theorem dJ4_putChar_30 : decode cJ4_putChar 30 = .ok (.ishl, 1) := dk_120 (dk_at dksJ4_putChar_1 6 rfl rfl)
theorem dJ4_putChar_31 : decode cJ4_putChar 31 = .ok (.istore_n 1, 1) := dk_60 (dk_at dksJ4_putChar_1 7 rfl rfl)
theorem dJ4_putChar_32 : decode cJ4_putChar 32 = .ok (.aload_n 0, 1) := dk_42 (dk_at dksJ4_putChar_1 8 rfl rfl)
theorem dJ4_putChar_33 : decode cJ4_putChar 33 = .ok (.iload_n 1, 1) := dk_27 (dk_at dksJ4_putChar_1 9 rfl rfl)
theorem dJ4_putChar_34 : decode cJ4_putChar 34 = .ok (.iinc 1 1, 3) := dk_132 1 1 (dk_at dksJ4_putChar_1 10 rfl rfl)
theorem dJ4_putChar_37 : decode cJ4_putChar 37 = .ok (.iload_n 2, 1) := dk_28 (dk_at dksJ4_putChar_1 13 rfl rfl)
theorem dJ4_putChar_38 : decode cJ4_putChar 38 = .ok (.getstatic 59, 3) := dk_178 0 59 (dk_at dksJ4_putChar_1 14 rfl rfl)
theorem dJ4_putChar_41 : decode cJ4_putChar 41 = .ok (.ishr, 1) := dk_122 (dk_at dksJ4_putChar_1 17 rfl rfl)
theorem dJ4_putChar_42 : decode cJ4_putChar 42 = .ok (.i2b, 1) := dk_145 (dk_at dksJ4_putChar_1 18 rfl rfl)
theorem dJ4_putChar_43 : decode cJ4_putChar 43 = .ok (.bastore, 1) := dk_84 (dk_at dksJ4_putChar_1 19 rfl rfl)
theorem dJ4_putChar_44 : decode cJ4_putChar 44 = .ok (.aload_n 0, 1) := dk_42 (dk_at dksJ4_putChar_1 20 rfl rfl)
theorem dJ4_putChar_45 : decode cJ4_putChar 45 = .ok (.iload_n 1, 1) := dk_27 (dk_at dksJ4_putChar_1 21 rfl rfl)
theorem dJ4_putChar_46 : decode cJ4_putChar 46 = .ok (.iload_n 2, 1) := dk_28 (dk_at dksJ4_putChar_1 22 rfl rfl)
theorem dJ4_putChar_47 : decode cJ4_putChar 47 = .ok (.getstatic 63, 3) := dk_178 0 63 (dk_at dksJ4_putChar_2 0 rfl rfl)
theorem dJ4_putChar_50 : decode cJ4_putChar 50 = .ok (.ishr, 1) := dk_122 (dk_at dksJ4_putChar_2 3 rfl rfl)
theorem dJ4_putChar_51 : decode cJ4_putChar 51 = .ok (.i2b, 1) := dk_145 (dk_at dksJ4_putChar_2 4 rfl rfl)
theorem dJ4_putChar_52 : decode cJ4_putChar 52 = .ok (.bastore, 1) := dk_84 (dk_at dksJ4_putChar_2 5 rfl rfl)
theorem dJ4_putChar_53 : decode cJ4_putChar 53 = .ok (.return_, 1) := dk_177 (dk_at dksJ4_putChar_2 6 rfl rfl)
abbrev cJ4_putCharSB : ByteArray := prog_39_method_71_code
def yJ4_putCharSB : MethodName := ⟨RJ4, "putCharSB", "([BII)V"⟩
def dkwJ4_putCharSB_0 : List UInt8 := [27, 42, 184, 0, 67, 42, 27, 28, 184, 0, 111, 177]
abbrev dktJ4_putCharSB_0 : List UInt8 := dkwJ4_putCharSB_0 ++ []
theorem dksJ4_putCharSB_0 : cJ4_putCharSB.data.toList.drop 0 = dktJ4_putCharSB_0 := by decide +kernel
theorem dJ4_putCharSB_0 : decode cJ4_putCharSB 0 = .ok (.iload_n 1, 1) := dk_27 (dk_at dksJ4_putCharSB_0 0 rfl rfl)
theorem dJ4_putCharSB_1 : decode cJ4_putCharSB 1 = .ok (.aload_n 0, 1) := dk_42 (dk_at dksJ4_putCharSB_0 1 rfl rfl)
theorem dJ4_putCharSB_2 : decode cJ4_putCharSB 2 = .ok (.invokestatic 67, 3) := dk_184 0 67 (dk_at dksJ4_putCharSB_0 2 rfl rfl)
theorem dJ4_putCharSB_5 : decode cJ4_putCharSB 5 = .ok (.aload_n 0, 1) := dk_42 (dk_at dksJ4_putCharSB_0 5 rfl rfl)
theorem dJ4_putCharSB_6 : decode cJ4_putCharSB 6 = .ok (.iload_n 1, 1) := dk_27 (dk_at dksJ4_putCharSB_0 6 rfl rfl)
theorem dJ4_putCharSB_7 : decode cJ4_putCharSB 7 = .ok (.iload_n 2, 1) := dk_28 (dk_at dksJ4_putCharSB_0 7 rfl rfl)
theorem dJ4_putCharSB_8 : decode cJ4_putCharSB 8 = .ok (.invokestatic 111, 3) := dk_184 0 111 (dk_at dksJ4_putCharSB_0 8 rfl rfl)
theorem dJ4_putCharSB_11 : decode cJ4_putCharSB 11 = .ok (.return_, 1) := dk_177 (dk_at dksJ4_putCharSB_0 11 rfl rfl)
abbrev cJ4_checkIndex : ByteArray := prog_39_method_91_code
def yJ4_checkIndex : MethodName := ⟨RJ4, "checkIndex", "(I[B)V"⟩
def dkwJ4_checkIndex_0 : List UInt8 := [26, 43, 184, 0, 48, 184, 1, 158, 177]
abbrev dktJ4_checkIndex_0 : List UInt8 := dkwJ4_checkIndex_0 ++ []
theorem dksJ4_checkIndex_0 : cJ4_checkIndex.data.toList.drop 0 = dktJ4_checkIndex_0 := by decide +kernel
theorem dJ4_checkIndex_0 : decode cJ4_checkIndex 0 = .ok (.iload_n 0, 1) := dk_26 (dk_at dksJ4_checkIndex_0 0 rfl rfl)
theorem dJ4_checkIndex_1 : decode cJ4_checkIndex 1 = .ok (.aload_n 1, 1) := dk_43 (dk_at dksJ4_checkIndex_0 1 rfl rfl)
theorem dJ4_checkIndex_2 : decode cJ4_checkIndex 2 = .ok (.invokestatic 48, 3) := dk_184 0 48 (dk_at dksJ4_checkIndex_0 2 rfl rfl)
theorem dJ4_checkIndex_5 : decode cJ4_checkIndex 5 = .ok (.invokestatic 414, 3) := dk_184 1 158 (dk_at dksJ4_checkIndex_0 5 rfl rfl)
theorem dJ4_checkIndex_8 : decode cJ4_checkIndex 8 = .ok (.return_, 1) := dk_177 (dk_at dksJ4_checkIndex_0 8 rfl rfl)
abbrev cJ4_compress : ByteArray := prog_39_method_17_code
def yJ4_compress : MethodName := ⟨RJ4, "compress", "([BII)[B"⟩
def dkwJ4_compress_2 : List UInt8 := [25, 5, 3, 45, 3, 28, 184, 0, 123, 28, 159, 0, 6, 25, 5, 176, 45, 176]
abbrev dktJ4_compress_2 : List UInt8 := dkwJ4_compress_2 ++ []
def dkwJ4_compress_1 : List UInt8 := [27, 28, 96, 184, 0, 11, 184, 0, 126, 58, 5, 25, 5, 21, 4, 184, 0, 71, 17, 0, 255, 163, 0, 16]
abbrev dktJ4_compress_1 : List UInt8 := dkwJ4_compress_1 ++ dktJ4_compress_2
def dkwJ4_compress_0 : List UInt8 := [28, 188, 8, 78, 42, 27, 45, 3, 28, 184, 0, 123, 54, 4, 21, 4, 28, 159, 0, 47, 42, 27, 4, 120]
abbrev dktJ4_compress_0 : List UInt8 := dkwJ4_compress_0 ++ dktJ4_compress_1
theorem dksJ4_compress_0 : cJ4_compress.data.toList.drop 0 = dktJ4_compress_0 := by decide +kernel
theorem dksJ4_compress_1 : cJ4_compress.data.toList.drop 24 = dktJ4_compress_1 := dk_seg dksJ4_compress_0 24 rfl rfl
theorem dksJ4_compress_2 : cJ4_compress.data.toList.drop 48 = dktJ4_compress_2 := dk_seg dksJ4_compress_1 24 rfl rfl
theorem dJ4_compress_0 : decode cJ4_compress 0 = .ok (.iload_n 2, 1) := dk_28 (dk_at dksJ4_compress_0 0 rfl rfl)
theorem dJ4_compress_1 : decode cJ4_compress 1 = .ok (.newarray .byte, 2) := dk_188_8 (dk_at dksJ4_compress_0 1 rfl rfl)
theorem dJ4_compress_3 : decode cJ4_compress 3 = .ok (.astore_n 3, 1) := dk_78 (dk_at dksJ4_compress_0 3 rfl rfl)
theorem dJ4_compress_4 : decode cJ4_compress 4 = .ok (.aload_n 0, 1) := dk_42 (dk_at dksJ4_compress_0 4 rfl rfl)
theorem dJ4_compress_5 : decode cJ4_compress 5 = .ok (.iload_n 1, 1) := dk_27 (dk_at dksJ4_compress_0 5 rfl rfl)
theorem dJ4_compress_6 : decode cJ4_compress 6 = .ok (.aload_n 3, 1) := dk_45 (dk_at dksJ4_compress_0 6 rfl rfl)
theorem dJ4_compress_7 : decode cJ4_compress 7 = .ok (.iconst 0, 1) := dk_3 (dk_at dksJ4_compress_0 7 rfl rfl)
theorem dJ4_compress_8 : decode cJ4_compress 8 = .ok (.iload_n 2, 1) := dk_28 (dk_at dksJ4_compress_0 8 rfl rfl)
theorem dJ4_compress_9 : decode cJ4_compress 9 = .ok (.invokestatic 123, 3) := dk_184 0 123 (dk_at dksJ4_compress_0 9 rfl rfl)
theorem dJ4_compress_12 : decode cJ4_compress 12 = .ok (.istore 4, 2) := dk_54 4 (dk_at dksJ4_compress_0 12 rfl rfl)
theorem dJ4_compress_14 : decode cJ4_compress 14 = .ok (.iload 4, 2) := dk_21 4 (dk_at dksJ4_compress_0 14 rfl rfl)
theorem dJ4_compress_16 : decode cJ4_compress 16 = .ok (.iload_n 2, 1) := dk_28 (dk_at dksJ4_compress_0 16 rfl rfl)
theorem dJ4_compress_17 : decode cJ4_compress 17 = .ok (.if_icmp .eq 47, 3) := dk_159 0 47 (dk_at dksJ4_compress_0 17 rfl rfl)
theorem dJ4_compress_20 : decode cJ4_compress 20 = .ok (.aload_n 0, 1) := dk_42 (dk_at dksJ4_compress_0 20 rfl rfl)
theorem dJ4_compress_21 : decode cJ4_compress 21 = .ok (.iload_n 1, 1) := dk_27 (dk_at dksJ4_compress_0 21 rfl rfl)
theorem dJ4_compress_22 : decode cJ4_compress 22 = .ok (.iconst 1, 1) := dk_4 (dk_at dksJ4_compress_0 22 rfl rfl)
theorem dJ4_compress_23 : decode cJ4_compress 23 = .ok (.ishl, 1) := dk_120 (dk_at dksJ4_compress_0 23 rfl rfl)
theorem dJ4_compress_24 : decode cJ4_compress 24 = .ok (.iload_n 1, 1) := dk_27 (dk_at dksJ4_compress_1 0 rfl rfl)
theorem dJ4_compress_25 : decode cJ4_compress 25 = .ok (.iload_n 2, 1) := dk_28 (dk_at dksJ4_compress_1 1 rfl rfl)
theorem dJ4_compress_26 : decode cJ4_compress 26 = .ok (.iadd, 1) := dk_96 (dk_at dksJ4_compress_1 2 rfl rfl)
theorem dJ4_compress_27 : decode cJ4_compress 27 = .ok (.invokestatic 11, 3) := dk_184 0 11 (dk_at dksJ4_compress_1 3 rfl rfl)
theorem dJ4_compress_30 : decode cJ4_compress 30 = .ok (.invokestatic 126, 3) := dk_184 0 126 (dk_at dksJ4_compress_1 6 rfl rfl)
theorem dJ4_compress_33 : decode cJ4_compress 33 = .ok (.astore 5, 2) := dk_58 5 (dk_at dksJ4_compress_1 9 rfl rfl)
theorem dJ4_compress_35 : decode cJ4_compress 35 = .ok (.aload 5, 2) := dk_25 5 (dk_at dksJ4_compress_1 11 rfl rfl)
theorem dJ4_compress_37 : decode cJ4_compress 37 = .ok (.iload 4, 2) := dk_21 4 (dk_at dksJ4_compress_1 13 rfl rfl)
theorem dJ4_compress_39 : decode cJ4_compress 39 = .ok (.invokestatic 71, 3) := dk_184 0 71 (dk_at dksJ4_compress_1 15 rfl rfl)
theorem dJ4_compress_42 : decode cJ4_compress 42 = .ok (.sipush 255, 3) := dk_17 0 255 (dk_at dksJ4_compress_1 18 rfl rfl)
theorem dJ4_compress_45 : decode cJ4_compress 45 = .ok (.if_icmp .gt 16, 3) := dk_163 0 16 (dk_at dksJ4_compress_1 21 rfl rfl)
theorem dJ4_compress_48 : decode cJ4_compress 48 = .ok (.aload 5, 2) := dk_25 5 (dk_at dksJ4_compress_2 0 rfl rfl)
theorem dJ4_compress_50 : decode cJ4_compress 50 = .ok (.iconst 0, 1) := dk_3 (dk_at dksJ4_compress_2 2 rfl rfl)
theorem dJ4_compress_51 : decode cJ4_compress 51 = .ok (.aload_n 3, 1) := dk_45 (dk_at dksJ4_compress_2 3 rfl rfl)
theorem dJ4_compress_52 : decode cJ4_compress 52 = .ok (.iconst 0, 1) := dk_3 (dk_at dksJ4_compress_2 4 rfl rfl)
theorem dJ4_compress_53 : decode cJ4_compress 53 = .ok (.iload_n 2, 1) := dk_28 (dk_at dksJ4_compress_2 5 rfl rfl)
theorem dJ4_compress_54 : decode cJ4_compress 54 = .ok (.invokestatic 123, 3) := dk_184 0 123 (dk_at dksJ4_compress_2 6 rfl rfl)
theorem dJ4_compress_57 : decode cJ4_compress 57 = .ok (.iload_n 2, 1) := dk_28 (dk_at dksJ4_compress_2 9 rfl rfl)
theorem dJ4_compress_58 : decode cJ4_compress 58 = .ok (.if_icmp .eq 6, 3) := dk_159 0 6 (dk_at dksJ4_compress_2 10 rfl rfl)
theorem dJ4_compress_61 : decode cJ4_compress 61 = .ok (.aload 5, 2) := dk_25 5 (dk_at dksJ4_compress_2 13 rfl rfl)
theorem dJ4_compress_63 : decode cJ4_compress 63 = .ok (.areturn, 1) := dk_176 (dk_at dksJ4_compress_2 15 rfl rfl)
theorem dJ4_compress_64 : decode cJ4_compress 64 = .ok (.aload_n 3, 1) := dk_45 (dk_at dksJ4_compress_2 16 rfl rfl)
theorem dJ4_compress_65 : decode cJ4_compress 65 = .ok (.areturn, 1) := dk_176 (dk_at dksJ4_compress_2 17 rfl rfl)
abbrev cJ4_compress_2 : ByteArray := prog_39_method_22_code
def yJ4_compress_2 : MethodName := ⟨RJ4, "compress", "([BI[BII)I"⟩
def dkwJ4_compress_2_2 : List UInt8 := [132, 5, 1, 167, 255, 216, 21, 4, 172]
abbrev dktJ4_compress_2_2 : List UInt8 := dkwJ4_compress_2_2 ++ []
def dkwJ4_compress_2_1 : List UInt8 := [21, 6, 17, 0, 255, 164, 0, 6, 21, 5, 172, 44, 29, 21, 6, 145, 84, 132, 1, 1, 132, 3, 1]
abbrev dktJ4_compress_2_1 : List UInt8 := dkwJ4_compress_2_1 ++ dktJ4_compress_2_2
def dkwJ4_compress_2_0 : List UInt8 := [27, 21, 4, 42, 184, 0, 173, 3, 54, 5, 21, 5, 21, 4, 162, 0, 39, 42, 27, 184, 0, 71, 54, 6]
abbrev dktJ4_compress_2_0 : List UInt8 := dkwJ4_compress_2_0 ++ dktJ4_compress_2_1
theorem dksJ4_compress_2_0 : cJ4_compress_2.data.toList.drop 0 = dktJ4_compress_2_0 := by decide +kernel
theorem dksJ4_compress_2_1 : cJ4_compress_2.data.toList.drop 24 = dktJ4_compress_2_1 := dk_seg dksJ4_compress_2_0 24 rfl rfl
theorem dksJ4_compress_2_2 : cJ4_compress_2.data.toList.drop 47 = dktJ4_compress_2_2 := dk_seg dksJ4_compress_2_1 23 rfl rfl
theorem dJ4_compress_2_0 : decode cJ4_compress_2 0 = .ok (.iload_n 1, 1) := dk_27 (dk_at dksJ4_compress_2_0 0 rfl rfl)
theorem dJ4_compress_2_1 : decode cJ4_compress_2 1 = .ok (.iload 4, 2) := dk_21 4 (dk_at dksJ4_compress_2_0 1 rfl rfl)
theorem dJ4_compress_2_3 : decode cJ4_compress_2 3 = .ok (.aload_n 0, 1) := dk_42 (dk_at dksJ4_compress_2_0 3 rfl rfl)
theorem dJ4_compress_2_4 : decode cJ4_compress_2 4 = .ok (.invokestatic 173, 3) := dk_184 0 173 (dk_at dksJ4_compress_2_0 4 rfl rfl)
theorem dJ4_compress_2_7 : decode cJ4_compress_2 7 = .ok (.iconst 0, 1) := dk_3 (dk_at dksJ4_compress_2_0 7 rfl rfl)
theorem dJ4_compress_2_8 : decode cJ4_compress_2 8 = .ok (.istore 5, 2) := dk_54 5 (dk_at dksJ4_compress_2_0 8 rfl rfl)
theorem dJ4_compress_2_10 : decode cJ4_compress_2 10 = .ok (.iload 5, 2) := dk_21 5 (dk_at dksJ4_compress_2_0 10 rfl rfl)
theorem dJ4_compress_2_12 : decode cJ4_compress_2 12 = .ok (.iload 4, 2) := dk_21 4 (dk_at dksJ4_compress_2_0 12 rfl rfl)
theorem dJ4_compress_2_14 : decode cJ4_compress_2 14 = .ok (.if_icmp .ge 39, 3) := dk_162 0 39 (dk_at dksJ4_compress_2_0 14 rfl rfl)
theorem dJ4_compress_2_17 : decode cJ4_compress_2 17 = .ok (.aload_n 0, 1) := dk_42 (dk_at dksJ4_compress_2_0 17 rfl rfl)
theorem dJ4_compress_2_18 : decode cJ4_compress_2 18 = .ok (.iload_n 1, 1) := dk_27 (dk_at dksJ4_compress_2_0 18 rfl rfl)
theorem dJ4_compress_2_19 : decode cJ4_compress_2 19 = .ok (.invokestatic 71, 3) := dk_184 0 71 (dk_at dksJ4_compress_2_0 19 rfl rfl)
theorem dJ4_compress_2_22 : decode cJ4_compress_2 22 = .ok (.istore 6, 2) := dk_54 6 (dk_at dksJ4_compress_2_0 22 rfl rfl)
theorem dJ4_compress_2_24 : decode cJ4_compress_2 24 = .ok (.iload 6, 2) := dk_21 6 (dk_at dksJ4_compress_2_1 0 rfl rfl)
theorem dJ4_compress_2_26 : decode cJ4_compress_2 26 = .ok (.sipush 255, 3) := dk_17 0 255 (dk_at dksJ4_compress_2_1 2 rfl rfl)
theorem dJ4_compress_2_29 : decode cJ4_compress_2 29 = .ok (.if_icmp .le 6, 3) := dk_164 0 6 (dk_at dksJ4_compress_2_1 5 rfl rfl)
theorem dJ4_compress_2_32 : decode cJ4_compress_2 32 = .ok (.iload 5, 2) := dk_21 5 (dk_at dksJ4_compress_2_1 8 rfl rfl)
theorem dJ4_compress_2_34 : decode cJ4_compress_2 34 = .ok (.ireturn, 1) := dk_172 (dk_at dksJ4_compress_2_1 10 rfl rfl)
theorem dJ4_compress_2_35 : decode cJ4_compress_2 35 = .ok (.aload_n 2, 1) := dk_44 (dk_at dksJ4_compress_2_1 11 rfl rfl)
theorem dJ4_compress_2_36 : decode cJ4_compress_2 36 = .ok (.iload_n 3, 1) := dk_29 (dk_at dksJ4_compress_2_1 12 rfl rfl)
theorem dJ4_compress_2_37 : decode cJ4_compress_2 37 = .ok (.iload 6, 2) := dk_21 6 (dk_at dksJ4_compress_2_1 13 rfl rfl)
theorem dJ4_compress_2_39 : decode cJ4_compress_2 39 = .ok (.i2b, 1) := dk_145 (dk_at dksJ4_compress_2_1 15 rfl rfl)
theorem dJ4_compress_2_40 : decode cJ4_compress_2 40 = .ok (.bastore, 1) := dk_84 (dk_at dksJ4_compress_2_1 16 rfl rfl)
theorem dJ4_compress_2_41 : decode cJ4_compress_2 41 = .ok (.iinc 1 1, 3) := dk_132 1 1 (dk_at dksJ4_compress_2_1 17 rfl rfl)
theorem dJ4_compress_2_44 : decode cJ4_compress_2 44 = .ok (.iinc 3 1, 3) := dk_132 3 1 (dk_at dksJ4_compress_2_1 20 rfl rfl)
theorem dJ4_compress_2_47 : decode cJ4_compress_2 47 = .ok (.iinc 5 1, 3) := dk_132 5 1 (dk_at dksJ4_compress_2_2 0 rfl rfl)
theorem dJ4_compress_2_50 : decode cJ4_compress_2 50 = .ok (.goto (-40), 3) := dk_167 255 216 (dk_at dksJ4_compress_2_2 3 rfl rfl)
theorem dJ4_compress_2_53 : decode cJ4_compress_2 53 = .ok (.iload 4, 2) := dk_21 4 (dk_at dksJ4_compress_2_2 6 rfl rfl)
theorem dJ4_compress_2_55 : decode cJ4_compress_2 55 = .ok (.ireturn, 1) := dk_172 (dk_at dksJ4_compress_2_2 8 rfl rfl)
abbrev cJ4_getChar : ByteArray := prog_39_method_5_code
def yJ4_getChar : MethodName := ⟨RJ4, "getChar", "([BI)C"⟩
def dkwJ4_getChar_2 : List UInt8 := [51, 17, 0, 255, 126, 178, 0, 63, 120, 128, 146, 172]
abbrev dktJ4_getChar_2 : List UInt8 := dkwJ4_getChar_2 ++ []
def dkwJ4_getChar_1 : List UInt8 := [183, 0, 56, 191, 27, 4, 120, 60, 42, 27, 132, 1, 1, 51, 17, 0, 255, 126, 178, 0, 59, 120, 42, 27]
abbrev dktJ4_getChar_1 : List UInt8 := dkwJ4_getChar_1 ++ dktJ4_getChar_2
def dkwJ4_getChar_0 : List UInt8 := [178, 0, 44, 154, 0, 25, 27, 155, 0, 11, 27, 42, 184, 0, 48, 161, 0, 13, 187, 0, 52, 89, 18, 54]
abbrev dktJ4_getChar_0 : List UInt8 := dkwJ4_getChar_0 ++ dktJ4_getChar_1
theorem dksJ4_getChar_0 : cJ4_getChar.data.toList.drop 0 = dktJ4_getChar_0 := by decide +kernel
theorem dksJ4_getChar_1 : cJ4_getChar.data.toList.drop 24 = dktJ4_getChar_1 := dk_seg dksJ4_getChar_0 24 rfl rfl
theorem dksJ4_getChar_2 : cJ4_getChar.data.toList.drop 48 = dktJ4_getChar_2 := dk_seg dksJ4_getChar_1 24 rfl rfl
theorem dJ4_getChar_0 : decode cJ4_getChar 0 = .ok (.getstatic 44, 3) := dk_178 0 44 (dk_at dksJ4_getChar_0 0 rfl rfl)
theorem dJ4_getChar_3 : decode cJ4_getChar 3 = .ok (.ifCond .ne 25, 3) := dk_154 0 25 (dk_at dksJ4_getChar_0 3 rfl rfl)
theorem dJ4_getChar_6 : decode cJ4_getChar 6 = .ok (.iload_n 1, 1) := dk_27 (dk_at dksJ4_getChar_0 6 rfl rfl)
theorem dJ4_getChar_7 : decode cJ4_getChar 7 = .ok (.ifCond .lt 11, 3) := dk_155 0 11 (dk_at dksJ4_getChar_0 7 rfl rfl)
theorem dJ4_getChar_10 : decode cJ4_getChar 10 = .ok (.iload_n 1, 1) := dk_27 (dk_at dksJ4_getChar_0 10 rfl rfl)
theorem dJ4_getChar_11 : decode cJ4_getChar 11 = .ok (.aload_n 0, 1) := dk_42 (dk_at dksJ4_getChar_0 11 rfl rfl)
theorem dJ4_getChar_12 : decode cJ4_getChar 12 = .ok (.invokestatic 48, 3) := dk_184 0 48 (dk_at dksJ4_getChar_0 12 rfl rfl)
theorem dJ4_getChar_15 : decode cJ4_getChar 15 = .ok (.if_icmp .lt 13, 3) := dk_161 0 13 (dk_at dksJ4_getChar_0 15 rfl rfl)
theorem dJ4_getChar_18 : decode cJ4_getChar 18 = .ok (.new 52, 3) := dk_187 0 52 (dk_at dksJ4_getChar_0 18 rfl rfl)
theorem dJ4_getChar_21 : decode cJ4_getChar 21 = .ok (.dup, 1) := dk_89 (dk_at dksJ4_getChar_0 21 rfl rfl)
theorem dJ4_getChar_22 : decode cJ4_getChar 22 = .ok (.ldc 54, 2) := dk_18 54 (dk_at dksJ4_getChar_0 22 rfl rfl)
theorem dJ4_getChar_24 : decode cJ4_getChar 24 = .ok (.invokespecial 56, 3) := dk_183 0 56 (dk_at dksJ4_getChar_1 0 rfl rfl)
theorem dJ4_getChar_27 : decode cJ4_getChar 27 = .ok (.athrow, 1) := dk_191 (dk_at dksJ4_getChar_1 3 rfl rfl)
theorem dJ4_getChar_28 : decode cJ4_getChar 28 = .ok (.iload_n 1, 1) := dk_27 (dk_at dksJ4_getChar_1 4 rfl rfl)
theorem dJ4_getChar_29 : decode cJ4_getChar 29 = .ok (.iconst 1, 1) := dk_4 (dk_at dksJ4_getChar_1 5 rfl rfl)
theorem dJ4_getChar_30 : decode cJ4_getChar 30 = .ok (.ishl, 1) := dk_120 (dk_at dksJ4_getChar_1 6 rfl rfl)
theorem dJ4_getChar_31 : decode cJ4_getChar 31 = .ok (.istore_n 1, 1) := dk_60 (dk_at dksJ4_getChar_1 7 rfl rfl)
theorem dJ4_getChar_32 : decode cJ4_getChar 32 = .ok (.aload_n 0, 1) := dk_42 (dk_at dksJ4_getChar_1 8 rfl rfl)
theorem dJ4_getChar_33 : decode cJ4_getChar 33 = .ok (.iload_n 1, 1) := dk_27 (dk_at dksJ4_getChar_1 9 rfl rfl)
theorem dJ4_getChar_34 : decode cJ4_getChar 34 = .ok (.iinc 1 1, 3) := dk_132 1 1 (dk_at dksJ4_getChar_1 10 rfl rfl)
theorem dJ4_getChar_37 : decode cJ4_getChar 37 = .ok (.baload, 1) := dk_51 (dk_at dksJ4_getChar_1 13 rfl rfl)
theorem dJ4_getChar_38 : decode cJ4_getChar 38 = .ok (.sipush 255, 3) := dk_17 0 255 (dk_at dksJ4_getChar_1 14 rfl rfl)
theorem dJ4_getChar_41 : decode cJ4_getChar 41 = .ok (.iand, 1) := dk_126 (dk_at dksJ4_getChar_1 17 rfl rfl)
theorem dJ4_getChar_42 : decode cJ4_getChar 42 = .ok (.getstatic 59, 3) := dk_178 0 59 (dk_at dksJ4_getChar_1 18 rfl rfl)
theorem dJ4_getChar_45 : decode cJ4_getChar 45 = .ok (.ishl, 1) := dk_120 (dk_at dksJ4_getChar_1 21 rfl rfl)
theorem dJ4_getChar_46 : decode cJ4_getChar 46 = .ok (.aload_n 0, 1) := dk_42 (dk_at dksJ4_getChar_1 22 rfl rfl)
theorem dJ4_getChar_47 : decode cJ4_getChar 47 = .ok (.iload_n 1, 1) := dk_27 (dk_at dksJ4_getChar_1 23 rfl rfl)
theorem dJ4_getChar_48 : decode cJ4_getChar 48 = .ok (.baload, 1) := dk_51 (dk_at dksJ4_getChar_2 0 rfl rfl)
theorem dJ4_getChar_49 : decode cJ4_getChar 49 = .ok (.sipush 255, 3) := dk_17 0 255 (dk_at dksJ4_getChar_2 1 rfl rfl)
theorem dJ4_getChar_52 : decode cJ4_getChar 52 = .ok (.iand, 1) := dk_126 (dk_at dksJ4_getChar_2 4 rfl rfl)
theorem dJ4_getChar_53 : decode cJ4_getChar 53 = .ok (.getstatic 63, 3) := dk_178 0 63 (dk_at dksJ4_getChar_2 5 rfl rfl)
theorem dJ4_getChar_56 : decode cJ4_getChar 56 = .ok (.ishl, 1) := dk_120 (dk_at dksJ4_getChar_2 8 rfl rfl)
theorem dJ4_getChar_57 : decode cJ4_getChar 57 = .ok (.ior, 1) := dk_128 (dk_at dksJ4_getChar_2 9 rfl rfl)
theorem dJ4_getChar_58 : decode cJ4_getChar 58 = .ok (.i2c, 1) := dk_146 (dk_at dksJ4_getChar_2 10 rfl rfl)
theorem dJ4_getChar_59 : decode cJ4_getChar 59 = .ok (.ireturn, 1) := dk_172 (dk_at dksJ4_getChar_2 11 rfl rfl)
abbrev cJ4_coderFromArrayLen : ByteArray := prog_39_method_15_code
def yJ4_coderFromArrayLen : MethodName := ⟨RJ4, "coderFromArrayLen", "([BI)B"⟩
def dkwJ4_coderFromArrayLen_0 : List UInt8 := [27, 42, 190, 100, 16, 31, 124, 145, 172]
abbrev dktJ4_coderFromArrayLen_0 : List UInt8 := dkwJ4_coderFromArrayLen_0 ++ []
theorem dksJ4_coderFromArrayLen_0 : cJ4_coderFromArrayLen.data.toList.drop 0 = dktJ4_coderFromArrayLen_0 := by decide +kernel
theorem dJ4_coderFromArrayLen_0 : decode cJ4_coderFromArrayLen 0 = .ok (.iload_n 1, 1) := dk_27 (dk_at dksJ4_coderFromArrayLen_0 0 rfl rfl)
theorem dJ4_coderFromArrayLen_1 : decode cJ4_coderFromArrayLen 1 = .ok (.aload_n 0, 1) := dk_42 (dk_at dksJ4_coderFromArrayLen_0 1 rfl rfl)
theorem dJ4_coderFromArrayLen_2 : decode cJ4_coderFromArrayLen 2 = .ok (.arraylength, 1) := dk_190 (dk_at dksJ4_coderFromArrayLen_0 2 rfl rfl)
theorem dJ4_coderFromArrayLen_3 : decode cJ4_coderFromArrayLen 3 = .ok (.isub, 1) := dk_100 (dk_at dksJ4_coderFromArrayLen_0 3 rfl rfl)
theorem dJ4_coderFromArrayLen_4 : decode cJ4_coderFromArrayLen 4 = .ok (.bipush 31, 2) := dk_16 31 (dk_at dksJ4_coderFromArrayLen_0 4 rfl rfl)
theorem dJ4_coderFromArrayLen_6 : decode cJ4_coderFromArrayLen 6 = .ok (.iushr, 1) := dk_124 (dk_at dksJ4_coderFromArrayLen_0 6 rfl rfl)
theorem dJ4_coderFromArrayLen_7 : decode cJ4_coderFromArrayLen 7 = .ok (.i2b, 1) := dk_145 (dk_at dksJ4_coderFromArrayLen_0 7 rfl rfl)
theorem dJ4_coderFromArrayLen_8 : decode cJ4_coderFromArrayLen 8 = .ok (.ireturn, 1) := dk_172 (dk_at dksJ4_coderFromArrayLen_0 8 rfl rfl)
abbrev cJ4_charAt : ByteArray := prog_39_method_83_code
def yJ4_charAt : MethodName := ⟨RJ4, "charAt", "([BI)C"⟩
def dkwJ4_charAt_0 : List UInt8 := [27, 42, 184, 0, 67, 42, 27, 184, 0, 71, 172]
abbrev dktJ4_charAt_0 : List UInt8 := dkwJ4_charAt_0 ++ []
theorem dksJ4_charAt_0 : cJ4_charAt.data.toList.drop 0 = dktJ4_charAt_0 := by decide +kernel
theorem dJ4_charAt_0 : decode cJ4_charAt 0 = .ok (.iload_n 1, 1) := dk_27 (dk_at dksJ4_charAt_0 0 rfl rfl)
theorem dJ4_charAt_1 : decode cJ4_charAt 1 = .ok (.aload_n 0, 1) := dk_42 (dk_at dksJ4_charAt_0 1 rfl rfl)
theorem dJ4_charAt_2 : decode cJ4_charAt 2 = .ok (.invokestatic 67, 3) := dk_184 0 67 (dk_at dksJ4_charAt_0 2 rfl rfl)
theorem dJ4_charAt_5 : decode cJ4_charAt 5 = .ok (.aload_n 0, 1) := dk_42 (dk_at dksJ4_charAt_0 5 rfl rfl)
theorem dJ4_charAt_6 : decode cJ4_charAt 6 = .ok (.iload_n 1, 1) := dk_27 (dk_at dksJ4_charAt_0 6 rfl rfl)
theorem dJ4_charAt_7 : decode cJ4_charAt 7 = .ok (.invokestatic 71, 3) := dk_184 0 71 (dk_at dksJ4_charAt_0 7 rfl rfl)
theorem dJ4_charAt_10 : decode cJ4_charAt 10 = .ok (.ireturn, 1) := dk_172 (dk_at dksJ4_charAt_0 10 rfl rfl)
abbrev cJ4_putCharsAt : ByteArray := prog_39_method_81_code
def yJ4_putCharsAt : MethodName := ⟨RJ4, "putCharsAt", "([BICCCC)I"⟩
def dkwJ4_putCharsAt_3 : List UInt8 := [21, 6, 172]
abbrev dktJ4_putCharsAt_3 : List UInt8 := dkwJ4_putCharsAt_3 ++ []
def dkwJ4_putCharsAt_2 : List UInt8 := [184, 0, 111, 178, 0, 44, 154, 0, 17, 27, 21, 6, 159, 0, 11, 187, 0, 52, 89, 183, 0, 66, 191]
abbrev dktJ4_putCharsAt_2 : List UInt8 := dkwJ4_putCharsAt_2 ++ dktJ4_putCharsAt_3
def dkwJ4_putCharsAt_1 : List UInt8 := [132, 1, 1, 29, 184, 0, 111, 42, 27, 132, 1, 1, 21, 4, 184, 0, 111, 42, 27, 132, 1, 1, 21, 5]
abbrev dktJ4_putCharsAt_1 : List UInt8 := dkwJ4_putCharsAt_1 ++ dktJ4_putCharsAt_2
def dkwJ4_putCharsAt_0 : List UInt8 := [27, 7, 96, 54, 6, 27, 21, 6, 42, 184, 0, 96, 42, 27, 132, 1, 1, 28, 184, 0, 111, 42, 27]
abbrev dktJ4_putCharsAt_0 : List UInt8 := dkwJ4_putCharsAt_0 ++ dktJ4_putCharsAt_1
theorem dksJ4_putCharsAt_0 : cJ4_putCharsAt.data.toList.drop 0 = dktJ4_putCharsAt_0 := by decide +kernel
theorem dksJ4_putCharsAt_1 : cJ4_putCharsAt.data.toList.drop 23 = dktJ4_putCharsAt_1 := dk_seg dksJ4_putCharsAt_0 23 rfl rfl
theorem dksJ4_putCharsAt_2 : cJ4_putCharsAt.data.toList.drop 47 = dktJ4_putCharsAt_2 := dk_seg dksJ4_putCharsAt_1 24 rfl rfl
theorem dksJ4_putCharsAt_3 : cJ4_putCharsAt.data.toList.drop 70 = dktJ4_putCharsAt_3 := dk_seg dksJ4_putCharsAt_2 23 rfl rfl
theorem dJ4_putCharsAt_0 : decode cJ4_putCharsAt 0 = .ok (.iload_n 1, 1) := dk_27 (dk_at dksJ4_putCharsAt_0 0 rfl rfl)
theorem dJ4_putCharsAt_1 : decode cJ4_putCharsAt 1 = .ok (.iconst 4, 1) := dk_7 (dk_at dksJ4_putCharsAt_0 1 rfl rfl)
theorem dJ4_putCharsAt_2 : decode cJ4_putCharsAt 2 = .ok (.iadd, 1) := dk_96 (dk_at dksJ4_putCharsAt_0 2 rfl rfl)
theorem dJ4_putCharsAt_3 : decode cJ4_putCharsAt 3 = .ok (.istore 6, 2) := dk_54 6 (dk_at dksJ4_putCharsAt_0 3 rfl rfl)
theorem dJ4_putCharsAt_5 : decode cJ4_putCharsAt 5 = .ok (.iload_n 1, 1) := dk_27 (dk_at dksJ4_putCharsAt_0 5 rfl rfl)
theorem dJ4_putCharsAt_6 : decode cJ4_putCharsAt 6 = .ok (.iload 6, 2) := dk_21 6 (dk_at dksJ4_putCharsAt_0 6 rfl rfl)
theorem dJ4_putCharsAt_8 : decode cJ4_putCharsAt 8 = .ok (.aload_n 0, 1) := dk_42 (dk_at dksJ4_putCharsAt_0 8 rfl rfl)
theorem dJ4_putCharsAt_9 : decode cJ4_putCharsAt 9 = .ok (.invokestatic 96, 3) := dk_184 0 96 (dk_at dksJ4_putCharsAt_0 9 rfl rfl)
theorem dJ4_putCharsAt_12 : decode cJ4_putCharsAt 12 = .ok (.aload_n 0, 1) := dk_42 (dk_at dksJ4_putCharsAt_0 12 rfl rfl)
theorem dJ4_putCharsAt_13 : decode cJ4_putCharsAt 13 = .ok (.iload_n 1, 1) := dk_27 (dk_at dksJ4_putCharsAt_0 13 rfl rfl)
theorem dJ4_putCharsAt_14 : decode cJ4_putCharsAt 14 = .ok (.iinc 1 1, 3) := dk_132 1 1 (dk_at dksJ4_putCharsAt_0 14 rfl rfl)
theorem dJ4_putCharsAt_17 : decode cJ4_putCharsAt 17 = .ok (.iload_n 2, 1) := dk_28 (dk_at dksJ4_putCharsAt_0 17 rfl rfl)
theorem dJ4_putCharsAt_18 : decode cJ4_putCharsAt 18 = .ok (.invokestatic 111, 3) := dk_184 0 111 (dk_at dksJ4_putCharsAt_0 18 rfl rfl)
theorem dJ4_putCharsAt_21 : decode cJ4_putCharsAt 21 = .ok (.aload_n 0, 1) := dk_42 (dk_at dksJ4_putCharsAt_0 21 rfl rfl)
theorem dJ4_putCharsAt_22 : decode cJ4_putCharsAt 22 = .ok (.iload_n 1, 1) := dk_27 (dk_at dksJ4_putCharsAt_0 22 rfl rfl)
theorem dJ4_putCharsAt_23 : decode cJ4_putCharsAt 23 = .ok (.iinc 1 1, 3) := dk_132 1 1 (dk_at dksJ4_putCharsAt_1 0 rfl rfl)
theorem dJ4_putCharsAt_26 : decode cJ4_putCharsAt 26 = .ok (.iload_n 3, 1) := dk_29 (dk_at dksJ4_putCharsAt_1 3 rfl rfl)
theorem dJ4_putCharsAt_27 : decode cJ4_putCharsAt 27 = .ok (.invokestatic 111, 3) := dk_184 0 111 (dk_at dksJ4_putCharsAt_1 4 rfl rfl)
theorem dJ4_putCharsAt_30 : decode cJ4_putCharsAt 30 = .ok (.aload_n 0, 1) := dk_42 (dk_at dksJ4_putCharsAt_1 7 rfl rfl)
theorem dJ4_putCharsAt_31 : decode cJ4_putCharsAt 31 = .ok (.iload_n 1, 1) := dk_27 (dk_at dksJ4_putCharsAt_1 8 rfl rfl)
theorem dJ4_putCharsAt_32 : decode cJ4_putCharsAt 32 = .ok (.iinc 1 1, 3) := dk_132 1 1 (dk_at dksJ4_putCharsAt_1 9 rfl rfl)
theorem dJ4_putCharsAt_35 : decode cJ4_putCharsAt 35 = .ok (.iload 4, 2) := dk_21 4 (dk_at dksJ4_putCharsAt_1 12 rfl rfl)
theorem dJ4_putCharsAt_37 : decode cJ4_putCharsAt 37 = .ok (.invokestatic 111, 3) := dk_184 0 111 (dk_at dksJ4_putCharsAt_1 14 rfl rfl)
theorem dJ4_putCharsAt_40 : decode cJ4_putCharsAt 40 = .ok (.aload_n 0, 1) := dk_42 (dk_at dksJ4_putCharsAt_1 17 rfl rfl)
theorem dJ4_putCharsAt_41 : decode cJ4_putCharsAt 41 = .ok (.iload_n 1, 1) := dk_27 (dk_at dksJ4_putCharsAt_1 18 rfl rfl)
theorem dJ4_putCharsAt_42 : decode cJ4_putCharsAt 42 = .ok (.iinc 1 1, 3) := dk_132 1 1 (dk_at dksJ4_putCharsAt_1 19 rfl rfl)
theorem dJ4_putCharsAt_45 : decode cJ4_putCharsAt 45 = .ok (.iload 5, 2) := dk_21 5 (dk_at dksJ4_putCharsAt_1 22 rfl rfl)
theorem dJ4_putCharsAt_47 : decode cJ4_putCharsAt 47 = .ok (.invokestatic 111, 3) := dk_184 0 111 (dk_at dksJ4_putCharsAt_2 0 rfl rfl)
theorem dJ4_putCharsAt_50 : decode cJ4_putCharsAt 50 = .ok (.getstatic 44, 3) := dk_178 0 44 (dk_at dksJ4_putCharsAt_2 3 rfl rfl)
theorem dJ4_putCharsAt_53 : decode cJ4_putCharsAt 53 = .ok (.ifCond .ne 17, 3) := dk_154 0 17 (dk_at dksJ4_putCharsAt_2 6 rfl rfl)
theorem dJ4_putCharsAt_56 : decode cJ4_putCharsAt 56 = .ok (.iload_n 1, 1) := dk_27 (dk_at dksJ4_putCharsAt_2 9 rfl rfl)
theorem dJ4_putCharsAt_57 : decode cJ4_putCharsAt 57 = .ok (.iload 6, 2) := dk_21 6 (dk_at dksJ4_putCharsAt_2 10 rfl rfl)
theorem dJ4_putCharsAt_59 : decode cJ4_putCharsAt 59 = .ok (.if_icmp .eq 11, 3) := dk_159 0 11 (dk_at dksJ4_putCharsAt_2 12 rfl rfl)
theorem dJ4_putCharsAt_62 : decode cJ4_putCharsAt 62 = .ok (.new 52, 3) := dk_187 0 52 (dk_at dksJ4_putCharsAt_2 15 rfl rfl)
theorem dJ4_putCharsAt_65 : decode cJ4_putCharsAt 65 = .ok (.dup, 1) := dk_89 (dk_at dksJ4_putCharsAt_2 18 rfl rfl)
theorem dJ4_putCharsAt_66 : decode cJ4_putCharsAt 66 = .ok (.invokespecial 66, 3) := dk_183 0 66 (dk_at dksJ4_putCharsAt_2 19 rfl rfl)
theorem dJ4_putCharsAt_69 : decode cJ4_putCharsAt 69 = .ok (.athrow, 1) := dk_191 (dk_at dksJ4_putCharsAt_2 22 rfl rfl)
theorem dJ4_putCharsAt_70 : decode cJ4_putCharsAt 70 = .ok (.iload 6, 2) := dk_21 6 (dk_at dksJ4_putCharsAt_3 0 rfl rfl)
theorem dJ4_putCharsAt_72 : decode cJ4_putCharsAt 72 = .ok (.ireturn, 1) := dk_172 (dk_at dksJ4_putCharsAt_3 2 rfl rfl)
abbrev cJ4_checkBoundsBeginEnd : ByteArray := prog_39_method_93_code
def yJ4_checkBoundsBeginEnd : MethodName := ⟨RJ4, "checkBoundsBeginEnd", "(II[B)V"⟩
def dkwJ4_checkBoundsBeginEnd_0 : List UInt8 := [26, 27, 44, 184, 0, 48, 184, 0, 241, 177]
abbrev dktJ4_checkBoundsBeginEnd_0 : List UInt8 := dkwJ4_checkBoundsBeginEnd_0 ++ []
theorem dksJ4_checkBoundsBeginEnd_0 : cJ4_checkBoundsBeginEnd.data.toList.drop 0 = dktJ4_checkBoundsBeginEnd_0 := by decide +kernel
theorem dJ4_checkBoundsBeginEnd_0 : decode cJ4_checkBoundsBeginEnd 0 = .ok (.iload_n 0, 1) := dk_26 (dk_at dksJ4_checkBoundsBeginEnd_0 0 rfl rfl)
theorem dJ4_checkBoundsBeginEnd_1 : decode cJ4_checkBoundsBeginEnd 1 = .ok (.iload_n 1, 1) := dk_27 (dk_at dksJ4_checkBoundsBeginEnd_0 1 rfl rfl)
theorem dJ4_checkBoundsBeginEnd_2 : decode cJ4_checkBoundsBeginEnd 2 = .ok (.aload_n 2, 1) := dk_44 (dk_at dksJ4_checkBoundsBeginEnd_0 2 rfl rfl)
theorem dJ4_checkBoundsBeginEnd_3 : decode cJ4_checkBoundsBeginEnd 3 = .ok (.invokestatic 48, 3) := dk_184 0 48 (dk_at dksJ4_checkBoundsBeginEnd_0 3 rfl rfl)
theorem dJ4_checkBoundsBeginEnd_6 : decode cJ4_checkBoundsBeginEnd 6 = .ok (.invokestatic 241, 3) := dk_184 0 241 (dk_at dksJ4_checkBoundsBeginEnd_0 6 rfl rfl)
theorem dJ4_checkBoundsBeginEnd_9 : decode cJ4_checkBoundsBeginEnd 9 = .ok (.return_, 1) := dk_177 (dk_at dksJ4_checkBoundsBeginEnd_0 9 rfl rfl)
theorem q58 : (Jvm.Cond.initialized "java/lang/StringUTF16") ∈ lw_all := lw_g (lw_at lw_m1 10 rfl) rfl
theorem q300 : (Jvm.Cond.static ({ cls := "java/lang/StringUTF16", name := "newBytesFor", desc := "(I)[B" } : Jvm.MethodName)) ∈ lw_all := lw_g (lw_at lw_m2 12 rfl) rfl
theorem q301 : (Jvm.Cond.code ({ cls := "java/lang/StringUTF16", name := "newBytesFor", desc := "(I)[B" } : Jvm.MethodName) prog_39_method_2_code (1 : Nat) (Option.some (Jvm.ClassFile.FieldType.array Jvm.ClassFile.FieldType.byte))) ∈ lw_all := lw_g (lw_at lw_m2 13 rfl) rfl
theorem q302 : (Jvm.Cond.methodLink "java/lang/StringUTF16" (11 : Nat) ({ cls := "java/lang/StringUTF16", name := "newBytesLength", desc := "(I)I" } : Jvm.MethodName)) ∈ lw_all := lw_g (lw_at lw_m2 14 rfl) rfl
theorem q303 : (Jvm.Cond.static ({ cls := "java/lang/StringUTF16", name := "newBytesLength", desc := "(I)I" } : Jvm.MethodName)) ∈ lw_all := lw_g (lw_at lw_m2 15 rfl) rfl
theorem q304 : (Jvm.Cond.code ({ cls := "java/lang/StringUTF16", name := "newBytesLength", desc := "(I)I" } : Jvm.MethodName) prog_39_method_3_code (1 : Nat) (Option.some Jvm.ClassFile.FieldType.int)) ∈ lw_all := lw_g (lw_at lw_m2 16 rfl) rfl
theorem q305 : (Jvm.Cond.constant "java/lang/StringUTF16" (20 : Nat) (1073741823 : Int32)) ∈ lw_all := lw_g (lw_at lw_m2 17 rfl) rfl
theorem q375 : (Jvm.Cond.static ({ cls := "java/lang/StringUTF16", name := "inflate", desc := "([BI[BII)V" } : Jvm.MethodName)) ∈ lw_all := lw_g (lw_at lw_m2 87 rfl) rfl
theorem q376 : (Jvm.Cond.code ({ cls := "java/lang/StringUTF16", name := "inflate", desc := "([BI[BII)V" } : Jvm.MethodName) prog_39_method_86_code (6 : Nat) (Option.none : Option Jvm.ClassFile.FieldType)) ∈ lw_all := lw_g (lw_at lw_m2 88 rfl) rfl
theorem q377 : (Jvm.Cond.methodLink "java/lang/StringUTF16" (173 : Nat) ({ cls := "java/lang/StringUTF16", name := "checkBoundsOffCount", desc := "(II[B)V" } : Jvm.MethodName)) ∈ lw_all := lw_g (lw_at lw_m2 89 rfl) rfl
theorem q378 : (Jvm.Cond.static ({ cls := "java/lang/StringUTF16", name := "checkBoundsOffCount", desc := "(II[B)V" } : Jvm.MethodName)) ∈ lw_all := lw_g (lw_at lw_m2 90 rfl) rfl
theorem q379 : (Jvm.Cond.code ({ cls := "java/lang/StringUTF16", name := "checkBoundsOffCount", desc := "(II[B)V" } : Jvm.MethodName) prog_39_method_94_code (3 : Nat) (Option.none : Option Jvm.ClassFile.FieldType)) ∈ lw_all := lw_g (lw_at lw_m2 91 rfl) rfl
theorem q380 : (Jvm.Cond.methodLink "java/lang/StringUTF16" (48 : Nat) ({ cls := "java/lang/StringUTF16", name := "length", desc := "([B)I" } : Jvm.MethodName)) ∈ lw_all := lw_g (lw_at lw_m2 92 rfl) rfl
theorem q381 : (Jvm.Cond.static ({ cls := "java/lang/StringUTF16", name := "length", desc := "([B)I" } : Jvm.MethodName)) ∈ lw_all := lw_g (lw_at lw_m2 93 rfl) rfl
theorem q382 : (Jvm.Cond.code ({ cls := "java/lang/StringUTF16", name := "length", desc := "([B)I" } : Jvm.MethodName) prog_39_method_6_code (1 : Nat) (Option.some Jvm.ClassFile.FieldType.int)) ∈ lw_all := lw_g (lw_at lw_m2 94 rfl) rfl
theorem q383 : (Jvm.Cond.methodLink "java/lang/StringUTF16" (419 : Nat) ({ cls := "java/lang/String", name := "checkBoundsOffCount", desc := "(III)I" } : Jvm.MethodName)) ∈ lw_all := lw_g (lw_at lw_m2 95 rfl) rfl
theorem q391 : (Jvm.Cond.methodLink "java/lang/StringUTF16" (111 : Nat) ({ cls := "java/lang/StringUTF16", name := "putChar", desc := "([BII)V" } : Jvm.MethodName)) ∈ lw_all := lw_g (lw_at lw_m2 103 rfl) rfl
theorem q392 : (Jvm.Cond.static ({ cls := "java/lang/StringUTF16", name := "putChar", desc := "([BII)V" } : Jvm.MethodName)) ∈ lw_all := lw_g (lw_at lw_m2 104 rfl) rfl
theorem q393 : (Jvm.Cond.code ({ cls := "java/lang/StringUTF16", name := "putChar", desc := "([BII)V" } : Jvm.MethodName) prog_39_method_4_code (3 : Nat) (Option.none : Option Jvm.ClassFile.FieldType)) ∈ lw_all := lw_g (lw_at lw_m2 105 rfl) rfl
theorem q394 : (Jvm.Cond.fieldLink "java/lang/StringUTF16" (44 : Nat) "java/lang/StringUTF16" "$assertionsDisabled" "Z") ∈ lw_all := lw_g (lw_at lw_m2 106 rfl) rfl
theorem q395 : (Jvm.Cond.laysStatic "java/lang/StringUTF16" "$assertionsDisabled" "Z") ∈ lw_tbl := lw_at lw_m2 107 rfl
theorem q396 : (Jvm.Cond.fieldLink "java/lang/StringUTF16" (59 : Nat) "java/lang/StringUTF16" "HI_BYTE_SHIFT" "I") ∈ lw_all := lw_g (lw_at lw_m2 108 rfl) rfl
theorem q397 : (Jvm.Cond.laysStatic "java/lang/StringUTF16" "HI_BYTE_SHIFT" "I") ∈ lw_tbl := lw_at lw_m2 109 rfl
theorem q398 : (Jvm.Cond.fieldLink "java/lang/StringUTF16" (63 : Nat) "java/lang/StringUTF16" "LO_BYTE_SHIFT" "I") ∈ lw_all := lw_g (lw_at lw_m2 110 rfl) rfl
theorem q399 : (Jvm.Cond.laysStatic "java/lang/StringUTF16" "LO_BYTE_SHIFT" "I") ∈ lw_tbl := lw_at lw_m2 111 rfl
theorem q401 : (Jvm.Cond.static ({ cls := "java/lang/StringUTF16", name := "putCharSB", desc := "([BII)V" } : Jvm.MethodName)) ∈ lw_all := lw_g (lw_at lw_m2 113 rfl) rfl
theorem q402 : (Jvm.Cond.code ({ cls := "java/lang/StringUTF16", name := "putCharSB", desc := "([BII)V" } : Jvm.MethodName) prog_39_method_71_code (3 : Nat) (Option.none : Option Jvm.ClassFile.FieldType)) ∈ lw_all := lw_g (lw_at lw_m2 114 rfl) rfl
theorem q403 : (Jvm.Cond.methodLink "java/lang/StringUTF16" (67 : Nat) ({ cls := "java/lang/StringUTF16", name := "checkIndex", desc := "(I[B)V" } : Jvm.MethodName)) ∈ lw_all := lw_g (lw_at lw_m2 115 rfl) rfl
theorem q404 : (Jvm.Cond.static ({ cls := "java/lang/StringUTF16", name := "checkIndex", desc := "(I[B)V" } : Jvm.MethodName)) ∈ lw_all := lw_g (lw_at lw_m2 116 rfl) rfl
theorem q405 : (Jvm.Cond.code ({ cls := "java/lang/StringUTF16", name := "checkIndex", desc := "(I[B)V" } : Jvm.MethodName) prog_39_method_91_code (2 : Nat) (Option.none : Option Jvm.ClassFile.FieldType)) ∈ lw_all := lw_g (lw_at lw_m2 117 rfl) rfl
theorem q406 : (Jvm.Cond.methodLink "java/lang/StringUTF16" (414 : Nat) ({ cls := "java/lang/String", name := "checkIndex", desc := "(II)V" } : Jvm.MethodName)) ∈ lw_all := lw_g (lw_at lw_m2 118 rfl) rfl
theorem q450 : (Jvm.Cond.static ({ cls := "java/lang/StringUTF16", name := "compress", desc := "([BII)[B" } : Jvm.MethodName)) ∈ lw_all := lw_g (lw_at lw_m2 162 rfl) rfl
theorem q451 : (Jvm.Cond.code ({ cls := "java/lang/StringUTF16", name := "compress", desc := "([BII)[B" } : Jvm.MethodName) prog_39_method_17_code (6 : Nat) (Option.some (Jvm.ClassFile.FieldType.array Jvm.ClassFile.FieldType.byte))) ∈ lw_all := lw_g (lw_at lw_m2 163 rfl) rfl
theorem q452 : (Jvm.Cond.methodLink "java/lang/StringUTF16" (123 : Nat) ({ cls := "java/lang/StringUTF16", name := "compress", desc := "([BI[BII)I" } : Jvm.MethodName)) ∈ lw_all := lw_g (lw_at lw_m2 164 rfl) rfl
theorem q453 : (Jvm.Cond.static ({ cls := "java/lang/StringUTF16", name := "compress", desc := "([BI[BII)I" } : Jvm.MethodName)) ∈ lw_all := lw_g (lw_at lw_m2 165 rfl) rfl
theorem q454 : (Jvm.Cond.code ({ cls := "java/lang/StringUTF16", name := "compress", desc := "([BI[BII)I" } : Jvm.MethodName) prog_39_method_22_code (7 : Nat) (Option.some Jvm.ClassFile.FieldType.int)) ∈ lw_all := lw_g (lw_at lw_m2 166 rfl) rfl
theorem q455 : (Jvm.Cond.methodLink "java/lang/StringUTF16" (71 : Nat) ({ cls := "java/lang/StringUTF16", name := "getChar", desc := "([BI)C" } : Jvm.MethodName)) ∈ lw_all := lw_g (lw_at lw_m2 167 rfl) rfl
theorem q456 : (Jvm.Cond.static ({ cls := "java/lang/StringUTF16", name := "getChar", desc := "([BI)C" } : Jvm.MethodName)) ∈ lw_all := lw_g (lw_at lw_m2 168 rfl) rfl
theorem q457 : (Jvm.Cond.code ({ cls := "java/lang/StringUTF16", name := "getChar", desc := "([BI)C" } : Jvm.MethodName) prog_39_method_5_code (2 : Nat) (Option.some Jvm.ClassFile.FieldType.char)) ∈ lw_all := lw_g (lw_at lw_m2 169 rfl) rfl
theorem q458 : (Jvm.Cond.methodLink "java/lang/StringUTF16" (126 : Nat) ({ cls := "java/util/Arrays", name := "copyOfRange", desc := "([BII)[B" } : Jvm.MethodName)) ∈ lw_all := lw_g (lw_at lw_m2 170 rfl) rfl
theorem q460 : (Jvm.Cond.static ({ cls := "java/lang/StringUTF16", name := "coderFromArrayLen", desc := "([BI)B" } : Jvm.MethodName)) ∈ lw_all := lw_g (lw_at lw_m2 172 rfl) rfl
theorem q461 : (Jvm.Cond.code ({ cls := "java/lang/StringUTF16", name := "coderFromArrayLen", desc := "([BI)B" } : Jvm.MethodName) prog_39_method_15_code (2 : Nat) (Option.some Jvm.ClassFile.FieldType.byte)) ∈ lw_all := lw_g (lw_at lw_m2 173 rfl) rfl
theorem q702 : (Jvm.Cond.static ({ cls := "java/lang/StringUTF16", name := "charAt", desc := "([BI)C" } : Jvm.MethodName)) ∈ lw_all := lw_g (lw_at lw_m3 174 rfl) rfl
theorem q703 : (Jvm.Cond.code ({ cls := "java/lang/StringUTF16", name := "charAt", desc := "([BI)C" } : Jvm.MethodName) prog_39_method_83_code (2 : Nat) (Option.some Jvm.ClassFile.FieldType.char)) ∈ lw_all := lw_g (lw_at lw_m3 175 rfl) rfl
theorem q1486 : (Jvm.Cond.static ({ cls := "java/lang/StringUTF16", name := "putCharsAt", desc := "([BICCCC)I" } : Jvm.MethodName)) ∈ lw_all := lw_g (lw_at lw_m6 238 rfl) rfl
theorem q1487 : (Jvm.Cond.code ({ cls := "java/lang/StringUTF16", name := "putCharsAt", desc := "([BICCCC)I" } : Jvm.MethodName) prog_39_method_81_code (7 : Nat) (Option.some Jvm.ClassFile.FieldType.int)) ∈ lw_all := lw_g (lw_at lw_m6 239 rfl) rfl
theorem q1488 : (Jvm.Cond.methodLink "java/lang/StringUTF16" (96 : Nat) ({ cls := "java/lang/StringUTF16", name := "checkBoundsBeginEnd", desc := "(II[B)V" } : Jvm.MethodName)) ∈ lw_all := lw_g (lw_at lw_m7 0 rfl) rfl
theorem q1489 : (Jvm.Cond.static ({ cls := "java/lang/StringUTF16", name := "checkBoundsBeginEnd", desc := "(II[B)V" } : Jvm.MethodName)) ∈ lw_all := lw_g (lw_at lw_m7 1 rfl) rfl
theorem q1490 : (Jvm.Cond.code ({ cls := "java/lang/StringUTF16", name := "checkBoundsBeginEnd", desc := "(II[B)V" } : Jvm.MethodName) prog_39_method_93_code (3 : Nat) (Option.none : Option Jvm.ClassFile.FieldType)) ∈ lw_all := lw_g (lw_at lw_m7 2 rfl) rfl
theorem q1491 : (Jvm.Cond.methodLink "java/lang/StringUTF16" (241 : Nat) ({ cls := "java/lang/String", name := "checkBoundsBeginEnd", desc := "(III)V" } : Jvm.MethodName)) ∈ lw_all := lw_g (lw_at lw_m7 3 rfl) rfl
/-! jdk/internal/util/ArraysSupport -/
set_option maxRecDepth 100000
def RJ5 : String := "jdk/internal/util/ArraysSupport"
abbrev cJ5_newLength : ByteArray := prog_62_method_27_code
def yJ5_newLength : MethodName := ⟨RJ5, "newLength", "(III)I"⟩
def dkwJ5_newLength_1 : List UInt8 := [184, 0, 201, 172]
abbrev dktJ5_newLength_1 : List UInt8 := dkwJ5_newLength_1 ++ []
def dkwJ5_newLength_0 : List UInt8 := [26, 27, 28, 184, 0, 194, 96, 62, 3, 29, 162, 0, 11, 29, 18, 200, 163, 0, 5, 29, 172, 26, 27]
abbrev dktJ5_newLength_0 : List UInt8 := dkwJ5_newLength_0 ++ dktJ5_newLength_1
theorem dksJ5_newLength_0 : cJ5_newLength.data.toList.drop 0 = dktJ5_newLength_0 := by decide +kernel
theorem dksJ5_newLength_1 : cJ5_newLength.data.toList.drop 23 = dktJ5_newLength_1 := dk_seg dksJ5_newLength_0 23 rfl rfl
theorem dJ5_newLength_0 : decode cJ5_newLength 0 = .ok (.iload_n 0, 1) := dk_26 (dk_at dksJ5_newLength_0 0 rfl rfl)
theorem dJ5_newLength_1 : decode cJ5_newLength 1 = .ok (.iload_n 1, 1) := dk_27 (dk_at dksJ5_newLength_0 1 rfl rfl)
theorem dJ5_newLength_2 : decode cJ5_newLength 2 = .ok (.iload_n 2, 1) := dk_28 (dk_at dksJ5_newLength_0 2 rfl rfl)
theorem dJ5_newLength_3 : decode cJ5_newLength 3 = .ok (.invokestatic 194, 3) := dk_184 0 194 (dk_at dksJ5_newLength_0 3 rfl rfl)
theorem dJ5_newLength_6 : decode cJ5_newLength 6 = .ok (.iadd, 1) := dk_96 (dk_at dksJ5_newLength_0 6 rfl rfl)
theorem dJ5_newLength_7 : decode cJ5_newLength 7 = .ok (.istore_n 3, 1) := dk_62 (dk_at dksJ5_newLength_0 7 rfl rfl)
theorem dJ5_newLength_8 : decode cJ5_newLength 8 = .ok (.iconst 0, 1) := dk_3 (dk_at dksJ5_newLength_0 8 rfl rfl)
theorem dJ5_newLength_9 : decode cJ5_newLength 9 = .ok (.iload_n 3, 1) := dk_29 (dk_at dksJ5_newLength_0 9 rfl rfl)
theorem dJ5_newLength_10 : decode cJ5_newLength 10 = .ok (.if_icmp .ge 11, 3) := dk_162 0 11 (dk_at dksJ5_newLength_0 10 rfl rfl)
theorem dJ5_newLength_13 : decode cJ5_newLength 13 = .ok (.iload_n 3, 1) := dk_29 (dk_at dksJ5_newLength_0 13 rfl rfl)
theorem dJ5_newLength_14 : decode cJ5_newLength 14 = .ok (.ldc 200, 2) := dk_18 200 (dk_at dksJ5_newLength_0 14 rfl rfl)
theorem dJ5_newLength_16 : decode cJ5_newLength 16 = .ok (.if_icmp .gt 5, 3) := dk_163 0 5 (dk_at dksJ5_newLength_0 16 rfl rfl)
theorem dJ5_newLength_19 : decode cJ5_newLength 19 = .ok (.iload_n 3, 1) := dk_29 (dk_at dksJ5_newLength_0 19 rfl rfl)
theorem dJ5_newLength_20 : decode cJ5_newLength 20 = .ok (.ireturn, 1) := dk_172 (dk_at dksJ5_newLength_0 20 rfl rfl)
theorem dJ5_newLength_21 : decode cJ5_newLength 21 = .ok (.iload_n 0, 1) := dk_26 (dk_at dksJ5_newLength_0 21 rfl rfl)
theorem dJ5_newLength_22 : decode cJ5_newLength 22 = .ok (.iload_n 1, 1) := dk_27 (dk_at dksJ5_newLength_0 22 rfl rfl)
theorem dJ5_newLength_23 : decode cJ5_newLength 23 = .ok (.invokestatic 201, 3) := dk_184 0 201 (dk_at dksJ5_newLength_1 0 rfl rfl)
theorem dJ5_newLength_26 : decode cJ5_newLength 26 = .ok (.ireturn, 1) := dk_172 (dk_at dksJ5_newLength_1 3 rfl rfl)
abbrev cJ5_hugeLength : ByteArray := prog_62_method_28_code
def yJ5_hugeLength : MethodName := ⟨RJ5, "hugeLength", "(II)I"⟩
def dkwJ5_hugeLength_2 : List UInt8 := [191, 28, 18, 200, 163, 0, 6, 18, 200, 172, 28, 172]
abbrev dktJ5_hugeLength_2 : List UInt8 := dkwJ5_hugeLength_2 ++ []
def dkwJ5_hugeLength_1 : List UInt8 := [26, 182, 0, 98, 18, 208, 182, 0, 94, 27, 182, 0, 98, 18, 210, 182, 0, 94, 182, 0, 101, 183, 0, 212]
abbrev dktJ5_hugeLength_1 : List UInt8 := dkwJ5_hugeLength_1 ++ dktJ5_hugeLength_2
def dkwJ5_hugeLength_0 : List UInt8 := [26, 27, 96, 61, 28, 156, 0, 44, 187, 0, 204, 89, 187, 0, 89, 89, 183, 0, 91, 18, 206, 182, 0, 94]
abbrev dktJ5_hugeLength_0 : List UInt8 := dkwJ5_hugeLength_0 ++ dktJ5_hugeLength_1
theorem dksJ5_hugeLength_0 : cJ5_hugeLength.data.toList.drop 0 = dktJ5_hugeLength_0 := by decide +kernel
theorem dksJ5_hugeLength_1 : cJ5_hugeLength.data.toList.drop 24 = dktJ5_hugeLength_1 := dk_seg dksJ5_hugeLength_0 24 rfl rfl
theorem dksJ5_hugeLength_2 : cJ5_hugeLength.data.toList.drop 48 = dktJ5_hugeLength_2 := dk_seg dksJ5_hugeLength_1 24 rfl rfl
theorem dJ5_hugeLength_0 : decode cJ5_hugeLength 0 = .ok (.iload_n 0, 1) := dk_26 (dk_at dksJ5_hugeLength_0 0 rfl rfl)
theorem dJ5_hugeLength_1 : decode cJ5_hugeLength 1 = .ok (.iload_n 1, 1) := dk_27 (dk_at dksJ5_hugeLength_0 1 rfl rfl)
theorem dJ5_hugeLength_2 : decode cJ5_hugeLength 2 = .ok (.iadd, 1) := dk_96 (dk_at dksJ5_hugeLength_0 2 rfl rfl)
theorem dJ5_hugeLength_3 : decode cJ5_hugeLength 3 = .ok (.istore_n 2, 1) := dk_61 (dk_at dksJ5_hugeLength_0 3 rfl rfl)
theorem dJ5_hugeLength_4 : decode cJ5_hugeLength 4 = .ok (.iload_n 2, 1) := dk_28 (dk_at dksJ5_hugeLength_0 4 rfl rfl)
theorem dJ5_hugeLength_5 : decode cJ5_hugeLength 5 = .ok (.ifCond .ge 44, 3) := dk_156 0 44 (dk_at dksJ5_hugeLength_0 5 rfl rfl)
theorem dJ5_hugeLength_8 : decode cJ5_hugeLength 8 = .ok (.new 204, 3) := dk_187 0 204 (dk_at dksJ5_hugeLength_0 8 rfl rfl)
theorem dJ5_hugeLength_11 : decode cJ5_hugeLength 11 = .ok (.dup, 1) := dk_89 (dk_at dksJ5_hugeLength_0 11 rfl rfl)
theorem dJ5_hugeLength_12 : decode cJ5_hugeLength 12 = .ok (.new 89, 3) := dk_187 0 89 (dk_at dksJ5_hugeLength_0 12 rfl rfl)
theorem dJ5_hugeLength_15 : decode cJ5_hugeLength 15 = .ok (.dup, 1) := dk_89 (dk_at dksJ5_hugeLength_0 15 rfl rfl)
theorem dJ5_hugeLength_16 : decode cJ5_hugeLength 16 = .ok (.invokespecial 91, 3) := dk_183 0 91 (dk_at dksJ5_hugeLength_0 16 rfl rfl)
theorem dJ5_hugeLength_19 : decode cJ5_hugeLength 19 = .ok (.ldc 206, 2) := dk_18 206 (dk_at dksJ5_hugeLength_0 19 rfl rfl)
theorem dJ5_hugeLength_21 : decode cJ5_hugeLength 21 = .ok (.invokevirtual 94, 3) := dk_182 0 94 (dk_at dksJ5_hugeLength_0 21 rfl rfl)
theorem dJ5_hugeLength_24 : decode cJ5_hugeLength 24 = .ok (.iload_n 0, 1) := dk_26 (dk_at dksJ5_hugeLength_1 0 rfl rfl)
theorem dJ5_hugeLength_25 : decode cJ5_hugeLength 25 = .ok (.invokevirtual 98, 3) := dk_182 0 98 (dk_at dksJ5_hugeLength_1 1 rfl rfl)
theorem dJ5_hugeLength_28 : decode cJ5_hugeLength 28 = .ok (.ldc 208, 2) := dk_18 208 (dk_at dksJ5_hugeLength_1 4 rfl rfl)
theorem dJ5_hugeLength_30 : decode cJ5_hugeLength 30 = .ok (.invokevirtual 94, 3) := dk_182 0 94 (dk_at dksJ5_hugeLength_1 6 rfl rfl)
theorem dJ5_hugeLength_33 : decode cJ5_hugeLength 33 = .ok (.iload_n 1, 1) := dk_27 (dk_at dksJ5_hugeLength_1 9 rfl rfl)
theorem dJ5_hugeLength_34 : decode cJ5_hugeLength 34 = .ok (.invokevirtual 98, 3) := dk_182 0 98 (dk_at dksJ5_hugeLength_1 10 rfl rfl)
theorem dJ5_hugeLength_37 : decode cJ5_hugeLength 37 = .ok (.ldc 210, 2) := dk_18 210 (dk_at dksJ5_hugeLength_1 13 rfl rfl)
theorem dJ5_hugeLength_39 : decode cJ5_hugeLength 39 = .ok (.invokevirtual 94, 3) := dk_182 0 94 (dk_at dksJ5_hugeLength_1 15 rfl rfl)
theorem dJ5_hugeLength_42 : decode cJ5_hugeLength 42 = .ok (.invokevirtual 101, 3) := dk_182 0 101 (dk_at dksJ5_hugeLength_1 18 rfl rfl)
theorem dJ5_hugeLength_45 : decode cJ5_hugeLength 45 = .ok (.invokespecial 212, 3) := dk_183 0 212 (dk_at dksJ5_hugeLength_1 21 rfl rfl)
theorem dJ5_hugeLength_48 : decode cJ5_hugeLength 48 = .ok (.athrow, 1) := dk_191 (dk_at dksJ5_hugeLength_2 0 rfl rfl)
theorem dJ5_hugeLength_49 : decode cJ5_hugeLength 49 = .ok (.iload_n 2, 1) := dk_28 (dk_at dksJ5_hugeLength_2 1 rfl rfl)
theorem dJ5_hugeLength_50 : decode cJ5_hugeLength 50 = .ok (.ldc 200, 2) := dk_18 200 (dk_at dksJ5_hugeLength_2 2 rfl rfl)
theorem dJ5_hugeLength_52 : decode cJ5_hugeLength 52 = .ok (.if_icmp .gt 6, 3) := dk_163 0 6 (dk_at dksJ5_hugeLength_2 4 rfl rfl)
theorem dJ5_hugeLength_55 : decode cJ5_hugeLength 55 = .ok (.ldc 200, 2) := dk_18 200 (dk_at dksJ5_hugeLength_2 7 rfl rfl)
theorem dJ5_hugeLength_57 : decode cJ5_hugeLength 57 = .ok (.ireturn, 1) := dk_172 (dk_at dksJ5_hugeLength_2 9 rfl rfl)
theorem dJ5_hugeLength_58 : decode cJ5_hugeLength 58 = .ok (.iload_n 2, 1) := dk_28 (dk_at dksJ5_hugeLength_2 10 rfl rfl)
theorem dJ5_hugeLength_59 : decode cJ5_hugeLength 59 = .ok (.ireturn, 1) := dk_172 (dk_at dksJ5_hugeLength_2 11 rfl rfl)
theorem q59 : (Jvm.Cond.initialized "jdk/internal/util/ArraysSupport") ∈ lw_all := lw_g (lw_at lw_m1 11 rfl) rfl
theorem q335 : (Jvm.Cond.static ({ cls := "jdk/internal/util/ArraysSupport", name := "newLength", desc := "(III)I" } : Jvm.MethodName)) ∈ lw_all := lw_g (lw_at lw_m2 47 rfl) rfl
theorem q336 : (Jvm.Cond.code ({ cls := "jdk/internal/util/ArraysSupport", name := "newLength", desc := "(III)I" } : Jvm.MethodName) prog_62_method_27_code (4 : Nat) (Option.some Jvm.ClassFile.FieldType.int)) ∈ lw_all := lw_g (lw_at lw_m2 48 rfl) rfl
theorem q337 : (Jvm.Cond.methodLink "jdk/internal/util/ArraysSupport" (194 : Nat) ({ cls := "java/lang/Math", name := "max", desc := "(II)I" } : Jvm.MethodName)) ∈ lw_all := lw_g (lw_at lw_m2 49 rfl) rfl
theorem q340 : (Jvm.Cond.constant "jdk/internal/util/ArraysSupport" (200 : Nat) (2147483639 : Int32)) ∈ lw_all := lw_g (lw_at lw_m2 52 rfl) rfl
theorem q341 : (Jvm.Cond.methodLink "jdk/internal/util/ArraysSupport" (201 : Nat) ({ cls := "jdk/internal/util/ArraysSupport", name := "hugeLength", desc := "(II)I" } : Jvm.MethodName)) ∈ lw_all := lw_g (lw_at lw_m2 53 rfl) rfl
theorem q342 : (Jvm.Cond.static ({ cls := "jdk/internal/util/ArraysSupport", name := "hugeLength", desc := "(II)I" } : Jvm.MethodName)) ∈ lw_all := lw_g (lw_at lw_m2 54 rfl) rfl
theorem q343 : (Jvm.Cond.code ({ cls := "jdk/internal/util/ArraysSupport", name := "hugeLength", desc := "(II)I" } : Jvm.MethodName) prog_62_method_28_code (3 : Nat) (Option.some Jvm.ClassFile.FieldType.int)) ∈ lw_all := lw_g (lw_at lw_m2 55 rfl) rfl
/-! java/lang/Math -/
set_option maxRecDepth 100000
def RJ6 : String := "java/lang/Math"
abbrev cJ6_max : ByteArray := prog_32_method_65_code
def yJ6_max : MethodName := ⟨RJ6, "max", "(II)I"⟩
def dkwJ6_max_0 : List UInt8 := [26, 27, 161, 0, 7, 26, 167, 0, 4, 27, 172]
abbrev dktJ6_max_0 : List UInt8 := dkwJ6_max_0 ++ []
theorem dksJ6_max_0 : cJ6_max.data.toList.drop 0 = dktJ6_max_0 := by decide +kernel
theorem dJ6_max_0 : decode cJ6_max 0 = .ok (.iload_n 0, 1) := dk_26 (dk_at dksJ6_max_0 0 rfl rfl)
theorem dJ6_max_1 : decode cJ6_max 1 = .ok (.iload_n 1, 1) := dk_27 (dk_at dksJ6_max_0 1 rfl rfl)
theorem dJ6_max_2 : decode cJ6_max 2 = .ok (.if_icmp .lt 7, 3) := dk_161 0 7 (dk_at dksJ6_max_0 2 rfl rfl)
theorem dJ6_max_5 : decode cJ6_max 5 = .ok (.iload_n 0, 1) := dk_26 (dk_at dksJ6_max_0 5 rfl rfl)
theorem dJ6_max_6 : decode cJ6_max 6 = .ok (.goto 4, 3) := dk_167 0 4 (dk_at dksJ6_max_0 6 rfl rfl)
theorem dJ6_max_9 : decode cJ6_max 9 = .ok (.iload_n 1, 1) := dk_27 (dk_at dksJ6_max_0 9 rfl rfl)
theorem dJ6_max_10 : decode cJ6_max 10 = .ok (.ireturn, 1) := dk_172 (dk_at dksJ6_max_0 10 rfl rfl)
abbrev cJ6_min : ByteArray := prog_32_method_69_code
def yJ6_min : MethodName := ⟨RJ6, "min", "(II)I"⟩
def dkwJ6_min_0 : List UInt8 := [26, 27, 163, 0, 7, 26, 167, 0, 4, 27, 172]
abbrev dktJ6_min_0 : List UInt8 := dkwJ6_min_0 ++ []
theorem dksJ6_min_0 : cJ6_min.data.toList.drop 0 = dktJ6_min_0 := by decide +kernel
theorem dJ6_min_0 : decode cJ6_min 0 = .ok (.iload_n 0, 1) := dk_26 (dk_at dksJ6_min_0 0 rfl rfl)
theorem dJ6_min_1 : decode cJ6_min 1 = .ok (.iload_n 1, 1) := dk_27 (dk_at dksJ6_min_0 1 rfl rfl)
theorem dJ6_min_2 : decode cJ6_min 2 = .ok (.if_icmp .gt 7, 3) := dk_163 0 7 (dk_at dksJ6_min_0 2 rfl rfl)
theorem dJ6_min_5 : decode cJ6_min 5 = .ok (.iload_n 0, 1) := dk_26 (dk_at dksJ6_min_0 5 rfl rfl)
theorem dJ6_min_6 : decode cJ6_min 6 = .ok (.goto 4, 3) := dk_167 0 4 (dk_at dksJ6_min_0 6 rfl rfl)
theorem dJ6_min_9 : decode cJ6_min 9 = .ok (.iload_n 1, 1) := dk_27 (dk_at dksJ6_min_0 9 rfl rfl)
theorem dJ6_min_10 : decode cJ6_min 10 = .ok (.ireturn, 1) := dk_172 (dk_at dksJ6_min_0 10 rfl rfl)
abbrev cJ6_abs : ByteArray := prog_32_method_59_code
def yJ6_abs : MethodName := ⟨RJ6, "abs", "(I)I"⟩
def dkwJ6_abs_0 : List UInt8 := [26, 156, 0, 8, 26, 116, 167, 0, 4, 26, 172]
abbrev dktJ6_abs_0 : List UInt8 := dkwJ6_abs_0 ++ []
theorem dksJ6_abs_0 : cJ6_abs.data.toList.drop 0 = dktJ6_abs_0 := by decide +kernel
theorem dJ6_abs_0 : decode cJ6_abs 0 = .ok (.iload_n 0, 1) := dk_26 (dk_at dksJ6_abs_0 0 rfl rfl)
theorem dJ6_abs_1 : decode cJ6_abs 1 = .ok (.ifCond .ge 8, 3) := dk_156 0 8 (dk_at dksJ6_abs_0 1 rfl rfl)
theorem dJ6_abs_4 : decode cJ6_abs 4 = .ok (.iload_n 0, 1) := dk_26 (dk_at dksJ6_abs_0 4 rfl rfl)
theorem dJ6_abs_5 : decode cJ6_abs 5 = .ok (.ineg, 1) := dk_116 (dk_at dksJ6_abs_0 5 rfl rfl)
theorem dJ6_abs_6 : decode cJ6_abs 6 = .ok (.goto 4, 3) := dk_167 0 4 (dk_at dksJ6_abs_0 6 rfl rfl)
theorem dJ6_abs_9 : decode cJ6_abs 9 = .ok (.iload_n 0, 1) := dk_26 (dk_at dksJ6_abs_0 9 rfl rfl)
theorem dJ6_abs_10 : decode cJ6_abs 10 = .ok (.ireturn, 1) := dk_172 (dk_at dksJ6_abs_0 10 rfl rfl)
theorem q60 : (Jvm.Cond.initialized "java/lang/Math") ∈ lw_all := lw_g (lw_at lw_m1 12 rfl) rfl
theorem q338 : (Jvm.Cond.static ({ cls := "java/lang/Math", name := "max", desc := "(II)I" } : Jvm.MethodName)) ∈ lw_all := lw_g (lw_at lw_m2 50 rfl) rfl
theorem q339 : (Jvm.Cond.code ({ cls := "java/lang/Math", name := "max", desc := "(II)I" } : Jvm.MethodName) prog_32_method_65_code (2 : Nat) (Option.some Jvm.ClassFile.FieldType.int)) ∈ lw_all := lw_g (lw_at lw_m2 51 rfl) rfl
theorem q356 : (Jvm.Cond.static ({ cls := "java/lang/Math", name := "min", desc := "(II)I" } : Jvm.MethodName)) ∈ lw_all := lw_g (lw_at lw_m2 68 rfl) rfl
theorem q357 : (Jvm.Cond.code ({ cls := "java/lang/Math", name := "min", desc := "(II)I" } : Jvm.MethodName) prog_32_method_69_code (2 : Nat) (Option.some Jvm.ClassFile.FieldType.int)) ∈ lw_all := lw_g (lw_at lw_m2 69 rfl) rfl
theorem q957 : (Jvm.Cond.static ({ cls := "java/lang/Math", name := "abs", desc := "(I)I" } : Jvm.MethodName)) ∈ lw_all := lw_g (lw_at lw_m4 189 rfl) rfl
theorem q958 : (Jvm.Cond.code ({ cls := "java/lang/Math", name := "abs", desc := "(I)I" } : Jvm.MethodName) prog_32_method_59_code (1 : Nat) (Option.some Jvm.ClassFile.FieldType.int)) ∈ lw_all := lw_g (lw_at lw_m4 190 rfl) rfl
/-! java/lang/StringLatin1 -/
set_option maxRecDepth 100000
def RJ7 : String := "java/lang/StringLatin1"
abbrev cJ7_canEncode : ByteArray := prog_38_method_3_code
def yJ7_canEncode : MethodName := ⟨RJ7, "canEncode", "(C)Z"⟩
def dkwJ7_canEncode_0 : List UInt8 := [26, 17, 0, 255, 163, 0, 7, 4, 167, 0, 4, 3, 172]
abbrev dktJ7_canEncode_0 : List UInt8 := dkwJ7_canEncode_0 ++ []
theorem dksJ7_canEncode_0 : cJ7_canEncode.data.toList.drop 0 = dktJ7_canEncode_0 := by decide +kernel
theorem dJ7_canEncode_0 : decode cJ7_canEncode 0 = .ok (.iload_n 0, 1) := dk_26 (dk_at dksJ7_canEncode_0 0 rfl rfl)
theorem dJ7_canEncode_1 : decode cJ7_canEncode 1 = .ok (.sipush 255, 3) := dk_17 0 255 (dk_at dksJ7_canEncode_0 1 rfl rfl)
theorem dJ7_canEncode_4 : decode cJ7_canEncode 4 = .ok (.if_icmp .gt 7, 3) := dk_163 0 7 (dk_at dksJ7_canEncode_0 4 rfl rfl)
theorem dJ7_canEncode_7 : decode cJ7_canEncode 7 = .ok (.iconst 1, 1) := dk_4 (dk_at dksJ7_canEncode_0 7 rfl rfl)
theorem dJ7_canEncode_8 : decode cJ7_canEncode 8 = .ok (.goto 4, 3) := dk_167 0 4 (dk_at dksJ7_canEncode_0 8 rfl rfl)
theorem dJ7_canEncode_11 : decode cJ7_canEncode 11 = .ok (.iconst 0, 1) := dk_3 (dk_at dksJ7_canEncode_0 11 rfl rfl)
theorem dJ7_canEncode_12 : decode cJ7_canEncode 12 = .ok (.ireturn, 1) := dk_172 (dk_at dksJ7_canEncode_0 12 rfl rfl)
abbrev cJ7_inflate : ByteArray := prog_38_method_50_code
def yJ7_inflate : MethodName := ⟨RJ7, "inflate", "([BI[BII)V"⟩
def dkwJ7_inflate_0 : List UInt8 := [42, 27, 44, 29, 21, 4, 184, 0, 240, 177]
abbrev dktJ7_inflate_0 : List UInt8 := dkwJ7_inflate_0 ++ []
theorem dksJ7_inflate_0 : cJ7_inflate.data.toList.drop 0 = dktJ7_inflate_0 := by decide +kernel
theorem dJ7_inflate_0 : decode cJ7_inflate 0 = .ok (.aload_n 0, 1) := dk_42 (dk_at dksJ7_inflate_0 0 rfl rfl)
theorem dJ7_inflate_1 : decode cJ7_inflate 1 = .ok (.iload_n 1, 1) := dk_27 (dk_at dksJ7_inflate_0 1 rfl rfl)
theorem dJ7_inflate_2 : decode cJ7_inflate 2 = .ok (.aload_n 2, 1) := dk_44 (dk_at dksJ7_inflate_0 2 rfl rfl)
theorem dJ7_inflate_3 : decode cJ7_inflate 3 = .ok (.iload_n 3, 1) := dk_29 (dk_at dksJ7_inflate_0 3 rfl rfl)
theorem dJ7_inflate_4 : decode cJ7_inflate 4 = .ok (.iload 4, 2) := dk_21 4 (dk_at dksJ7_inflate_0 4 rfl rfl)
theorem dJ7_inflate_6 : decode cJ7_inflate 6 = .ok (.invokestatic 240, 3) := dk_184 0 240 (dk_at dksJ7_inflate_0 6 rfl rfl)
theorem dJ7_inflate_9 : decode cJ7_inflate 9 = .ok (.return_, 1) := dk_177 (dk_at dksJ7_inflate_0 9 rfl rfl)
abbrev cJ7_equals : ByteArray := prog_38_method_13_code
def yJ7_equals : MethodName := ⟨RJ7, "equals", "([B[B)Z"⟩
def dkwJ7_equals_1 : List UInt8 := [3, 172, 132, 2, 1, 167, 255, 236, 4, 172, 3, 172]
abbrev dktJ7_equals_1 : List UInt8 := dkwJ7_equals_1 ++ []
def dkwJ7_equals_0 : List UInt8 := [42, 190, 43, 190, 160, 0, 30, 3, 61, 28, 42, 190, 162, 0, 20, 42, 28, 51, 43, 28, 51, 159, 0, 5]
abbrev dktJ7_equals_0 : List UInt8 := dkwJ7_equals_0 ++ dktJ7_equals_1
theorem dksJ7_equals_0 : cJ7_equals.data.toList.drop 0 = dktJ7_equals_0 := by decide +kernel
theorem dksJ7_equals_1 : cJ7_equals.data.toList.drop 24 = dktJ7_equals_1 := dk_seg dksJ7_equals_0 24 rfl rfl
theorem dJ7_equals_0 : decode cJ7_equals 0 = .ok (.aload_n 0, 1) := dk_42 (dk_at dksJ7_equals_0 0 rfl rfl)
theorem dJ7_equals_1 : decode cJ7_equals 1 = .ok (.arraylength, 1) := dk_190 (dk_at dksJ7_equals_0 1 rfl rfl)
theorem dJ7_equals_2 : decode cJ7_equals 2 = .ok (.aload_n 1, 1) := dk_43 (dk_at dksJ7_equals_0 2 rfl rfl)
theorem dJ7_equals_3 : decode cJ7_equals 3 = .ok (.arraylength, 1) := dk_190 (dk_at dksJ7_equals_0 3 rfl rfl)
theorem dJ7_equals_4 : decode cJ7_equals 4 = .ok (.if_icmp .ne 30, 3) := dk_160 0 30 (dk_at dksJ7_equals_0 4 rfl rfl)
theorem dJ7_equals_7 : decode cJ7_equals 7 = .ok (.iconst 0, 1) := dk_3 (dk_at dksJ7_equals_0 7 rfl rfl)
theorem dJ7_equals_8 : decode cJ7_equals 8 = .ok (.istore_n 2, 1) := dk_61 (dk_at dksJ7_equals_0 8 rfl rfl)
theorem dJ7_equals_9 : decode cJ7_equals 9 = .ok (.iload_n 2, 1) := dk_28 (dk_at dksJ7_equals_0 9 rfl rfl)
theorem dJ7_equals_10 : decode cJ7_equals 10 = .ok (.aload_n 0, 1) := dk_42 (dk_at dksJ7_equals_0 10 rfl rfl)
theorem dJ7_equals_11 : decode cJ7_equals 11 = .ok (.arraylength, 1) := dk_190 (dk_at dksJ7_equals_0 11 rfl rfl)
theorem dJ7_equals_12 : decode cJ7_equals 12 = .ok (.if_icmp .ge 20, 3) := dk_162 0 20 (dk_at dksJ7_equals_0 12 rfl rfl)
theorem dJ7_equals_15 : decode cJ7_equals 15 = .ok (.aload_n 0, 1) := dk_42 (dk_at dksJ7_equals_0 15 rfl rfl)
theorem dJ7_equals_16 : decode cJ7_equals 16 = .ok (.iload_n 2, 1) := dk_28 (dk_at dksJ7_equals_0 16 rfl rfl)
theorem dJ7_equals_17 : decode cJ7_equals 17 = .ok (.baload, 1) := dk_51 (dk_at dksJ7_equals_0 17 rfl rfl)
theorem dJ7_equals_18 : decode cJ7_equals 18 = .ok (.aload_n 1, 1) := dk_43 (dk_at dksJ7_equals_0 18 rfl rfl)
theorem dJ7_equals_19 : decode cJ7_equals 19 = .ok (.iload_n 2, 1) := dk_28 (dk_at dksJ7_equals_0 19 rfl rfl)
theorem dJ7_equals_20 : decode cJ7_equals 20 = .ok (.baload, 1) := dk_51 (dk_at dksJ7_equals_0 20 rfl rfl)
theorem dJ7_equals_21 : decode cJ7_equals 21 = .ok (.if_icmp .eq 5, 3) := dk_159 0 5 (dk_at dksJ7_equals_0 21 rfl rfl)
theorem dJ7_equals_24 : decode cJ7_equals 24 = .ok (.iconst 0, 1) := dk_3 (dk_at dksJ7_equals_1 0 rfl rfl)
theorem dJ7_equals_25 : decode cJ7_equals 25 = .ok (.ireturn, 1) := dk_172 (dk_at dksJ7_equals_1 1 rfl rfl)
theorem dJ7_equals_26 : decode cJ7_equals 26 = .ok (.iinc 2 1, 3) := dk_132 2 1 (dk_at dksJ7_equals_1 2 rfl rfl)
theorem dJ7_equals_29 : decode cJ7_equals 29 = .ok (.goto (-20), 3) := dk_167 255 236 (dk_at dksJ7_equals_1 5 rfl rfl)
theorem dJ7_equals_32 : decode cJ7_equals 32 = .ok (.iconst 1, 1) := dk_4 (dk_at dksJ7_equals_1 8 rfl rfl)
theorem dJ7_equals_33 : decode cJ7_equals 33 = .ok (.ireturn, 1) := dk_172 (dk_at dksJ7_equals_1 9 rfl rfl)
theorem dJ7_equals_34 : decode cJ7_equals 34 = .ok (.iconst 0, 1) := dk_3 (dk_at dksJ7_equals_1 10 rfl rfl)
theorem dJ7_equals_35 : decode cJ7_equals 35 = .ok (.ireturn, 1) := dk_172 (dk_at dksJ7_equals_1 11 rfl rfl)
abbrev cJ7_charAt : ByteArray := prog_38_method_2_code
def yJ7_charAt : MethodName := ⟨RJ7, "charAt", "([BI)C"⟩
def dkwJ7_charAt_0 : List UInt8 := [27, 42, 190, 184, 0, 9, 42, 27, 51, 17, 0, 255, 126, 146, 172]
abbrev dktJ7_charAt_0 : List UInt8 := dkwJ7_charAt_0 ++ []
theorem dksJ7_charAt_0 : cJ7_charAt.data.toList.drop 0 = dktJ7_charAt_0 := by decide +kernel
theorem dJ7_charAt_0 : decode cJ7_charAt 0 = .ok (.iload_n 1, 1) := dk_27 (dk_at dksJ7_charAt_0 0 rfl rfl)
theorem dJ7_charAt_1 : decode cJ7_charAt 1 = .ok (.aload_n 0, 1) := dk_42 (dk_at dksJ7_charAt_0 1 rfl rfl)
theorem dJ7_charAt_2 : decode cJ7_charAt 2 = .ok (.arraylength, 1) := dk_190 (dk_at dksJ7_charAt_0 2 rfl rfl)
theorem dJ7_charAt_3 : decode cJ7_charAt 3 = .ok (.invokestatic 9, 3) := dk_184 0 9 (dk_at dksJ7_charAt_0 3 rfl rfl)
theorem dJ7_charAt_6 : decode cJ7_charAt 6 = .ok (.aload_n 0, 1) := dk_42 (dk_at dksJ7_charAt_0 6 rfl rfl)
theorem dJ7_charAt_7 : decode cJ7_charAt 7 = .ok (.iload_n 1, 1) := dk_27 (dk_at dksJ7_charAt_0 7 rfl rfl)
theorem dJ7_charAt_8 : decode cJ7_charAt 8 = .ok (.baload, 1) := dk_51 (dk_at dksJ7_charAt_0 8 rfl rfl)
theorem dJ7_charAt_9 : decode cJ7_charAt 9 = .ok (.sipush 255, 3) := dk_17 0 255 (dk_at dksJ7_charAt_0 9 rfl rfl)
theorem dJ7_charAt_12 : decode cJ7_charAt 12 = .ok (.iand, 1) := dk_126 (dk_at dksJ7_charAt_0 12 rfl rfl)
theorem dJ7_charAt_13 : decode cJ7_charAt 13 = .ok (.i2c, 1) := dk_146 (dk_at dksJ7_charAt_0 13 rfl rfl)
theorem dJ7_charAt_14 : decode cJ7_charAt 14 = .ok (.ireturn, 1) := dk_172 (dk_at dksJ7_charAt_0 14 rfl rfl)
theorem q61 : (Jvm.Cond.initialized "java/lang/StringLatin1") ∈ lw_all := lw_g (lw_at lw_m1 13 rfl) rfl
theorem q365 : (Jvm.Cond.static ({ cls := "java/lang/StringLatin1", name := "canEncode", desc := "(C)Z" } : Jvm.MethodName)) ∈ lw_all := lw_g (lw_at lw_m2 77 rfl) rfl
theorem q366 : (Jvm.Cond.code ({ cls := "java/lang/StringLatin1", name := "canEncode", desc := "(C)Z" } : Jvm.MethodName) prog_38_method_3_code (1 : Nat) (Option.some Jvm.ClassFile.FieldType.boolean)) ∈ lw_all := lw_g (lw_at lw_m2 78 rfl) rfl
theorem q372 : (Jvm.Cond.static ({ cls := "java/lang/StringLatin1", name := "inflate", desc := "([BI[BII)V" } : Jvm.MethodName)) ∈ lw_all := lw_g (lw_at lw_m2 84 rfl) rfl
theorem q373 : (Jvm.Cond.code ({ cls := "java/lang/StringLatin1", name := "inflate", desc := "([BI[BII)V" } : Jvm.MethodName) prog_38_method_50_code (5 : Nat) (Option.none : Option Jvm.ClassFile.FieldType)) ∈ lw_all := lw_g (lw_at lw_m2 85 rfl) rfl
theorem q374 : (Jvm.Cond.methodLink "java/lang/StringLatin1" (240 : Nat) ({ cls := "java/lang/StringUTF16", name := "inflate", desc := "([BI[BII)V" } : Jvm.MethodName)) ∈ lw_all := lw_g (lw_at lw_m2 86 rfl) rfl
theorem q637 : (Jvm.Cond.static ({ cls := "java/lang/StringLatin1", name := "equals", desc := "([B[B)Z" } : Jvm.MethodName)) ∈ lw_all := lw_g (lw_at lw_m3 109 rfl) rfl
theorem q638 : (Jvm.Cond.code ({ cls := "java/lang/StringLatin1", name := "equals", desc := "([B[B)Z" } : Jvm.MethodName) prog_38_method_13_code (3 : Nat) (Option.some Jvm.ClassFile.FieldType.boolean)) ∈ lw_all := lw_g (lw_at lw_m3 110 rfl) rfl
theorem q698 : (Jvm.Cond.static ({ cls := "java/lang/StringLatin1", name := "charAt", desc := "([BI)C" } : Jvm.MethodName)) ∈ lw_all := lw_g (lw_at lw_m3 170 rfl) rfl
theorem q699 : (Jvm.Cond.code ({ cls := "java/lang/StringLatin1", name := "charAt", desc := "([BI)C" } : Jvm.MethodName) prog_38_method_2_code (2 : Nat) (Option.some Jvm.ClassFile.FieldType.char)) ∈ lw_all := lw_g (lw_at lw_m3 171 rfl) rfl
theorem q700 : (Jvm.Cond.methodLink "java/lang/StringLatin1" (9 : Nat) ({ cls := "java/lang/String", name := "checkIndex", desc := "(II)V" } : Jvm.MethodName)) ∈ lw_all := lw_g (lw_at lw_m3 172 rfl) rfl
/-! jdk/internal/util/Preconditions -/
set_option maxRecDepth 100000
def RJ8 : String := "jdk/internal/util/Preconditions"
abbrev cJ8_checkFromIndexSize : ByteArray := prog_63_method_13_code
def yJ8_checkFromIndexSize : MethodName := ⟨RJ8, "checkFromIndexSize", "(IIILjava/util/function/BiFunction;)I"⟩
def dkwJ8_checkFromIndexSize_1 : List UInt8 := [172]
abbrev dktJ8_checkFromIndexSize_1 : List UInt8 := dkwJ8_checkFromIndexSize_1 ++ []
def dkwJ8_checkFromIndexSize_0 : List UInt8 := [28, 26, 128, 27, 128, 155, 0, 10, 27, 28, 26, 100, 164, 0, 11, 45, 26, 27, 28, 184, 0, 103, 191, 26]
abbrev dktJ8_checkFromIndexSize_0 : List UInt8 := dkwJ8_checkFromIndexSize_0 ++ dktJ8_checkFromIndexSize_1
theorem dksJ8_checkFromIndexSize_0 : cJ8_checkFromIndexSize.data.toList.drop 0 = dktJ8_checkFromIndexSize_0 := by decide +kernel
theorem dksJ8_checkFromIndexSize_1 : cJ8_checkFromIndexSize.data.toList.drop 24 = dktJ8_checkFromIndexSize_1 := dk_seg dksJ8_checkFromIndexSize_0 24 rfl rfl
theorem dJ8_checkFromIndexSize_0 : decode cJ8_checkFromIndexSize 0 = .ok (.iload_n 2, 1) := dk_28 (dk_at dksJ8_checkFromIndexSize_0 0 rfl rfl)
theorem dJ8_checkFromIndexSize_1 : decode cJ8_checkFromIndexSize 1 = .ok (.iload_n 0, 1) := dk_26 (dk_at dksJ8_checkFromIndexSize_0 1 rfl rfl)
theorem dJ8_checkFromIndexSize_2 : decode cJ8_checkFromIndexSize 2 = .ok (.ior, 1) := dk_128 (dk_at dksJ8_checkFromIndexSize_0 2 rfl rfl)
theorem dJ8_checkFromIndexSize_3 : decode cJ8_checkFromIndexSize 3 = .ok (.iload_n 1, 1) := dk_27 (dk_at dksJ8_checkFromIndexSize_0 3 rfl rfl)
theorem dJ8_checkFromIndexSize_4 : decode cJ8_checkFromIndexSize 4 = .ok (.ior, 1) := dk_128 (dk_at dksJ8_checkFromIndexSize_0 4 rfl rfl)
theorem dJ8_checkFromIndexSize_5 : decode cJ8_checkFromIndexSize 5 = .ok (.ifCond .lt 10, 3) := dk_155 0 10 (dk_at dksJ8_checkFromIndexSize_0 5 rfl rfl)
theorem dJ8_checkFromIndexSize_8 : decode cJ8_checkFromIndexSize 8 = .ok (.iload_n 1, 1) := dk_27 (dk_at dksJ8_checkFromIndexSize_0 8 rfl rfl)
theorem dJ8_checkFromIndexSize_9 : decode cJ8_checkFromIndexSize 9 = .ok (.iload_n 2, 1) := dk_28 (dk_at dksJ8_checkFromIndexSize_0 9 rfl rfl)
theorem dJ8_checkFromIndexSize_10 : decode cJ8_checkFromIndexSize 10 = .ok (.iload_n 0, 1) := dk_26 (dk_at dksJ8_checkFromIndexSize_0 10 rfl rfl)
theorem dJ8_checkFromIndexSize_11 : decode cJ8_checkFromIndexSize 11 = .ok (.isub, 1) := dk_100 (dk_at dksJ8_checkFromIndexSize_0 11 rfl rfl)
theorem dJ8_checkFromIndexSize_12 : decode cJ8_checkFromIndexSize 12 = .ok (.if_icmp .le 11, 3) := dk_164 0 11 (dk_at dksJ8_checkFromIndexSize_0 12 rfl rfl)
theorem dJ8_checkFromIndexSize_15 : decode cJ8_checkFromIndexSize 15 = .ok (.aload_n 3, 1) := dk_45 (dk_at dksJ8_checkFromIndexSize_0 15 rfl rfl)
theorem dJ8_checkFromIndexSize_16 : decode cJ8_checkFromIndexSize 16 = .ok (.iload_n 0, 1) := dk_26 (dk_at dksJ8_checkFromIndexSize_0 16 rfl rfl)
theorem dJ8_checkFromIndexSize_17 : decode cJ8_checkFromIndexSize 17 = .ok (.iload_n 1, 1) := dk_27 (dk_at dksJ8_checkFromIndexSize_0 17 rfl rfl)
theorem dJ8_checkFromIndexSize_18 : decode cJ8_checkFromIndexSize 18 = .ok (.iload_n 2, 1) := dk_28 (dk_at dksJ8_checkFromIndexSize_0 18 rfl rfl)
theorem dJ8_checkFromIndexSize_19 : decode cJ8_checkFromIndexSize 19 = .ok (.invokestatic 103, 3) := dk_184 0 103 (dk_at dksJ8_checkFromIndexSize_0 19 rfl rfl)
theorem dJ8_checkFromIndexSize_22 : decode cJ8_checkFromIndexSize 22 = .ok (.athrow, 1) := dk_191 (dk_at dksJ8_checkFromIndexSize_0 22 rfl rfl)
theorem dJ8_checkFromIndexSize_23 : decode cJ8_checkFromIndexSize 23 = .ok (.iload_n 0, 1) := dk_26 (dk_at dksJ8_checkFromIndexSize_0 23 rfl rfl)
theorem dJ8_checkFromIndexSize_24 : decode cJ8_checkFromIndexSize 24 = .ok (.ireturn, 1) := dk_172 (dk_at dksJ8_checkFromIndexSize_1 0 rfl rfl)
abbrev cJ8_checkIndex : ByteArray := prog_63_method_11_code
def yJ8_checkIndex : MethodName := ⟨RJ8, "checkIndex", "(IILjava/util/function/BiFunction;)I"⟩
def dkwJ8_checkIndex_0 : List UInt8 := [26, 155, 0, 8, 26, 27, 161, 0, 10, 44, 26, 27, 184, 0, 95, 191, 26, 172]
abbrev dktJ8_checkIndex_0 : List UInt8 := dkwJ8_checkIndex_0 ++ []
theorem dksJ8_checkIndex_0 : cJ8_checkIndex.data.toList.drop 0 = dktJ8_checkIndex_0 := by decide +kernel
theorem dJ8_checkIndex_0 : decode cJ8_checkIndex 0 = .ok (.iload_n 0, 1) := dk_26 (dk_at dksJ8_checkIndex_0 0 rfl rfl)
theorem dJ8_checkIndex_1 : decode cJ8_checkIndex 1 = .ok (.ifCond .lt 8, 3) := dk_155 0 8 (dk_at dksJ8_checkIndex_0 1 rfl rfl)
theorem dJ8_checkIndex_4 : decode cJ8_checkIndex 4 = .ok (.iload_n 0, 1) := dk_26 (dk_at dksJ8_checkIndex_0 4 rfl rfl)
theorem dJ8_checkIndex_5 : decode cJ8_checkIndex 5 = .ok (.iload_n 1, 1) := dk_27 (dk_at dksJ8_checkIndex_0 5 rfl rfl)
theorem dJ8_checkIndex_6 : decode cJ8_checkIndex 6 = .ok (.if_icmp .lt 10, 3) := dk_161 0 10 (dk_at dksJ8_checkIndex_0 6 rfl rfl)
theorem dJ8_checkIndex_9 : decode cJ8_checkIndex 9 = .ok (.aload_n 2, 1) := dk_44 (dk_at dksJ8_checkIndex_0 9 rfl rfl)
theorem dJ8_checkIndex_10 : decode cJ8_checkIndex 10 = .ok (.iload_n 0, 1) := dk_26 (dk_at dksJ8_checkIndex_0 10 rfl rfl)
theorem dJ8_checkIndex_11 : decode cJ8_checkIndex 11 = .ok (.iload_n 1, 1) := dk_27 (dk_at dksJ8_checkIndex_0 11 rfl rfl)
theorem dJ8_checkIndex_12 : decode cJ8_checkIndex 12 = .ok (.invokestatic 95, 3) := dk_184 0 95 (dk_at dksJ8_checkIndex_0 12 rfl rfl)
theorem dJ8_checkIndex_15 : decode cJ8_checkIndex 15 = .ok (.athrow, 1) := dk_191 (dk_at dksJ8_checkIndex_0 15 rfl rfl)
theorem dJ8_checkIndex_16 : decode cJ8_checkIndex 16 = .ok (.iload_n 0, 1) := dk_26 (dk_at dksJ8_checkIndex_0 16 rfl rfl)
theorem dJ8_checkIndex_17 : decode cJ8_checkIndex 17 = .ok (.ireturn, 1) := dk_172 (dk_at dksJ8_checkIndex_0 17 rfl rfl)
abbrev cJ8_checkFromToIndex : ByteArray := prog_63_method_12_code
def yJ8_checkFromToIndex : MethodName := ⟨RJ8, "checkFromToIndex", "(IIILjava/util/function/BiFunction;)I"⟩
def dkwJ8_checkFromToIndex_0 : List UInt8 := [26, 155, 0, 13, 26, 27, 163, 0, 8, 27, 28, 164, 0, 11, 45, 26, 27, 28, 184, 0, 99, 191, 26, 172]
abbrev dktJ8_checkFromToIndex_0 : List UInt8 := dkwJ8_checkFromToIndex_0 ++ []
theorem dksJ8_checkFromToIndex_0 : cJ8_checkFromToIndex.data.toList.drop 0 = dktJ8_checkFromToIndex_0 := by decide +kernel
theorem dJ8_checkFromToIndex_0 : decode cJ8_checkFromToIndex 0 = .ok (.iload_n 0, 1) := dk_26 (dk_at dksJ8_checkFromToIndex_0 0 rfl rfl)
theorem dJ8_checkFromToIndex_1 : decode cJ8_checkFromToIndex 1 = .ok (.ifCond .lt 13, 3) := dk_155 0 13 (dk_at dksJ8_checkFromToIndex_0 1 rfl rfl)
theorem dJ8_checkFromToIndex_4 : decode cJ8_checkFromToIndex 4 = .ok (.iload_n 0, 1) := dk_26 (dk_at dksJ8_checkFromToIndex_0 4 rfl rfl)
theorem dJ8_checkFromToIndex_5 : decode cJ8_checkFromToIndex 5 = .ok (.iload_n 1, 1) := dk_27 (dk_at dksJ8_checkFromToIndex_0 5 rfl rfl)
theorem dJ8_checkFromToIndex_6 : decode cJ8_checkFromToIndex 6 = .ok (.if_icmp .gt 8, 3) := dk_163 0 8 (dk_at dksJ8_checkFromToIndex_0 6 rfl rfl)
theorem dJ8_checkFromToIndex_9 : decode cJ8_checkFromToIndex 9 = .ok (.iload_n 1, 1) := dk_27 (dk_at dksJ8_checkFromToIndex_0 9 rfl rfl)
theorem dJ8_checkFromToIndex_10 : decode cJ8_checkFromToIndex 10 = .ok (.iload_n 2, 1) := dk_28 (dk_at dksJ8_checkFromToIndex_0 10 rfl rfl)
theorem dJ8_checkFromToIndex_11 : decode cJ8_checkFromToIndex 11 = .ok (.if_icmp .le 11, 3) := dk_164 0 11 (dk_at dksJ8_checkFromToIndex_0 11 rfl rfl)
theorem dJ8_checkFromToIndex_14 : decode cJ8_checkFromToIndex 14 = .ok (.aload_n 3, 1) := dk_45 (dk_at dksJ8_checkFromToIndex_0 14 rfl rfl)
theorem dJ8_checkFromToIndex_15 : decode cJ8_checkFromToIndex 15 = .ok (.iload_n 0, 1) := dk_26 (dk_at dksJ8_checkFromToIndex_0 15 rfl rfl)
theorem dJ8_checkFromToIndex_16 : decode cJ8_checkFromToIndex 16 = .ok (.iload_n 1, 1) := dk_27 (dk_at dksJ8_checkFromToIndex_0 16 rfl rfl)
theorem dJ8_checkFromToIndex_17 : decode cJ8_checkFromToIndex 17 = .ok (.iload_n 2, 1) := dk_28 (dk_at dksJ8_checkFromToIndex_0 17 rfl rfl)
theorem dJ8_checkFromToIndex_18 : decode cJ8_checkFromToIndex 18 = .ok (.invokestatic 99, 3) := dk_184 0 99 (dk_at dksJ8_checkFromToIndex_0 18 rfl rfl)
theorem dJ8_checkFromToIndex_21 : decode cJ8_checkFromToIndex 21 = .ok (.athrow, 1) := dk_191 (dk_at dksJ8_checkFromToIndex_0 21 rfl rfl)
theorem dJ8_checkFromToIndex_22 : decode cJ8_checkFromToIndex 22 = .ok (.iload_n 0, 1) := dk_26 (dk_at dksJ8_checkFromToIndex_0 22 rfl rfl)
theorem dJ8_checkFromToIndex_23 : decode cJ8_checkFromToIndex 23 = .ok (.ireturn, 1) := dk_172 (dk_at dksJ8_checkFromToIndex_0 23 rfl rfl)
theorem q62 : (Jvm.Cond.initialized "jdk/internal/util/Preconditions") ∈ lw_all := lw_g (lw_at lw_m1 14 rfl) rfl
theorem q387 : (Jvm.Cond.laysStatic "jdk/internal/util/Preconditions" "SIOOBE_FORMATTER" "Ljava/util/function/BiFunction;") ∈ lw_tbl := lw_at lw_m2 99 rfl
theorem q389 : (Jvm.Cond.static ({ cls := "jdk/internal/util/Preconditions", name := "checkFromIndexSize", desc := "(IIILjava/util/function/BiFunction;)I" } : Jvm.MethodName)) ∈ lw_all := lw_g (lw_at lw_m2 101 rfl) rfl
theorem q390 : (Jvm.Cond.code ({ cls := "jdk/internal/util/Preconditions", name := "checkFromIndexSize", desc := "(IIILjava/util/function/BiFunction;)I" } : Jvm.MethodName) prog_63_method_13_code (4 : Nat) (Option.some Jvm.ClassFile.FieldType.int)) ∈ lw_all := lw_g (lw_at lw_m2 102 rfl) rfl
theorem q410 : (Jvm.Cond.static ({ cls := "jdk/internal/util/Preconditions", name := "checkIndex", desc := "(IILjava/util/function/BiFunction;)I" } : Jvm.MethodName)) ∈ lw_all := lw_g (lw_at lw_m2 122 rfl) rfl
theorem q411 : (Jvm.Cond.code ({ cls := "jdk/internal/util/Preconditions", name := "checkIndex", desc := "(IILjava/util/function/BiFunction;)I" } : Jvm.MethodName) prog_63_method_11_code (3 : Nat) (Option.some Jvm.ClassFile.FieldType.int)) ∈ lw_all := lw_g (lw_at lw_m2 123 rfl) rfl
theorem q1495 : (Jvm.Cond.static ({ cls := "jdk/internal/util/Preconditions", name := "checkFromToIndex", desc := "(IIILjava/util/function/BiFunction;)I" } : Jvm.MethodName)) ∈ lw_all := lw_g (lw_at lw_m7 7 rfl) rfl
theorem q1496 : (Jvm.Cond.code ({ cls := "jdk/internal/util/Preconditions", name := "checkFromToIndex", desc := "(IIILjava/util/function/BiFunction;)I" } : Jvm.MethodName) prog_63_method_12_code (4 : Nat) (Option.some Jvm.ClassFile.FieldType.int)) ∈ lw_all := lw_g (lw_at lw_m7 8 rfl) rfl
/-! java/util/AbstractCollection -/
set_option maxRecDepth 100000
def RJ9 : String := "java/util/AbstractCollection"
abbrev cJ9_init : ByteArray := prog_44_method_1_code
def yJ9_init : MethodName := ⟨RJ9, "<init>", "()V"⟩
theorem dJ9_init_0 : decode cJ9_init 0 = .ok (.aload_n 0, 1) := by decide +kernel
theorem dJ9_init_1 : decode cJ9_init 1 = .ok (.invokespecial 1, 3) := by decide +kernel
theorem dJ9_init_4 : decode cJ9_init 4 = .ok (.return_, 1) := by decide +kernel
theorem q63 : (Jvm.Cond.initialized "java/util/AbstractCollection") ∈ lw_all := lw_g (lw_at lw_m1 15 rfl) rfl
theorem q487 : (Jvm.Cond.instanceMethod ({ cls := "java/util/AbstractCollection", name := "<init>", desc := "()V" } : Jvm.MethodName)) ∈ lw_all := lw_g (lw_at lw_m2 199 rfl) rfl
theorem q488 : (Jvm.Cond.code ({ cls := "java/util/AbstractCollection", name := "<init>", desc := "()V" } : Jvm.MethodName) prog_44_method_1_code (1 : Nat) (Option.none : Option Jvm.ClassFile.FieldType)) ∈ lw_all := lw_g (lw_at lw_m2 200 rfl) rfl
theorem q489 : (Jvm.Cond.methodLink "java/util/AbstractCollection" (1 : Nat) ({ cls := "java/lang/Object", name := "<init>", desc := "()V" } : Jvm.MethodName)) ∈ lw_all := lw_g (lw_at lw_m2 201 rfl) rfl
theorem q1208 : (Jvm.Cond.declares ({ cls := "java/util/AbstractCollection", name := "size", desc := "()I" } : Jvm.MethodName)) ∈ lw_tbl := lw_at lw_m5 200 rfl
