/-! java/util/Arrays -/
set_option maxRecDepth 100000
def RJ0 : String := "java/util/Arrays"
abbrev cJ0_fill : ByteArray := prog_49_method_103_code
def yJ0_fill : MethodName := ⟨RJ0, "fill", "([II)V"⟩
def dkwJ0_fill_0 : List UInt8 := [3, 61, 42, 190, 62, 28, 29, 162, 0, 13, 42, 28, 27, 79, 132, 2, 1, 167, 255, 244, 177]
abbrev dktJ0_fill_0 : List UInt8 := dkwJ0_fill_0 ++ []
theorem dksJ0_fill_0 : cJ0_fill.data.toList.drop 0 = dktJ0_fill_0 := by decide +kernel
theorem dJ0_fill_0 : decode cJ0_fill 0 = .ok (.iconst 0, 1) := dk_3 (dk_at dksJ0_fill_0 0 rfl rfl)
theorem dJ0_fill_1 : decode cJ0_fill 1 = .ok (.istore_n 2, 1) := dk_61 (dk_at dksJ0_fill_0 1 rfl rfl)
theorem dJ0_fill_2 : decode cJ0_fill 2 = .ok (.aload_n 0, 1) := dk_42 (dk_at dksJ0_fill_0 2 rfl rfl)
theorem dJ0_fill_3 : decode cJ0_fill 3 = .ok (.arraylength, 1) := dk_190 (dk_at dksJ0_fill_0 3 rfl rfl)
theorem dJ0_fill_4 : decode cJ0_fill 4 = .ok (.istore_n 3, 1) := dk_62 (dk_at dksJ0_fill_0 4 rfl rfl)
theorem dJ0_fill_5 : decode cJ0_fill 5 = .ok (.iload_n 2, 1) := dk_28 (dk_at dksJ0_fill_0 5 rfl rfl)
theorem dJ0_fill_6 : decode cJ0_fill 6 = .ok (.iload_n 3, 1) := dk_29 (dk_at dksJ0_fill_0 6 rfl rfl)
theorem dJ0_fill_7 : decode cJ0_fill 7 = .ok (.if_icmp .ge 13, 3) := dk_162 0 13 (dk_at dksJ0_fill_0 7 rfl rfl)
theorem dJ0_fill_10 : decode cJ0_fill 10 = .ok (.aload_n 0, 1) := dk_42 (dk_at dksJ0_fill_0 10 rfl rfl)
theorem dJ0_fill_11 : decode cJ0_fill 11 = .ok (.iload_n 2, 1) := dk_28 (dk_at dksJ0_fill_0 11 rfl rfl)
theorem dJ0_fill_12 : decode cJ0_fill 12 = .ok (.iload_n 1, 1) := dk_27 (dk_at dksJ0_fill_0 12 rfl rfl)
theorem dJ0_fill_13 : decode cJ0_fill 13 = .ok (.iastore, 1) := dk_79 (dk_at dksJ0_fill_0 13 rfl rfl)
theorem dJ0_fill_14 : decode cJ0_fill 14 = .ok (.iinc 2 1, 3) := dk_132 2 1 (dk_at dksJ0_fill_0 14 rfl rfl)
theorem dJ0_fill_17 : decode cJ0_fill 17 = .ok (.goto (-12), 3) := dk_167 255 244 (dk_at dksJ0_fill_0 17 rfl rfl)
theorem dJ0_fill_20 : decode cJ0_fill 20 = .ok (.return_, 1) := dk_177 (dk_at dksJ0_fill_0 20 rfl rfl)
abbrev cJ0_fill_2 : ByteArray := prog_49_method_117_code
def yJ0_fill_2 : MethodName := ⟨RJ0, "fill", "([Ljava/lang/Object;Ljava/lang/Object;)V"⟩
def dkwJ0_fill_2_0 : List UInt8 := [3, 61, 42, 190, 62, 28, 29, 162, 0, 13, 42, 28, 43, 83, 132, 2, 1, 167, 255, 244, 177]
abbrev dktJ0_fill_2_0 : List UInt8 := dkwJ0_fill_2_0 ++ []
theorem dksJ0_fill_2_0 : cJ0_fill_2.data.toList.drop 0 = dktJ0_fill_2_0 := by decide +kernel
theorem dJ0_fill_2_0 : decode cJ0_fill_2 0 = .ok (.iconst 0, 1) := dk_3 (dk_at dksJ0_fill_2_0 0 rfl rfl)
theorem dJ0_fill_2_1 : decode cJ0_fill_2 1 = .ok (.istore_n 2, 1) := dk_61 (dk_at dksJ0_fill_2_0 1 rfl rfl)
theorem dJ0_fill_2_2 : decode cJ0_fill_2 2 = .ok (.aload_n 0, 1) := dk_42 (dk_at dksJ0_fill_2_0 2 rfl rfl)
theorem dJ0_fill_2_3 : decode cJ0_fill_2 3 = .ok (.arraylength, 1) := dk_190 (dk_at dksJ0_fill_2_0 3 rfl rfl)
theorem dJ0_fill_2_4 : decode cJ0_fill_2 4 = .ok (.istore_n 3, 1) := dk_62 (dk_at dksJ0_fill_2_0 4 rfl rfl)
theorem dJ0_fill_2_5 : decode cJ0_fill_2 5 = .ok (.iload_n 2, 1) := dk_28 (dk_at dksJ0_fill_2_0 5 rfl rfl)
theorem dJ0_fill_2_6 : decode cJ0_fill_2 6 = .ok (.iload_n 3, 1) := dk_29 (dk_at dksJ0_fill_2_0 6 rfl rfl)
theorem dJ0_fill_2_7 : decode cJ0_fill_2 7 = .ok (.if_icmp .ge 13, 3) := dk_162 0 13 (dk_at dksJ0_fill_2_0 7 rfl rfl)
theorem dJ0_fill_2_10 : decode cJ0_fill_2 10 = .ok (.aload_n 0, 1) := dk_42 (dk_at dksJ0_fill_2_0 10 rfl rfl)
theorem dJ0_fill_2_11 : decode cJ0_fill_2 11 = .ok (.iload_n 2, 1) := dk_28 (dk_at dksJ0_fill_2_0 11 rfl rfl)
theorem dJ0_fill_2_12 : decode cJ0_fill_2 12 = .ok (.aload_n 1, 1) := dk_43 (dk_at dksJ0_fill_2_0 12 rfl rfl)
theorem dJ0_fill_2_13 : decode cJ0_fill_2 13 = .ok (.aastore, 1) := dk_83 (dk_at dksJ0_fill_2_0 13 rfl rfl)
theorem dJ0_fill_2_14 : decode cJ0_fill_2 14 = .ok (.iinc 2 1, 3) := dk_132 2 1 (dk_at dksJ0_fill_2_0 14 rfl rfl)
theorem dJ0_fill_2_17 : decode cJ0_fill_2 17 = .ok (.goto (-12), 3) := dk_167 255 244 (dk_at dksJ0_fill_2_0 17 rfl rfl)
theorem dJ0_fill_2_20 : decode cJ0_fill_2 20 = .ok (.return_, 1) := dk_177 (dk_at dksJ0_fill_2_0 20 rfl rfl)
abbrev cJ0_copyOf : ByteArray := prog_49_method_121_code
def yJ0_copyOf : MethodName := ⟨RJ0, "copyOf", "([BI)[B"⟩
def dkwJ0_copyOf_1 : List UInt8 := [27, 184, 1, 48, 184, 0, 150, 44, 176]
abbrev dktJ0_copyOf_1 : List UInt8 := dkwJ0_copyOf_1 ++ []
def dkwJ0_copyOf_0 : List UInt8 := [27, 42, 190, 160, 0, 11, 42, 182, 1, 54, 192, 1, 55, 176, 27, 188, 8, 77, 42, 3, 44, 3, 42, 190]
abbrev dktJ0_copyOf_0 : List UInt8 := dkwJ0_copyOf_0 ++ dktJ0_copyOf_1
theorem dksJ0_copyOf_0 : cJ0_copyOf.data.toList.drop 0 = dktJ0_copyOf_0 := by decide +kernel
theorem dksJ0_copyOf_1 : cJ0_copyOf.data.toList.drop 24 = dktJ0_copyOf_1 := dk_seg dksJ0_copyOf_0 24 rfl rfl
theorem dJ0_copyOf_0 : decode cJ0_copyOf 0 = .ok (.iload_n 1, 1) := dk_27 (dk_at dksJ0_copyOf_0 0 rfl rfl)
theorem dJ0_copyOf_1 : decode cJ0_copyOf 1 = .ok (.aload_n 0, 1) := dk_42 (dk_at dksJ0_copyOf_0 1 rfl rfl)
theorem dJ0_copyOf_2 : decode cJ0_copyOf 2 = .ok (.arraylength, 1) := dk_190 (dk_at dksJ0_copyOf_0 2 rfl rfl)
theorem dJ0_copyOf_3 : decode cJ0_copyOf 3 = .ok (.if_icmp .ne 11, 3) := dk_160 0 11 (dk_at dksJ0_copyOf_0 3 rfl rfl)
theorem dJ0_copyOf_6 : decode cJ0_copyOf 6 = .ok (.aload_n 0, 1) := dk_42 (dk_at dksJ0_copyOf_0 6 rfl rfl)
theorem dJ0_copyOf_7 : decode cJ0_copyOf 7 = .ok (.invokevirtual 310, 3) := dk_182 1 54 (dk_at dksJ0_copyOf_0 7 rfl rfl)
theorem dJ0_copyOf_10 : decode cJ0_copyOf 10 = .ok (.checkcast 311, 3) := dk_192 1 55 (dk_at dksJ0_copyOf_0 10 rfl rfl)
theorem dJ0_copyOf_13 : decode cJ0_copyOf 13 = .ok (.areturn, 1) := dk_176 (dk_at dksJ0_copyOf_0 13 rfl rfl)
theorem dJ0_copyOf_14 : decode cJ0_copyOf 14 = .ok (.iload_n 1, 1) := dk_27 (dk_at dksJ0_copyOf_0 14 rfl rfl)
theorem dJ0_copyOf_15 : decode cJ0_copyOf 15 = .ok (.newarray .byte, 2) := dk_188_8 (dk_at dksJ0_copyOf_0 15 rfl rfl)
theorem dJ0_copyOf_17 : decode cJ0_copyOf 17 = .ok (.astore_n 2, 1) := dk_77 (dk_at dksJ0_copyOf_0 17 rfl rfl)
theorem dJ0_copyOf_18 : decode cJ0_copyOf 18 = .ok (.aload_n 0, 1) := dk_42 (dk_at dksJ0_copyOf_0 18 rfl rfl)
theorem dJ0_copyOf_19 : decode cJ0_copyOf 19 = .ok (.iconst 0, 1) := dk_3 (dk_at dksJ0_copyOf_0 19 rfl rfl)
theorem dJ0_copyOf_20 : decode cJ0_copyOf 20 = .ok (.aload_n 2, 1) := dk_44 (dk_at dksJ0_copyOf_0 20 rfl rfl)
theorem dJ0_copyOf_21 : decode cJ0_copyOf 21 = .ok (.iconst 0, 1) := dk_3 (dk_at dksJ0_copyOf_0 21 rfl rfl)
theorem dJ0_copyOf_22 : decode cJ0_copyOf 22 = .ok (.aload_n 0, 1) := dk_42 (dk_at dksJ0_copyOf_0 22 rfl rfl)
theorem dJ0_copyOf_23 : decode cJ0_copyOf 23 = .ok (.arraylength, 1) := dk_190 (dk_at dksJ0_copyOf_0 23 rfl rfl)
theorem dJ0_copyOf_24 : decode cJ0_copyOf 24 = .ok (.iload_n 1, 1) := dk_27 (dk_at dksJ0_copyOf_1 0 rfl rfl)
theorem dJ0_copyOf_25 : decode cJ0_copyOf 25 = .ok (.invokestatic 304, 3) := dk_184 1 48 (dk_at dksJ0_copyOf_1 1 rfl rfl)
theorem dJ0_copyOf_28 : decode cJ0_copyOf 28 = .ok (.invokestatic 150, 3) := dk_184 0 150 (dk_at dksJ0_copyOf_1 4 rfl rfl)
theorem dJ0_copyOf_31 : decode cJ0_copyOf 31 = .ok (.aload_n 2, 1) := dk_44 (dk_at dksJ0_copyOf_1 7 rfl rfl)
theorem dJ0_copyOf_32 : decode cJ0_copyOf 32 = .ok (.areturn, 1) := dk_176 (dk_at dksJ0_copyOf_1 8 rfl rfl)
abbrev cJ0_copyOfRange : ByteArray := prog_49_method_132_code
def yJ0_copyOfRange : MethodName := ⟨RJ0, "copyOfRange", "([BII)[B"⟩
def dkwJ0_copyOfRange_1 : List UInt8 := [176]
abbrev dktJ0_copyOfRange_1 : List UInt8 := dkwJ0_copyOfRange_1 ++ []
def dkwJ0_copyOfRange_0 : List UInt8 := [27, 154, 0, 9, 28, 42, 190, 159, 0, 10, 42, 27, 28, 184, 1, 83, 176, 42, 182, 1, 54, 192, 1, 55]
abbrev dktJ0_copyOfRange_0 : List UInt8 := dkwJ0_copyOfRange_0 ++ dktJ0_copyOfRange_1
theorem dksJ0_copyOfRange_0 : cJ0_copyOfRange.data.toList.drop 0 = dktJ0_copyOfRange_0 := by decide +kernel
theorem dksJ0_copyOfRange_1 : cJ0_copyOfRange.data.toList.drop 24 = dktJ0_copyOfRange_1 := dk_seg dksJ0_copyOfRange_0 24 rfl rfl
theorem dJ0_copyOfRange_0 : decode cJ0_copyOfRange 0 = .ok (.iload_n 1, 1) := dk_27 (dk_at dksJ0_copyOfRange_0 0 rfl rfl)
theorem dJ0_copyOfRange_1 : decode cJ0_copyOfRange 1 = .ok (.ifCond .ne 9, 3) := dk_154 0 9 (dk_at dksJ0_copyOfRange_0 1 rfl rfl)
theorem dJ0_copyOfRange_4 : decode cJ0_copyOfRange 4 = .ok (.iload_n 2, 1) := dk_28 (dk_at dksJ0_copyOfRange_0 4 rfl rfl)
theorem dJ0_copyOfRange_5 : decode cJ0_copyOfRange 5 = .ok (.aload_n 0, 1) := dk_42 (dk_at dksJ0_copyOfRange_0 5 rfl rfl)
theorem dJ0_copyOfRange_6 : decode cJ0_copyOfRange 6 = .ok (.arraylength, 1) := dk_190 (dk_at dksJ0_copyOfRange_0 6 rfl rfl)
theorem dJ0_copyOfRange_7 : decode cJ0_copyOfRange 7 = .ok (.if_icmp .eq 10, 3) := dk_159 0 10 (dk_at dksJ0_copyOfRange_0 7 rfl rfl)
theorem dJ0_copyOfRange_10 : decode cJ0_copyOfRange 10 = .ok (.aload_n 0, 1) := dk_42 (dk_at dksJ0_copyOfRange_0 10 rfl rfl)
theorem dJ0_copyOfRange_11 : decode cJ0_copyOfRange 11 = .ok (.iload_n 1, 1) := dk_27 (dk_at dksJ0_copyOfRange_0 11 rfl rfl)
theorem dJ0_copyOfRange_12 : decode cJ0_copyOfRange 12 = .ok (.iload_n 2, 1) := dk_28 (dk_at dksJ0_copyOfRange_0 12 rfl rfl)
theorem dJ0_copyOfRange_13 : decode cJ0_copyOfRange 13 = .ok (.invokestatic 339, 3) := dk_184 1 83 (dk_at dksJ0_copyOfRange_0 13 rfl rfl)
theorem dJ0_copyOfRange_16 : decode cJ0_copyOfRange 16 = .ok (.areturn, 1) := dk_176 (dk_at dksJ0_copyOfRange_0 16 rfl rfl)
theorem dJ0_copyOfRange_17 : decode cJ0_copyOfRange 17 = .ok (.aload_n 0, 1) := dk_42 (dk_at dksJ0_copyOfRange_0 17 rfl rfl)
theorem dJ0_copyOfRange_18 : decode cJ0_copyOfRange 18 = .ok (.invokevirtual 310, 3) := dk_182 1 54 (dk_at dksJ0_copyOfRange_0 18 rfl rfl)
theorem dJ0_copyOfRange_21 : decode cJ0_copyOfRange 21 = .ok (.checkcast 311, 3) := dk_192 1 55 (dk_at dksJ0_copyOfRange_0 21 rfl rfl)
theorem dJ0_copyOfRange_24 : decode cJ0_copyOfRange 24 = .ok (.areturn, 1) := dk_176 (dk_at dksJ0_copyOfRange_1 0 rfl rfl)
abbrev cJ0_copyOfRangeByte : ByteArray := prog_49_method_133_code
def yJ0_copyOfRangeByte : MethodName := ⟨RJ0, "copyOfRangeByte", "([BII)[B"⟩
def dkwJ0_copyOfRangeByte_1 : List UInt8 := [184, 1, 48, 184, 0, 150, 25, 4, 176]
abbrev dktJ0_copyOfRangeByte_1 : List UInt8 := dkwJ0_copyOfRangeByte_1 ++ []
def dkwJ0_copyOfRangeByte_0 : List UInt8 := [27, 28, 184, 1, 87, 28, 27, 100, 62, 29, 188, 8, 58, 4, 42, 27, 25, 4, 3, 42, 190, 27, 100, 29]
abbrev dktJ0_copyOfRangeByte_0 : List UInt8 := dkwJ0_copyOfRangeByte_0 ++ dktJ0_copyOfRangeByte_1
theorem dksJ0_copyOfRangeByte_0 : cJ0_copyOfRangeByte.data.toList.drop 0 = dktJ0_copyOfRangeByte_0 := by decide +kernel
theorem dksJ0_copyOfRangeByte_1 : cJ0_copyOfRangeByte.data.toList.drop 24 = dktJ0_copyOfRangeByte_1 := dk_seg dksJ0_copyOfRangeByte_0 24 rfl rfl
theorem dJ0_copyOfRangeByte_0 : decode cJ0_copyOfRangeByte 0 = .ok (.iload_n 1, 1) := dk_27 (dk_at dksJ0_copyOfRangeByte_0 0 rfl rfl)
theorem dJ0_copyOfRangeByte_1 : decode cJ0_copyOfRangeByte 1 = .ok (.iload_n 2, 1) := dk_28 (dk_at dksJ0_copyOfRangeByte_0 1 rfl rfl)
theorem dJ0_copyOfRangeByte_2 : decode cJ0_copyOfRangeByte 2 = .ok (.invokestatic 343, 3) := dk_184 1 87 (dk_at dksJ0_copyOfRangeByte_0 2 rfl rfl)
theorem dJ0_copyOfRangeByte_5 : decode cJ0_copyOfRangeByte 5 = .ok (.iload_n 2, 1) := dk_28 (dk_at dksJ0_copyOfRangeByte_0 5 rfl rfl)
theorem dJ0_copyOfRangeByte_6 : decode cJ0_copyOfRangeByte 6 = .ok (.iload_n 1, 1) := dk_27 (dk_at dksJ0_copyOfRangeByte_0 6 rfl rfl)
theorem dJ0_copyOfRangeByte_7 : decode cJ0_copyOfRangeByte 7 = .ok (.isub, 1) := dk_100 (dk_at dksJ0_copyOfRangeByte_0 7 rfl rfl)
theorem dJ0_copyOfRangeByte_8 : decode cJ0_copyOfRangeByte 8 = .ok (.istore_n 3, 1) := dk_62 (dk_at dksJ0_copyOfRangeByte_0 8 rfl rfl)
theorem dJ0_copyOfRangeByte_9 : decode cJ0_copyOfRangeByte 9 = .ok (.iload_n 3, 1) := dk_29 (dk_at dksJ0_copyOfRangeByte_0 9 rfl rfl)
theorem dJ0_copyOfRangeByte_10 : decode cJ0_copyOfRangeByte 10 = .ok (.newarray .byte, 2) := dk_188_8 (dk_at dksJ0_copyOfRangeByte_0 10 rfl rfl)
theorem dJ0_copyOfRangeByte_12 : decode cJ0_copyOfRangeByte 12 = .ok (.astore 4, 2) := dk_58 4 (dk_at dksJ0_copyOfRangeByte_0 12 rfl rfl)
theorem dJ0_copyOfRangeByte_14 : decode cJ0_copyOfRangeByte 14 = .ok (.aload_n 0, 1) := dk_42 (dk_at dksJ0_copyOfRangeByte_0 14 rfl rfl)
theorem dJ0_copyOfRangeByte_15 : decode cJ0_copyOfRangeByte 15 = .ok (.iload_n 1, 1) := dk_27 (dk_at dksJ0_copyOfRangeByte_0 15 rfl rfl)
theorem dJ0_copyOfRangeByte_16 : decode cJ0_copyOfRangeByte 16 = .ok (.aload 4, 2) := dk_25 4 (dk_at dksJ0_copyOfRangeByte_0 16 rfl rfl)
theorem dJ0_copyOfRangeByte_18 : decode cJ0_copyOfRangeByte 18 = .ok (.iconst 0, 1) := dk_3 (dk_at dksJ0_copyOfRangeByte_0 18 rfl rfl)
theorem dJ0_copyOfRangeByte_19 : decode cJ0_copyOfRangeByte 19 = .ok (.aload_n 0, 1) := dk_42 (dk_at dksJ0_copyOfRangeByte_0 19 rfl rfl)
theorem dJ0_copyOfRangeByte_20 : decode cJ0_copyOfRangeByte 20 = .ok (.arraylength, 1) := dk_190 (dk_at dksJ0_copyOfRangeByte_0 20 rfl rfl)
theorem dJ0_copyOfRangeByte_21 : decode cJ0_copyOfRangeByte 21 = .ok (.iload_n 1, 1) := dk_27 (dk_at dksJ0_copyOfRangeByte_0 21 rfl rfl)
theorem dJ0_copyOfRangeByte_22 : decode cJ0_copyOfRangeByte 22 = .ok (.isub, 1) := dk_100 (dk_at dksJ0_copyOfRangeByte_0 22 rfl rfl)
theorem dJ0_copyOfRangeByte_23 : decode cJ0_copyOfRangeByte 23 = .ok (.iload_n 3, 1) := dk_29 (dk_at dksJ0_copyOfRangeByte_0 23 rfl rfl)
theorem dJ0_copyOfRangeByte_24 : decode cJ0_copyOfRangeByte 24 = .ok (.invokestatic 304, 3) := dk_184 1 48 (dk_at dksJ0_copyOfRangeByte_1 0 rfl rfl)
theorem dJ0_copyOfRangeByte_27 : decode cJ0_copyOfRangeByte 27 = .ok (.invokestatic 150, 3) := dk_184 0 150 (dk_at dksJ0_copyOfRangeByte_1 3 rfl rfl)
theorem dJ0_copyOfRangeByte_30 : decode cJ0_copyOfRangeByte 30 = .ok (.aload 4, 2) := dk_25 4 (dk_at dksJ0_copyOfRangeByte_1 6 rfl rfl)
theorem dJ0_copyOfRangeByte_32 : decode cJ0_copyOfRangeByte 32 = .ok (.areturn, 1) := dk_176 (dk_at dksJ0_copyOfRangeByte_1 8 rfl rfl)
abbrev cJ0_checkLength : ByteArray := prog_49_method_131_code
def yJ0_checkLength : MethodName := ⟨RJ0, "checkLength", "(II)V"⟩
def dkwJ0_checkLength_1 : List UInt8 := [182, 0, 50, 27, 182, 0, 54, 182, 0, 61, 183, 0, 65, 191, 177]
abbrev dktJ0_checkLength_1 : List UInt8 := dkwJ0_checkLength_1 ++ []
def dkwJ0_checkLength_0 : List UInt8 := [27, 26, 162, 0, 35, 187, 0, 43, 89, 187, 0, 45, 89, 183, 0, 47, 26, 182, 0, 54, 19, 1, 81]
abbrev dktJ0_checkLength_0 : List UInt8 := dkwJ0_checkLength_0 ++ dktJ0_checkLength_1
theorem dksJ0_checkLength_0 : cJ0_checkLength.data.toList.drop 0 = dktJ0_checkLength_0 := by decide +kernel
theorem dksJ0_checkLength_1 : cJ0_checkLength.data.toList.drop 23 = dktJ0_checkLength_1 := dk_seg dksJ0_checkLength_0 23 rfl rfl
theorem dJ0_checkLength_0 : decode cJ0_checkLength 0 = .ok (.iload_n 1, 1) := dk_27 (dk_at dksJ0_checkLength_0 0 rfl rfl)
theorem dJ0_checkLength_1 : decode cJ0_checkLength 1 = .ok (.iload_n 0, 1) := dk_26 (dk_at dksJ0_checkLength_0 1 rfl rfl)
theorem dJ0_checkLength_2 : decode cJ0_checkLength 2 = .ok (.if_icmp .ge 35, 3) := dk_162 0 35 (dk_at dksJ0_checkLength_0 2 rfl rfl)
theorem dJ0_checkLength_5 : decode cJ0_checkLength 5 = .ok (.new 43, 3) := dk_187 0 43 (dk_at dksJ0_checkLength_0 5 rfl rfl)
theorem dJ0_checkLength_8 : decode cJ0_checkLength 8 = .ok (.dup, 1) := dk_89 (dk_at dksJ0_checkLength_0 8 rfl rfl)
theorem dJ0_checkLength_9 : decode cJ0_checkLength 9 = .ok (.new 45, 3) := dk_187 0 45 (dk_at dksJ0_checkLength_0 9 rfl rfl)
theorem dJ0_checkLength_12 : decode cJ0_checkLength 12 = .ok (.dup, 1) := dk_89 (dk_at dksJ0_checkLength_0 12 rfl rfl)
theorem dJ0_checkLength_13 : decode cJ0_checkLength 13 = .ok (.invokespecial 47, 3) := dk_183 0 47 (dk_at dksJ0_checkLength_0 13 rfl rfl)
theorem dJ0_checkLength_16 : decode cJ0_checkLength 16 = .ok (.iload_n 0, 1) := dk_26 (dk_at dksJ0_checkLength_0 16 rfl rfl)
theorem dJ0_checkLength_17 : decode cJ0_checkLength 17 = .ok (.invokevirtual 54, 3) := dk_182 0 54 (dk_at dksJ0_checkLength_0 17 rfl rfl)
theorem dJ0_checkLength_20 : decode cJ0_checkLength 20 = .ok (.ldc_w 337, 3) := dk_19 1 81 (dk_at dksJ0_checkLength_0 20 rfl rfl)
theorem dJ0_checkLength_23 : decode cJ0_checkLength 23 = .ok (.invokevirtual 50, 3) := dk_182 0 50 (dk_at dksJ0_checkLength_1 0 rfl rfl)
theorem dJ0_checkLength_26 : decode cJ0_checkLength 26 = .ok (.iload_n 1, 1) := dk_27 (dk_at dksJ0_checkLength_1 3 rfl rfl)
theorem dJ0_checkLength_27 : decode cJ0_checkLength 27 = .ok (.invokevirtual 54, 3) := dk_182 0 54 (dk_at dksJ0_checkLength_1 4 rfl rfl)
theorem dJ0_checkLength_30 : decode cJ0_checkLength 30 = .ok (.invokevirtual 61, 3) := dk_182 0 61 (dk_at dksJ0_checkLength_1 7 rfl rfl)
theorem dJ0_checkLength_33 : decode cJ0_checkLength 33 = .ok (.invokespecial 65, 3) := dk_183 0 65 (dk_at dksJ0_checkLength_1 10 rfl rfl)
theorem dJ0_checkLength_36 : decode cJ0_checkLength 36 = .ok (.athrow, 1) := dk_191 (dk_at dksJ0_checkLength_1 13 rfl rfl)
theorem dJ0_checkLength_37 : decode cJ0_checkLength 37 = .ok (.return_, 1) := dk_177 (dk_at dksJ0_checkLength_1 14 rfl rfl)
abbrev cJ0_asList : ByteArray := prog_49_method_148_code
def yJ0_asList : MethodName := ⟨RJ0, "asList", "([Ljava/lang/Object;)Ljava/util/List;"⟩
def dkwJ0_asList_0 : List UInt8 := [187, 1, 119, 89, 42, 183, 1, 121, 176]
abbrev dktJ0_asList_0 : List UInt8 := dkwJ0_asList_0 ++ []
theorem dksJ0_asList_0 : cJ0_asList.data.toList.drop 0 = dktJ0_asList_0 := by decide +kernel
theorem dJ0_asList_0 : decode cJ0_asList 0 = .ok (.new 375, 3) := dk_187 1 119 (dk_at dksJ0_asList_0 0 rfl rfl)
theorem dJ0_asList_3 : decode cJ0_asList 3 = .ok (.dup, 1) := dk_89 (dk_at dksJ0_asList_0 3 rfl rfl)
theorem dJ0_asList_4 : decode cJ0_asList 4 = .ok (.aload_n 0, 1) := dk_42 (dk_at dksJ0_asList_0 4 rfl rfl)
theorem dJ0_asList_5 : decode cJ0_asList 5 = .ok (.invokespecial 377, 3) := dk_183 1 121 (dk_at dksJ0_asList_0 5 rfl rfl)
theorem dJ0_asList_8 : decode cJ0_asList 8 = .ok (.areturn, 1) := dk_176 (dk_at dksJ0_asList_0 8 rfl rfl)
abbrev cJ0_copyOf_2 : ByteArray := prog_49_method_119_code
def yJ0_copyOf_2 : MethodName := ⟨RJ0, "copyOf", "([Ljava/lang/Object;I)[Ljava/lang/Object;"⟩
def dkwJ0_copyOf_2_0 : List UInt8 := [42, 27, 42, 182, 0, 86, 184, 1, 44, 176]
abbrev dktJ0_copyOf_2_0 : List UInt8 := dkwJ0_copyOf_2_0 ++ []
theorem dksJ0_copyOf_2_0 : cJ0_copyOf_2.data.toList.drop 0 = dktJ0_copyOf_2_0 := by decide +kernel
theorem dJ0_copyOf_2_0 : decode cJ0_copyOf_2 0 = .ok (.aload_n 0, 1) := dk_42 (dk_at dksJ0_copyOf_2_0 0 rfl rfl)
theorem dJ0_copyOf_2_1 : decode cJ0_copyOf_2 1 = .ok (.iload_n 1, 1) := dk_27 (dk_at dksJ0_copyOf_2_0 1 rfl rfl)
theorem dJ0_copyOf_2_2 : decode cJ0_copyOf_2 2 = .ok (.aload_n 0, 1) := dk_42 (dk_at dksJ0_copyOf_2_0 2 rfl rfl)
theorem dJ0_copyOf_2_3 : decode cJ0_copyOf_2 3 = .ok (.invokevirtual 86, 3) := dk_182 0 86 (dk_at dksJ0_copyOf_2_0 3 rfl rfl)
theorem dJ0_copyOf_2_6 : decode cJ0_copyOf_2 6 = .ok (.invokestatic 300, 3) := dk_184 1 44 (dk_at dksJ0_copyOf_2_0 6 rfl rfl)
theorem dJ0_copyOf_2_9 : decode cJ0_copyOf_2 9 = .ok (.areturn, 1) := dk_176 (dk_at dksJ0_copyOf_2_0 9 rfl rfl)
abbrev cJ0_copyOf_3 : ByteArray := prog_49_method_120_code
def yJ0_copyOf_3 : MethodName := ⟨RJ0, "copyOf", "([Ljava/lang/Object;ILjava/lang/Class;)[Ljava/lang/Object;"⟩
def dkwJ0_copyOf_3_1 : List UInt8 := [78, 42, 3, 45, 3, 42, 190, 27, 184, 1, 48, 184, 0, 150, 45, 176]
abbrev dktJ0_copyOf_3_1 : List UInt8 := dkwJ0_copyOf_3_1 ++ []
def dkwJ0_copyOf_3_0 : List UInt8 := [44, 18, 110, 166, 0, 10, 27, 189, 0, 2, 167, 0, 14, 44, 182, 0, 90, 27, 184, 0, 95, 192, 0, 110]
abbrev dktJ0_copyOf_3_0 : List UInt8 := dkwJ0_copyOf_3_0 ++ dktJ0_copyOf_3_1
theorem dksJ0_copyOf_3_0 : cJ0_copyOf_3.data.toList.drop 0 = dktJ0_copyOf_3_0 := by decide +kernel
theorem dksJ0_copyOf_3_1 : cJ0_copyOf_3.data.toList.drop 24 = dktJ0_copyOf_3_1 := dk_seg dksJ0_copyOf_3_0 24 rfl rfl
theorem dJ0_copyOf_3_0 : decode cJ0_copyOf_3 0 = .ok (.aload_n 2, 1) := dk_44 (dk_at dksJ0_copyOf_3_0 0 rfl rfl)
theorem dJ0_copyOf_3_1 : decode cJ0_copyOf_3 1 = .ok (.ldc 110, 2) := dk_18 110 (dk_at dksJ0_copyOf_3_0 1 rfl rfl)
theorem dJ0_copyOf_3_3 : decode cJ0_copyOf_3 3 = .ok (.if_acmp .ne 10, 3) := dk_166 0 10 (dk_at dksJ0_copyOf_3_0 3 rfl rfl)
theorem dJ0_copyOf_3_6 : decode cJ0_copyOf_3 6 = .ok (.iload_n 1, 1) := dk_27 (dk_at dksJ0_copyOf_3_0 6 rfl rfl)
theorem dJ0_copyOf_3_7 : decode cJ0_copyOf_3 7 = .ok (.anewarray 2, 3) := dk_189 0 2 (dk_at dksJ0_copyOf_3_0 7 rfl rfl)
theorem dJ0_copyOf_3_10 : decode cJ0_copyOf_3 10 = .ok (.goto 14, 3) := dk_167 0 14 (dk_at dksJ0_copyOf_3_0 10 rfl rfl)
theorem dJ0_copyOf_3_13 : decode cJ0_copyOf_3 13 = .ok (.aload_n 2, 1) := dk_44 (dk_at dksJ0_copyOf_3_0 13 rfl rfl)
theorem dJ0_copyOf_3_14 : decode cJ0_copyOf_3 14 = .ok (.invokevirtual 90, 3) := dk_182 0 90 (dk_at dksJ0_copyOf_3_0 14 rfl rfl)
theorem dJ0_copyOf_3_17 : decode cJ0_copyOf_3 17 = .ok (.iload_n 1, 1) := dk_27 (dk_at dksJ0_copyOf_3_0 17 rfl rfl)
theorem dJ0_copyOf_3_18 : decode cJ0_copyOf_3 18 = .ok (.invokestatic 95, 3) := dk_184 0 95 (dk_at dksJ0_copyOf_3_0 18 rfl rfl)
theorem dJ0_copyOf_3_21 : decode cJ0_copyOf_3 21 = .ok (.checkcast 110, 3) := dk_192 0 110 (dk_at dksJ0_copyOf_3_0 21 rfl rfl)
theorem dJ0_copyOf_3_24 : decode cJ0_copyOf_3 24 = .ok (.astore_n 3, 1) := dk_78 (dk_at dksJ0_copyOf_3_1 0 rfl rfl)
theorem dJ0_copyOf_3_25 : decode cJ0_copyOf_3 25 = .ok (.aload_n 0, 1) := dk_42 (dk_at dksJ0_copyOf_3_1 1 rfl rfl)
theorem dJ0_copyOf_3_26 : decode cJ0_copyOf_3 26 = .ok (.iconst 0, 1) := dk_3 (dk_at dksJ0_copyOf_3_1 2 rfl rfl)
theorem dJ0_copyOf_3_27 : decode cJ0_copyOf_3 27 = .ok (.aload_n 3, 1) := dk_45 (dk_at dksJ0_copyOf_3_1 3 rfl rfl)
theorem dJ0_copyOf_3_28 : decode cJ0_copyOf_3 28 = .ok (.iconst 0, 1) := dk_3 (dk_at dksJ0_copyOf_3_1 4 rfl rfl)
theorem dJ0_copyOf_3_29 : decode cJ0_copyOf_3 29 = .ok (.aload_n 0, 1) := dk_42 (dk_at dksJ0_copyOf_3_1 5 rfl rfl)
theorem dJ0_copyOf_3_30 : decode cJ0_copyOf_3 30 = .ok (.arraylength, 1) := dk_190 (dk_at dksJ0_copyOf_3_1 6 rfl rfl)
theorem dJ0_copyOf_3_31 : decode cJ0_copyOf_3 31 = .ok (.iload_n 1, 1) := dk_27 (dk_at dksJ0_copyOf_3_1 7 rfl rfl)
theorem dJ0_copyOf_3_32 : decode cJ0_copyOf_3 32 = .ok (.invokestatic 304, 3) := dk_184 1 48 (dk_at dksJ0_copyOf_3_1 8 rfl rfl)
theorem dJ0_copyOf_3_35 : decode cJ0_copyOf_3 35 = .ok (.invokestatic 150, 3) := dk_184 0 150 (dk_at dksJ0_copyOf_3_1 11 rfl rfl)
theorem dJ0_copyOf_3_38 : decode cJ0_copyOf_3 38 = .ok (.aload_n 3, 1) := dk_45 (dk_at dksJ0_copyOf_3_1 14 rfl rfl)
theorem dJ0_copyOf_3_39 : decode cJ0_copyOf_3 39 = .ok (.areturn, 1) := dk_176 (dk_at dksJ0_copyOf_3_1 15 rfl rfl)
abbrev cJ0_fill_3 : ByteArray := prog_49_method_109_code
def yJ0_fill_3 : MethodName := ⟨RJ0, "fill", "([BB)V"⟩
def dkwJ0_fill_3_0 : List UInt8 := [3, 61, 42, 190, 62, 28, 29, 162, 0, 13, 42, 28, 27, 84, 132, 2, 1, 167, 255, 244, 177]
abbrev dktJ0_fill_3_0 : List UInt8 := dkwJ0_fill_3_0 ++ []
theorem dksJ0_fill_3_0 : cJ0_fill_3.data.toList.drop 0 = dktJ0_fill_3_0 := by decide +kernel
theorem dJ0_fill_3_0 : decode cJ0_fill_3 0 = .ok (.iconst 0, 1) := dk_3 (dk_at dksJ0_fill_3_0 0 rfl rfl)
theorem dJ0_fill_3_1 : decode cJ0_fill_3 1 = .ok (.istore_n 2, 1) := dk_61 (dk_at dksJ0_fill_3_0 1 rfl rfl)
theorem dJ0_fill_3_2 : decode cJ0_fill_3 2 = .ok (.aload_n 0, 1) := dk_42 (dk_at dksJ0_fill_3_0 2 rfl rfl)
theorem dJ0_fill_3_3 : decode cJ0_fill_3 3 = .ok (.arraylength, 1) := dk_190 (dk_at dksJ0_fill_3_0 3 rfl rfl)
theorem dJ0_fill_3_4 : decode cJ0_fill_3 4 = .ok (.istore_n 3, 1) := dk_62 (dk_at dksJ0_fill_3_0 4 rfl rfl)
theorem dJ0_fill_3_5 : decode cJ0_fill_3 5 = .ok (.iload_n 2, 1) := dk_28 (dk_at dksJ0_fill_3_0 5 rfl rfl)
theorem dJ0_fill_3_6 : decode cJ0_fill_3 6 = .ok (.iload_n 3, 1) := dk_29 (dk_at dksJ0_fill_3_0 6 rfl rfl)
theorem dJ0_fill_3_7 : decode cJ0_fill_3 7 = .ok (.if_icmp .ge 13, 3) := dk_162 0 13 (dk_at dksJ0_fill_3_0 7 rfl rfl)
theorem dJ0_fill_3_10 : decode cJ0_fill_3 10 = .ok (.aload_n 0, 1) := dk_42 (dk_at dksJ0_fill_3_0 10 rfl rfl)
theorem dJ0_fill_3_11 : decode cJ0_fill_3 11 = .ok (.iload_n 2, 1) := dk_28 (dk_at dksJ0_fill_3_0 11 rfl rfl)
theorem dJ0_fill_3_12 : decode cJ0_fill_3 12 = .ok (.iload_n 1, 1) := dk_27 (dk_at dksJ0_fill_3_0 12 rfl rfl)
theorem dJ0_fill_3_13 : decode cJ0_fill_3 13 = .ok (.bastore, 1) := dk_84 (dk_at dksJ0_fill_3_0 13 rfl rfl)
theorem dJ0_fill_3_14 : decode cJ0_fill_3 14 = .ok (.iinc 2 1, 3) := dk_132 2 1 (dk_at dksJ0_fill_3_0 14 rfl rfl)
theorem dJ0_fill_3_17 : decode cJ0_fill_3 17 = .ok (.goto (-12), 3) := dk_167 255 244 (dk_at dksJ0_fill_3_0 17 rfl rfl)
theorem dJ0_fill_3_20 : decode cJ0_fill_3 20 = .ok (.return_, 1) := dk_177 (dk_at dksJ0_fill_3_0 20 rfl rfl)
theorem q90 : (Jvm.Cond.initialized "java/util/Arrays") ∈ lw_all := lw_g (lw_at lw_m1 3 rfl) rfl
theorem q190 : (Jvm.Cond.static ({ cls := "java/util/Arrays", name := "fill", desc := "([II)V" } : Jvm.MethodName)) ∈ lw_all := lw_g (lw_at lw_m1 103 rfl) rfl
theorem q191 : (Jvm.Cond.code ({ cls := "java/util/Arrays", name := "fill", desc := "([II)V" } : Jvm.MethodName) prog_49_method_103_code (4 : Nat) (Option.none : Option Jvm.ClassFile.FieldType)) ∈ lw_all := lw_g (lw_at lw_m1 104 rfl) rfl
theorem q204 : (Jvm.Cond.static ({ cls := "java/util/Arrays", name := "fill", desc := "([Ljava/lang/Object;Ljava/lang/Object;)V" } : Jvm.MethodName)) ∈ lw_all := lw_g (lw_at lw_m1 117 rfl) rfl
theorem q205 : (Jvm.Cond.code ({ cls := "java/util/Arrays", name := "fill", desc := "([Ljava/lang/Object;Ljava/lang/Object;)V" } : Jvm.MethodName) prog_49_method_117_code (4 : Nat) (Option.none : Option Jvm.ClassFile.FieldType)) ∈ lw_all := lw_g (lw_at lw_m1 118 rfl) rfl
theorem q516 : (Jvm.Cond.static ({ cls := "java/util/Arrays", name := "copyOf", desc := "([BI)[B" } : Jvm.MethodName)) ∈ lw_all := lw_g (lw_at lw_m2 189 rfl) rfl
theorem q517 : (Jvm.Cond.code ({ cls := "java/util/Arrays", name := "copyOf", desc := "([BI)[B" } : Jvm.MethodName) prog_49_method_121_code (3 : Nat) (Option.some (Jvm.ClassFile.FieldType.array Jvm.ClassFile.FieldType.byte))) ∈ lw_all := lw_g (lw_at lw_m2 190 rfl) rfl
theorem q518 : (Jvm.Cond.methodLink "java/util/Arrays" (310 : Nat) ({ cls := "[B", name := "clone", desc := "()Ljava/lang/Object;" } : Jvm.MethodName)) ∈ lw_all := lw_g (lw_at lw_m2 191 rfl) rfl
theorem q522 : (Jvm.Cond.classLink "java/util/Arrays" (311 : Nat) "[B") ∈ lw_all := lw_g (lw_at lw_m2 195 rfl) rfl
theorem q523 : (Jvm.Cond.methodLink "java/util/Arrays" (304 : Nat) ({ cls := "java/lang/Math", name := "min", desc := "(II)I" } : Jvm.MethodName)) ∈ lw_all := lw_g (lw_at lw_m2 196 rfl) rfl
theorem q526 : (Jvm.Cond.methodLink "java/util/Arrays" (150 : Nat) ({ cls := "java/lang/System", name := "arraycopy", desc := "(Ljava/lang/Object;ILjava/lang/Object;II)V" } : Jvm.MethodName)) ∈ lw_all := lw_g (lw_at lw_m2 199 rfl) rfl
theorem q608 : (Jvm.Cond.static ({ cls := "java/util/Arrays", name := "copyOfRange", desc := "([BII)[B" } : Jvm.MethodName)) ∈ lw_all := lw_g (lw_at lw_m3 41 rfl) rfl
theorem q609 : (Jvm.Cond.code ({ cls := "java/util/Arrays", name := "copyOfRange", desc := "([BII)[B" } : Jvm.MethodName) prog_49_method_132_code (3 : Nat) (Option.some (Jvm.ClassFile.FieldType.array Jvm.ClassFile.FieldType.byte))) ∈ lw_all := lw_g (lw_at lw_m3 42 rfl) rfl
theorem q610 : (Jvm.Cond.methodLink "java/util/Arrays" (339 : Nat) ({ cls := "java/util/Arrays", name := "copyOfRangeByte", desc := "([BII)[B" } : Jvm.MethodName)) ∈ lw_all := lw_g (lw_at lw_m3 43 rfl) rfl
theorem q611 : (Jvm.Cond.static ({ cls := "java/util/Arrays", name := "copyOfRangeByte", desc := "([BII)[B" } : Jvm.MethodName)) ∈ lw_all := lw_g (lw_at lw_m3 44 rfl) rfl
theorem q612 : (Jvm.Cond.code ({ cls := "java/util/Arrays", name := "copyOfRangeByte", desc := "([BII)[B" } : Jvm.MethodName) prog_49_method_133_code (5 : Nat) (Option.some (Jvm.ClassFile.FieldType.array Jvm.ClassFile.FieldType.byte))) ∈ lw_all := lw_g (lw_at lw_m3 45 rfl) rfl
theorem q613 : (Jvm.Cond.methodLink "java/util/Arrays" (343 : Nat) ({ cls := "java/util/Arrays", name := "checkLength", desc := "(II)V" } : Jvm.MethodName)) ∈ lw_all := lw_g (lw_at lw_m3 46 rfl) rfl
theorem q614 : (Jvm.Cond.static ({ cls := "java/util/Arrays", name := "checkLength", desc := "(II)V" } : Jvm.MethodName)) ∈ lw_all := lw_g (lw_at lw_m3 47 rfl) rfl
theorem q615 : (Jvm.Cond.code ({ cls := "java/util/Arrays", name := "checkLength", desc := "(II)V" } : Jvm.MethodName) prog_49_method_131_code (2 : Nat) (Option.none : Option Jvm.ClassFile.FieldType)) ∈ lw_all := lw_g (lw_at lw_m3 48 rfl) rfl
theorem q644 : (Jvm.Cond.static ({ cls := "java/util/Arrays", name := "asList", desc := "([Ljava/lang/Object;)Ljava/util/List;" } : Jvm.MethodName)) ∈ lw_all := lw_g (lw_at lw_m3 77 rfl) rfl
theorem q645 : (Jvm.Cond.code ({ cls := "java/util/Arrays", name := "asList", desc := "([Ljava/lang/Object;)Ljava/util/List;" } : Jvm.MethodName) prog_49_method_148_code (1 : Nat) (Option.some (Jvm.ClassFile.FieldType.object "java/util/List"))) ∈ lw_all := lw_g (lw_at lw_m3 78 rfl) rfl
theorem q646 : (Jvm.Cond.classLink "java/util/Arrays" (375 : Nat) "java/util/Arrays$ArrayList") ∈ lw_all := lw_g (lw_at lw_m3 79 rfl) rfl
theorem q648 : (Jvm.Cond.methodLink "java/util/Arrays" (377 : Nat) ({ cls := "java/util/Arrays$ArrayList", name := "<init>", desc := "([Ljava/lang/Object;)V" } : Jvm.MethodName)) ∈ lw_all := lw_g (lw_at lw_m3 81 rfl) rfl
theorem q961 : (Jvm.Cond.static ({ cls := "java/util/Arrays", name := "copyOf", desc := "([Ljava/lang/Object;I)[Ljava/lang/Object;" } : Jvm.MethodName)) ∈ lw_all := lw_g (lw_at lw_m4 154 rfl) rfl
theorem q962 : (Jvm.Cond.code ({ cls := "java/util/Arrays", name := "copyOf", desc := "([Ljava/lang/Object;I)[Ljava/lang/Object;" } : Jvm.MethodName) prog_49_method_119_code (2 : Nat) (Option.some (Jvm.ClassFile.FieldType.array (Jvm.ClassFile.FieldType.object "java/lang/Object")))) ∈ lw_all := lw_g (lw_at lw_m4 155 rfl) rfl
theorem q963 : (Jvm.Cond.methodLink "java/util/Arrays" (86 : Nat) ({ cls := "java/lang/Object", name := "getClass", desc := "()Ljava/lang/Class;" } : Jvm.MethodName)) ∈ lw_all := lw_g (lw_at lw_m4 156 rfl) rfl
theorem q993 : (Jvm.Cond.methodLink "java/util/Arrays" (300 : Nat) ({ cls := "java/util/Arrays", name := "copyOf", desc := "([Ljava/lang/Object;ILjava/lang/Class;)[Ljava/lang/Object;" } : Jvm.MethodName)) ∈ lw_all := lw_g (lw_at lw_m4 186 rfl) rfl
theorem q994 : (Jvm.Cond.static ({ cls := "java/util/Arrays", name := "copyOf", desc := "([Ljava/lang/Object;ILjava/lang/Class;)[Ljava/lang/Object;" } : Jvm.MethodName)) ∈ lw_all := lw_g (lw_at lw_m4 187 rfl) rfl
theorem q995 : (Jvm.Cond.code ({ cls := "java/util/Arrays", name := "copyOf", desc := "([Ljava/lang/Object;ILjava/lang/Class;)[Ljava/lang/Object;" } : Jvm.MethodName) prog_49_method_120_code (4 : Nat) (Option.some (Jvm.ClassFile.FieldType.array (Jvm.ClassFile.FieldType.object "java/lang/Object")))) ∈ lw_all := lw_g (lw_at lw_m4 188 rfl) rfl
theorem q996 : (Jvm.Cond.classLink "java/util/Arrays" (110 : Nat) "[Ljava/lang/Object;") ∈ lw_all := lw_g (lw_at lw_m4 189 rfl) rfl
theorem q997 : (Jvm.Cond.classLink "java/util/Arrays" (2 : Nat) "java/lang/Object") ∈ lw_all := lw_g (lw_at lw_m4 190 rfl) rfl
theorem q1133 : (Jvm.Cond.static ({ cls := "java/util/Arrays", name := "fill", desc := "([BB)V" } : Jvm.MethodName)) ∈ lw_all := lw_g (lw_at lw_m5 86 rfl) rfl
theorem q1134 : (Jvm.Cond.code ({ cls := "java/util/Arrays", name := "fill", desc := "([BB)V" } : Jvm.MethodName) prog_49_method_109_code (4 : Nat) (Option.none : Option Jvm.ClassFile.FieldType)) ∈ lw_all := lw_g (lw_at lw_m5 87 rfl) rfl

/-! java/lang/AbstractStringBuilder -/
set_option maxRecDepth 100000
def RJ1 : String := "java/lang/AbstractStringBuilder"
abbrev cJ1_init : ByteArray := prog_20_method_2_code
def yJ1_init : MethodName := ⟨RJ1, "<init>", "(I)V"⟩
def dkwJ1_init_1 : List UInt8 := [167, 0, 16, 42, 27, 184, 0, 26, 181, 0, 15, 42, 4, 181, 0, 22, 177]
abbrev dktJ1_init_1 : List UInt8 := dkwJ1_init_1 ++ []
def dkwJ1_init_0 : List UInt8 := [42, 183, 0, 3, 178, 0, 18, 153, 0, 18, 42, 27, 188, 8, 181, 0, 15, 42, 3, 181, 0, 22]
abbrev dktJ1_init_0 : List UInt8 := dkwJ1_init_0 ++ dktJ1_init_1
theorem dksJ1_init_0 : cJ1_init.data.toList.drop 0 = dktJ1_init_0 := by decide +kernel
theorem dksJ1_init_1 : cJ1_init.data.toList.drop 22 = dktJ1_init_1 := dk_seg dksJ1_init_0 22 rfl rfl
theorem dJ1_init_0 : decode cJ1_init 0 = .ok (.aload_n 0, 1) := dk_42 (dk_at dksJ1_init_0 0 rfl rfl)
theorem dJ1_init_1 : decode cJ1_init 1 = .ok (.invokespecial 3, 3) := dk_183 0 3 (dk_at dksJ1_init_0 1 rfl rfl)
theorem dJ1_init_4 : decode cJ1_init 4 = .ok (.getstatic 18, 3) := dk_178 0 18 (dk_at dksJ1_init_0 4 rfl rfl)
theorem dJ1_init_7 : decode cJ1_init 7 = .ok (.ifCond .eq 18, 3) := dk_153 0 18 (dk_at dksJ1_init_0 7 rfl rfl)
theorem dJ1_init_10 : decode cJ1_init 10 = .ok (.aload_n 0, 1) := dk_42 (dk_at dksJ1_init_0 10 rfl rfl)
theorem dJ1_init_11 : decode cJ1_init 11 = .ok (.iload_n 1, 1) := dk_27 (dk_at dksJ1_init_0 11 rfl rfl)
theorem dJ1_init_12 : decode cJ1_init 12 = .ok (.newarray .byte, 2) := dk_188_8 (dk_at dksJ1_init_0 12 rfl rfl)
theorem dJ1_init_14 : decode cJ1_init 14 = .ok (.putfield 15, 3) := dk_181 0 15 (dk_at dksJ1_init_0 14 rfl rfl)
theorem dJ1_init_17 : decode cJ1_init 17 = .ok (.aload_n 0, 1) := dk_42 (dk_at dksJ1_init_0 17 rfl rfl)
theorem dJ1_init_18 : decode cJ1_init 18 = .ok (.iconst 0, 1) := dk_3 (dk_at dksJ1_init_0 18 rfl rfl)
theorem dJ1_init_19 : decode cJ1_init 19 = .ok (.putfield 22, 3) := dk_181 0 22 (dk_at dksJ1_init_0 19 rfl rfl)
theorem dJ1_init_22 : decode cJ1_init 22 = .ok (.goto 16, 3) := dk_167 0 16 (dk_at dksJ1_init_1 0 rfl rfl)
theorem dJ1_init_25 : decode cJ1_init 25 = .ok (.aload_n 0, 1) := dk_42 (dk_at dksJ1_init_1 3 rfl rfl)
theorem dJ1_init_26 : decode cJ1_init 26 = .ok (.iload_n 1, 1) := dk_27 (dk_at dksJ1_init_1 4 rfl rfl)
theorem dJ1_init_27 : decode cJ1_init 27 = .ok (.invokestatic 26, 3) := dk_184 0 26 (dk_at dksJ1_init_1 5 rfl rfl)
theorem dJ1_init_30 : decode cJ1_init 30 = .ok (.putfield 15, 3) := dk_181 0 15 (dk_at dksJ1_init_1 8 rfl rfl)
theorem dJ1_init_33 : decode cJ1_init 33 = .ok (.aload_n 0, 1) := dk_42 (dk_at dksJ1_init_1 11 rfl rfl)
theorem dJ1_init_34 : decode cJ1_init 34 = .ok (.iconst 1, 1) := dk_4 (dk_at dksJ1_init_1 12 rfl rfl)
theorem dJ1_init_35 : decode cJ1_init 35 = .ok (.putfield 22, 3) := dk_181 0 22 (dk_at dksJ1_init_1 13 rfl rfl)
theorem dJ1_init_38 : decode cJ1_init 38 = .ok (.return_, 1) := dk_177 (dk_at dksJ1_init_1 16 rfl rfl)
abbrev cJ1_append : ByteArray := prog_20_method_31_code
def yJ1_append : MethodName := ⟨RJ1, "append", "(C)Ljava/lang/AbstractStringBuilder;"⟩
def dkwJ1_append_3 : List UInt8 := [181, 0, 79, 27, 184, 0, 197, 42, 176]
abbrev dktJ1_append_3 : List UInt8 := dkwJ1_append_3 ++ []
def dkwJ1_append_2 : List UInt8 := [182, 0, 83, 153, 0, 7, 42, 182, 0, 195, 42, 180, 0, 15, 42, 89, 180, 0, 79, 90, 4, 96]
abbrev dktJ1_append_2 : List UInt8 := dkwJ1_append_2 ++ dktJ1_append_3
def dkwJ1_append_1 : List UInt8 := [42, 180, 0, 15, 42, 89, 180, 0, 79, 90, 4, 96, 181, 0, 79, 27, 145, 84, 167, 0, 33, 42]
abbrev dktJ1_append_1 : List UInt8 := dkwJ1_append_1 ++ dktJ1_append_2
def dkwJ1_append_0 : List UInt8 := [42, 42, 180, 0, 79, 4, 96, 182, 0, 100, 42, 182, 0, 83, 153, 0, 31, 27, 184, 0, 191, 153, 0, 24]
abbrev dktJ1_append_0 : List UInt8 := dkwJ1_append_0 ++ dktJ1_append_1
theorem dksJ1_append_0 : cJ1_append.data.toList.drop 0 = dktJ1_append_0 := by decide +kernel
theorem dksJ1_append_1 : cJ1_append.data.toList.drop 24 = dktJ1_append_1 := dk_seg dksJ1_append_0 24 rfl rfl
theorem dksJ1_append_2 : cJ1_append.data.toList.drop 46 = dktJ1_append_2 := dk_seg dksJ1_append_1 22 rfl rfl
theorem dksJ1_append_3 : cJ1_append.data.toList.drop 68 = dktJ1_append_3 := dk_seg dksJ1_append_2 22 rfl rfl
theorem dJ1_append_0 : decode cJ1_append 0 = .ok (.aload_n 0, 1) := dk_42 (dk_at dksJ1_append_0 0 rfl rfl)
theorem dJ1_append_1 : decode cJ1_append 1 = .ok (.aload_n 0, 1) := dk_42 (dk_at dksJ1_append_0 1 rfl rfl)
theorem dJ1_append_2 : decode cJ1_append 2 = .ok (.getfield 79, 3) := dk_180 0 79 (dk_at dksJ1_append_0 2 rfl rfl)
theorem dJ1_append_5 : decode cJ1_append 5 = .ok (.iconst 1, 1) := dk_4 (dk_at dksJ1_append_0 5 rfl rfl)
theorem dJ1_append_6 : decode cJ1_append 6 = .ok (.iadd, 1) := dk_96 (dk_at dksJ1_append_0 6 rfl rfl)
theorem dJ1_append_7 : decode cJ1_append 7 = .ok (.invokevirtual 100, 3) := dk_182 0 100 (dk_at dksJ1_append_0 7 rfl rfl)
theorem dJ1_append_10 : decode cJ1_append 10 = .ok (.aload_n 0, 1) := dk_42 (dk_at dksJ1_append_0 10 rfl rfl)
theorem dJ1_append_11 : decode cJ1_append 11 = .ok (.invokevirtual 83, 3) := dk_182 0 83 (dk_at dksJ1_append_0 11 rfl rfl)
theorem dJ1_append_14 : decode cJ1_append 14 = .ok (.ifCond .eq 31, 3) := dk_153 0 31 (dk_at dksJ1_append_0 14 rfl rfl)
theorem dJ1_append_17 : decode cJ1_append 17 = .ok (.iload_n 1, 1) := dk_27 (dk_at dksJ1_append_0 17 rfl rfl)
theorem dJ1_append_18 : decode cJ1_append 18 = .ok (.invokestatic 191, 3) := dk_184 0 191 (dk_at dksJ1_append_0 18 rfl rfl)
theorem dJ1_append_21 : decode cJ1_append 21 = .ok (.ifCond .eq 24, 3) := dk_153 0 24 (dk_at dksJ1_append_0 21 rfl rfl)
theorem dJ1_append_24 : decode cJ1_append 24 = .ok (.aload_n 0, 1) := dk_42 (dk_at dksJ1_append_1 0 rfl rfl)
theorem dJ1_append_25 : decode cJ1_append 25 = .ok (.getfield 15, 3) := dk_180 0 15 (dk_at dksJ1_append_1 1 rfl rfl)
theorem dJ1_append_28 : decode cJ1_append 28 = .ok (.aload_n 0, 1) := dk_42 (dk_at dksJ1_append_1 4 rfl rfl)
theorem dJ1_append_29 : decode cJ1_append 29 = .ok (.dup, 1) := dk_89 (dk_at dksJ1_append_1 5 rfl rfl)
theorem dJ1_append_30 : decode cJ1_append 30 = .ok (.getfield 79, 3) := dk_180 0 79 (dk_at dksJ1_append_1 6 rfl rfl)
theorem dJ1_append_33 : decode cJ1_append 33 = .ok (.dup_x1, 1) := dk_90 (dk_at dksJ1_append_1 9 rfl rfl)
theorem dJ1_append_34 : decode cJ1_append 34 = .ok (.iconst 1, 1) := dk_4 (dk_at dksJ1_append_1 10 rfl rfl)
theorem dJ1_append_35 : decode cJ1_append 35 = .ok (.iadd, 1) := dk_96 (dk_at dksJ1_append_1 11 rfl rfl)
theorem dJ1_append_36 : decode cJ1_append 36 = .ok (.putfield 79, 3) := dk_181 0 79 (dk_at dksJ1_append_1 12 rfl rfl)
theorem dJ1_append_39 : decode cJ1_append 39 = .ok (.iload_n 1, 1) := dk_27 (dk_at dksJ1_append_1 15 rfl rfl)
theorem dJ1_append_40 : decode cJ1_append 40 = .ok (.i2b, 1) := dk_145 (dk_at dksJ1_append_1 16 rfl rfl)
theorem dJ1_append_41 : decode cJ1_append 41 = .ok (.bastore, 1) := dk_84 (dk_at dksJ1_append_1 17 rfl rfl)
theorem dJ1_append_42 : decode cJ1_append 42 = .ok (.goto 33, 3) := dk_167 0 33 (dk_at dksJ1_append_1 18 rfl rfl)
theorem dJ1_append_45 : decode cJ1_append 45 = .ok (.aload_n 0, 1) := dk_42 (dk_at dksJ1_append_1 21 rfl rfl)
theorem dJ1_append_46 : decode cJ1_append 46 = .ok (.invokevirtual 83, 3) := dk_182 0 83 (dk_at dksJ1_append_2 0 rfl rfl)
theorem dJ1_append_49 : decode cJ1_append 49 = .ok (.ifCond .eq 7, 3) := dk_153 0 7 (dk_at dksJ1_append_2 3 rfl rfl)
theorem dJ1_append_52 : decode cJ1_append 52 = .ok (.aload_n 0, 1) := dk_42 (dk_at dksJ1_append_2 6 rfl rfl)
theorem dJ1_append_53 : decode cJ1_append 53 = .ok (.invokevirtual 195, 3) := dk_182 0 195 (dk_at dksJ1_append_2 7 rfl rfl)
theorem dJ1_append_56 : decode cJ1_append 56 = .ok (.aload_n 0, 1) := dk_42 (dk_at dksJ1_append_2 10 rfl rfl)
theorem dJ1_append_57 : decode cJ1_append 57 = .ok (.getfield 15, 3) := dk_180 0 15 (dk_at dksJ1_append_2 11 rfl rfl)
theorem dJ1_append_60 : decode cJ1_append 60 = .ok (.aload_n 0, 1) := dk_42 (dk_at dksJ1_append_2 14 rfl rfl)
theorem dJ1_append_61 : decode cJ1_append 61 = .ok (.dup, 1) := dk_89 (dk_at dksJ1_append_2 15 rfl rfl)
theorem dJ1_append_62 : decode cJ1_append 62 = .ok (.getfield 79, 3) := dk_180 0 79 (dk_at dksJ1_append_2 16 rfl rfl)
theorem dJ1_append_65 : decode cJ1_append 65 = .ok (.dup_x1, 1) := dk_90 (dk_at dksJ1_append_2 19 rfl rfl)
theorem dJ1_append_66 : decode cJ1_append 66 = .ok (.iconst 1, 1) := dk_4 (dk_at dksJ1_append_2 20 rfl rfl)
theorem dJ1_append_67 : decode cJ1_append 67 = .ok (.iadd, 1) := dk_96 (dk_at dksJ1_append_2 21 rfl rfl)
theorem dJ1_append_68 : decode cJ1_append 68 = .ok (.putfield 79, 3) := dk_181 0 79 (dk_at dksJ1_append_3 0 rfl rfl)
theorem dJ1_append_71 : decode cJ1_append 71 = .ok (.iload_n 1, 1) := dk_27 (dk_at dksJ1_append_3 3 rfl rfl)
theorem dJ1_append_72 : decode cJ1_append 72 = .ok (.invokestatic 197, 3) := dk_184 0 197 (dk_at dksJ1_append_3 4 rfl rfl)
theorem dJ1_append_75 : decode cJ1_append 75 = .ok (.aload_n 0, 1) := dk_42 (dk_at dksJ1_append_3 7 rfl rfl)
theorem dJ1_append_76 : decode cJ1_append 76 = .ok (.areturn, 1) := dk_176 (dk_at dksJ1_append_3 8 rfl rfl)
abbrev cJ1_ensureCapacityInternal : ByteArray := prog_20_method_9_code
def yJ1_ensureCapacityInternal : MethodName := ⟨RJ1, "ensureCapacityInternal", "(I)V"⟩
def dkwJ1_ensureCapacityInternal_1 : List UInt8 := [182, 0, 104, 42, 180, 0, 22, 120, 184, 0, 108, 181, 0, 15, 177]
abbrev dktJ1_ensureCapacityInternal_1 : List UInt8 := dkwJ1_ensureCapacityInternal_1 ++ []
def dkwJ1_ensureCapacityInternal_0 : List UInt8 := [42, 180, 0, 15, 190, 42, 180, 0, 22, 122, 61, 27, 28, 100, 158, 0, 24, 42, 42, 180, 0, 15, 42, 27]
abbrev dktJ1_ensureCapacityInternal_0 : List UInt8 := dkwJ1_ensureCapacityInternal_0 ++ dktJ1_ensureCapacityInternal_1
theorem dksJ1_ensureCapacityInternal_0 : cJ1_ensureCapacityInternal.data.toList.drop 0 = dktJ1_ensureCapacityInternal_0 := by decide +kernel
theorem dksJ1_ensureCapacityInternal_1 : cJ1_ensureCapacityInternal.data.toList.drop 24 = dktJ1_ensureCapacityInternal_1 := dk_seg dksJ1_ensureCapacityInternal_0 24 rfl rfl
theorem dJ1_ensureCapacityInternal_0 : decode cJ1_ensureCapacityInternal 0 = .ok (.aload_n 0, 1) := dk_42 (dk_at dksJ1_ensureCapacityInternal_0 0 rfl rfl)
theorem dJ1_ensureCapacityInternal_1 : decode cJ1_ensureCapacityInternal 1 = .ok (.getfield 15, 3) := dk_180 0 15 (dk_at dksJ1_ensureCapacityInternal_0 1 rfl rfl)
theorem dJ1_ensureCapacityInternal_4 : decode cJ1_ensureCapacityInternal 4 = .ok (.arraylength, 1) := dk_190 (dk_at dksJ1_ensureCapacityInternal_0 4 rfl rfl)
theorem dJ1_ensureCapacityInternal_5 : decode cJ1_ensureCapacityInternal 5 = .ok (.aload_n 0, 1) := dk_42 (dk_at dksJ1_ensureCapacityInternal_0 5 rfl rfl)
theorem dJ1_ensureCapacityInternal_6 : decode cJ1_ensureCapacityInternal 6 = .ok (.getfield 22, 3) := dk_180 0 22 (dk_at dksJ1_ensureCapacityInternal_0 6 rfl rfl)
theorem dJ1_ensureCapacityInternal_9 : decode cJ1_ensureCapacityInternal 9 = .ok (.ishr, 1) := dk_122 (dk_at dksJ1_ensureCapacityInternal_0 9 rfl rfl)
theorem dJ1_ensureCapacityInternal_10 : decode cJ1_ensureCapacityInternal 10 = .ok (.istore_n 2, 1) := dk_61 (dk_at dksJ1_ensureCapacityInternal_0 10 rfl rfl)
theorem dJ1_ensureCapacityInternal_11 : decode cJ1_ensureCapacityInternal 11 = .ok (.iload_n 1, 1) := dk_27 (dk_at dksJ1_ensureCapacityInternal_0 11 rfl rfl)
theorem dJ1_ensureCapacityInternal_12 : decode cJ1_ensureCapacityInternal 12 = .ok (.iload_n 2, 1) := dk_28 (dk_at dksJ1_ensureCapacityInternal_0 12 rfl rfl)
theorem dJ1_ensureCapacityInternal_13 : decode cJ1_ensureCapacityInternal 13 = .ok (.isub, 1) := dk_100 (dk_at dksJ1_ensureCapacityInternal_0 13 rfl rfl)
theorem dJ1_ensureCapacityInternal_14 : decode cJ1_ensureCapacityInternal 14 = .ok (.ifCond .le 24, 3) := dk_158 0 24 (dk_at dksJ1_ensureCapacityInternal_0 14 rfl rfl)
theorem dJ1_ensureCapacityInternal_17 : decode cJ1_ensureCapacityInternal 17 = .ok (.aload_n 0, 1) := dk_42 (dk_at dksJ1_ensureCapacityInternal_0 17 rfl rfl)
theorem dJ1_ensureCapacityInternal_18 : decode cJ1_ensureCapacityInternal 18 = .ok (.aload_n 0, 1) := dk_42 (dk_at dksJ1_ensureCapacityInternal_0 18 rfl rfl)
theorem dJ1_ensureCapacityInternal_19 : decode cJ1_ensureCapacityInternal 19 = .ok (.getfield 15, 3) := dk_180 0 15 (dk_at dksJ1_ensureCapacityInternal_0 19 rfl rfl)
theorem dJ1_ensureCapacityInternal_22 : decode cJ1_ensureCapacityInternal 22 = .ok (.aload_n 0, 1) := dk_42 (dk_at dksJ1_ensureCapacityInternal_0 22 rfl rfl)
theorem dJ1_ensureCapacityInternal_23 : decode cJ1_ensureCapacityInternal 23 = .ok (.iload_n 1, 1) := dk_27 (dk_at dksJ1_ensureCapacityInternal_0 23 rfl rfl)
theorem dJ1_ensureCapacityInternal_24 : decode cJ1_ensureCapacityInternal 24 = .ok (.invokevirtual 104, 3) := dk_182 0 104 (dk_at dksJ1_ensureCapacityInternal_1 0 rfl rfl)
theorem dJ1_ensureCapacityInternal_27 : decode cJ1_ensureCapacityInternal 27 = .ok (.aload_n 0, 1) := dk_42 (dk_at dksJ1_ensureCapacityInternal_1 3 rfl rfl)
theorem dJ1_ensureCapacityInternal_28 : decode cJ1_ensureCapacityInternal 28 = .ok (.getfield 22, 3) := dk_180 0 22 (dk_at dksJ1_ensureCapacityInternal_1 4 rfl rfl)
theorem dJ1_ensureCapacityInternal_31 : decode cJ1_ensureCapacityInternal 31 = .ok (.ishl, 1) := dk_120 (dk_at dksJ1_ensureCapacityInternal_1 7 rfl rfl)
theorem dJ1_ensureCapacityInternal_32 : decode cJ1_ensureCapacityInternal 32 = .ok (.invokestatic 108, 3) := dk_184 0 108 (dk_at dksJ1_ensureCapacityInternal_1 8 rfl rfl)
theorem dJ1_ensureCapacityInternal_35 : decode cJ1_ensureCapacityInternal 35 = .ok (.putfield 15, 3) := dk_181 0 15 (dk_at dksJ1_ensureCapacityInternal_1 11 rfl rfl)
theorem dJ1_ensureCapacityInternal_38 : decode cJ1_ensureCapacityInternal 38 = .ok (.return_, 1) := dk_177 (dk_at dksJ1_ensureCapacityInternal_1 14 rfl rfl)
abbrev cJ1_newCapacity : ByteArray := prog_20_method_10_code
def yJ1_newCapacity : MethodName := ⟨RJ1, "newCapacity", "(I)I"⟩
def dkwJ1_newCapacity_2 : List UInt8 := [183, 0, 124, 191, 21, 5, 42, 180, 0, 22, 122, 172]
abbrev dktJ1_newCapacity_2 : List UInt8 := dkwJ1_newCapacity_2 ++ []
def dkwJ1_newCapacity_1 : List UInt8 := [180, 0, 22, 120, 96, 184, 0, 114, 54, 5, 21, 5, 18, 39, 160, 0, 13, 187, 0, 120, 89, 18, 122]
abbrev dktJ1_newCapacity_1 : List UInt8 := dkwJ1_newCapacity_1 ++ dktJ1_newCapacity_2
def dkwJ1_newCapacity_0 : List UInt8 := [42, 180, 0, 15, 190, 61, 27, 42, 180, 0, 22, 120, 62, 29, 28, 100, 54, 4, 28, 21, 4, 28, 5, 42]
abbrev dktJ1_newCapacity_0 : List UInt8 := dkwJ1_newCapacity_0 ++ dktJ1_newCapacity_1
theorem dksJ1_newCapacity_0 : cJ1_newCapacity.data.toList.drop 0 = dktJ1_newCapacity_0 := by decide +kernel
theorem dksJ1_newCapacity_1 : cJ1_newCapacity.data.toList.drop 24 = dktJ1_newCapacity_1 := dk_seg dksJ1_newCapacity_0 24 rfl rfl
theorem dksJ1_newCapacity_2 : cJ1_newCapacity.data.toList.drop 47 = dktJ1_newCapacity_2 := dk_seg dksJ1_newCapacity_1 23 rfl rfl
theorem dJ1_newCapacity_0 : decode cJ1_newCapacity 0 = .ok (.aload_n 0, 1) := dk_42 (dk_at dksJ1_newCapacity_0 0 rfl rfl)
theorem dJ1_newCapacity_1 : decode cJ1_newCapacity 1 = .ok (.getfield 15, 3) := dk_180 0 15 (dk_at dksJ1_newCapacity_0 1 rfl rfl)
theorem dJ1_newCapacity_4 : decode cJ1_newCapacity 4 = .ok (.arraylength, 1) := dk_190 (dk_at dksJ1_newCapacity_0 4 rfl rfl)
theorem dJ1_newCapacity_5 : decode cJ1_newCapacity 5 = .ok (.istore_n 2, 1) := dk_61 (dk_at dksJ1_newCapacity_0 5 rfl rfl)
theorem dJ1_newCapacity_6 : decode cJ1_newCapacity 6 = .ok (.iload_n 1, 1) := dk_27 (dk_at dksJ1_newCapacity_0 6 rfl rfl)
theorem dJ1_newCapacity_7 : decode cJ1_newCapacity 7 = .ok (.aload_n 0, 1) := dk_42 (dk_at dksJ1_newCapacity_0 7 rfl rfl)
theorem dJ1_newCapacity_8 : decode cJ1_newCapacity 8 = .ok (.getfield 22, 3) := dk_180 0 22 (dk_at dksJ1_newCapacity_0 8 rfl rfl)
theorem dJ1_newCapacity_11 : decode cJ1_newCapacity 11 = .ok (.ishl, 1) := dk_120 (dk_at dksJ1_newCapacity_0 11 rfl rfl)
theorem dJ1_newCapacity_12 : decode cJ1_newCapacity 12 = .ok (.istore_n 3, 1) := dk_62 (dk_at dksJ1_newCapacity_0 12 rfl rfl)
theorem dJ1_newCapacity_13 : decode cJ1_newCapacity 13 = .ok (.iload_n 3, 1) := dk_29 (dk_at dksJ1_newCapacity_0 13 rfl rfl)
theorem dJ1_newCapacity_14 : decode cJ1_newCapacity 14 = .ok (.iload_n 2, 1) := dk_28 (dk_at dksJ1_newCapacity_0 14 rfl rfl)
theorem dJ1_newCapacity_15 : decode cJ1_newCapacity 15 = .ok (.isub, 1) := dk_100 (dk_at dksJ1_newCapacity_0 15 rfl rfl)
theorem dJ1_newCapacity_16 : decode cJ1_newCapacity 16 = .ok (.istore 4, 2) := dk_54 4 (dk_at dksJ1_newCapacity_0 16 rfl rfl)
theorem dJ1_newCapacity_18 : decode cJ1_newCapacity 18 = .ok (.iload_n 2, 1) := dk_28 (dk_at dksJ1_newCapacity_0 18 rfl rfl)
theorem dJ1_newCapacity_19 : decode cJ1_newCapacity 19 = .ok (.iload 4, 2) := dk_21 4 (dk_at dksJ1_newCapacity_0 19 rfl rfl)
theorem dJ1_newCapacity_21 : decode cJ1_newCapacity 21 = .ok (.iload_n 2, 1) := dk_28 (dk_at dksJ1_newCapacity_0 21 rfl rfl)
theorem dJ1_newCapacity_22 : decode cJ1_newCapacity 22 = .ok (.iconst 2, 1) := dk_5 (dk_at dksJ1_newCapacity_0 22 rfl rfl)
theorem dJ1_newCapacity_23 : decode cJ1_newCapacity 23 = .ok (.aload_n 0, 1) := dk_42 (dk_at dksJ1_newCapacity_0 23 rfl rfl)
theorem dJ1_newCapacity_24 : decode cJ1_newCapacity 24 = .ok (.getfield 22, 3) := dk_180 0 22 (dk_at dksJ1_newCapacity_1 0 rfl rfl)
theorem dJ1_newCapacity_27 : decode cJ1_newCapacity 27 = .ok (.ishl, 1) := dk_120 (dk_at dksJ1_newCapacity_1 3 rfl rfl)
theorem dJ1_newCapacity_28 : decode cJ1_newCapacity 28 = .ok (.iadd, 1) := dk_96 (dk_at dksJ1_newCapacity_1 4 rfl rfl)
theorem dJ1_newCapacity_29 : decode cJ1_newCapacity 29 = .ok (.invokestatic 114, 3) := dk_184 0 114 (dk_at dksJ1_newCapacity_1 5 rfl rfl)
theorem dJ1_newCapacity_32 : decode cJ1_newCapacity 32 = .ok (.istore 5, 2) := dk_54 5 (dk_at dksJ1_newCapacity_1 8 rfl rfl)
theorem dJ1_newCapacity_34 : decode cJ1_newCapacity 34 = .ok (.iload 5, 2) := dk_21 5 (dk_at dksJ1_newCapacity_1 10 rfl rfl)
theorem dJ1_newCapacity_36 : decode cJ1_newCapacity 36 = .ok (.ldc 39, 2) := dk_18 39 (dk_at dksJ1_newCapacity_1 12 rfl rfl)
theorem dJ1_newCapacity_38 : decode cJ1_newCapacity 38 = .ok (.if_icmp .ne 13, 3) := dk_160 0 13 (dk_at dksJ1_newCapacity_1 14 rfl rfl)
theorem dJ1_newCapacity_41 : decode cJ1_newCapacity 41 = .ok (.new 120, 3) := dk_187 0 120 (dk_at dksJ1_newCapacity_1 17 rfl rfl)
theorem dJ1_newCapacity_44 : decode cJ1_newCapacity 44 = .ok (.dup, 1) := dk_89 (dk_at dksJ1_newCapacity_1 20 rfl rfl)
theorem dJ1_newCapacity_45 : decode cJ1_newCapacity 45 = .ok (.ldc 122, 2) := dk_18 122 (dk_at dksJ1_newCapacity_1 21 rfl rfl)
theorem dJ1_newCapacity_47 : decode cJ1_newCapacity 47 = .ok (.invokespecial 124, 3) := dk_183 0 124 (dk_at dksJ1_newCapacity_2 0 rfl rfl)
theorem dJ1_newCapacity_50 : decode cJ1_newCapacity 50 = .ok (.athrow, 1) := dk_191 (dk_at dksJ1_newCapacity_2 3 rfl rfl)
theorem dJ1_newCapacity_51 : decode cJ1_newCapacity 51 = .ok (.iload 5, 2) := dk_21 5 (dk_at dksJ1_newCapacity_2 4 rfl rfl)
theorem dJ1_newCapacity_53 : decode cJ1_newCapacity 53 = .ok (.aload_n 0, 1) := dk_42 (dk_at dksJ1_newCapacity_2 6 rfl rfl)
theorem dJ1_newCapacity_54 : decode cJ1_newCapacity 54 = .ok (.getfield 22, 3) := dk_180 0 22 (dk_at dksJ1_newCapacity_2 7 rfl rfl)
theorem dJ1_newCapacity_57 : decode cJ1_newCapacity 57 = .ok (.ishr, 1) := dk_122 (dk_at dksJ1_newCapacity_2 10 rfl rfl)
theorem dJ1_newCapacity_58 : decode cJ1_newCapacity 58 = .ok (.ireturn, 1) := dk_172 (dk_at dksJ1_newCapacity_2 11 rfl rfl)
abbrev cJ1_isLatin1 : ByteArray := prog_20_method_68_code
def yJ1_isLatin1 : MethodName := ⟨RJ1, "isLatin1", "()Z"⟩
def dkwJ1_isLatin1_0 : List UInt8 := [178, 0, 18, 153, 0, 14, 42, 180, 0, 22, 154, 0, 7, 4, 167, 0, 4, 3, 172]
abbrev dktJ1_isLatin1_0 : List UInt8 := dkwJ1_isLatin1_0 ++ []
theorem dksJ1_isLatin1_0 : cJ1_isLatin1.data.toList.drop 0 = dktJ1_isLatin1_0 := by decide +kernel
theorem dJ1_isLatin1_0 : decode cJ1_isLatin1 0 = .ok (.getstatic 18, 3) := dk_178 0 18 (dk_at dksJ1_isLatin1_0 0 rfl rfl)
theorem dJ1_isLatin1_3 : decode cJ1_isLatin1 3 = .ok (.ifCond .eq 14, 3) := dk_153 0 14 (dk_at dksJ1_isLatin1_0 3 rfl rfl)
theorem dJ1_isLatin1_6 : decode cJ1_isLatin1 6 = .ok (.aload_n 0, 1) := dk_42 (dk_at dksJ1_isLatin1_0 6 rfl rfl)
theorem dJ1_isLatin1_7 : decode cJ1_isLatin1 7 = .ok (.getfield 22, 3) := dk_180 0 22 (dk_at dksJ1_isLatin1_0 7 rfl rfl)
theorem dJ1_isLatin1_10 : decode cJ1_isLatin1 10 = .ok (.ifCond .ne 7, 3) := dk_154 0 7 (dk_at dksJ1_isLatin1_0 10 rfl rfl)
theorem dJ1_isLatin1_13 : decode cJ1_isLatin1 13 = .ok (.iconst 1, 1) := dk_4 (dk_at dksJ1_isLatin1_0 13 rfl rfl)
theorem dJ1_isLatin1_14 : decode cJ1_isLatin1 14 = .ok (.goto 4, 3) := dk_167 0 4 (dk_at dksJ1_isLatin1_0 14 rfl rfl)
theorem dJ1_isLatin1_17 : decode cJ1_isLatin1 17 = .ok (.iconst 0, 1) := dk_3 (dk_at dksJ1_isLatin1_0 17 rfl rfl)
theorem dJ1_isLatin1_18 : decode cJ1_isLatin1 18 = .ok (.ireturn, 1) := dk_172 (dk_at dksJ1_isLatin1_0 18 rfl rfl)
abbrev cJ1_inflate : ByteArray := prog_20_method_11_code
def yJ1_inflate : MethodName := ⟨RJ1, "inflate", "()V"⟩
def dkwJ1_inflate_1 : List UInt8 := [42, 180, 0, 79, 184, 0, 125, 42, 43, 181, 0, 15, 42, 4, 181, 0, 22, 177]
abbrev dktJ1_inflate_1 : List UInt8 := dkwJ1_inflate_1 ++ []
def dkwJ1_inflate_0 : List UInt8 := [42, 182, 0, 83, 154, 0, 4, 177, 42, 180, 0, 15, 190, 184, 0, 26, 76, 42, 180, 0, 15, 3, 43, 3]
abbrev dktJ1_inflate_0 : List UInt8 := dkwJ1_inflate_0 ++ dktJ1_inflate_1
theorem dksJ1_inflate_0 : cJ1_inflate.data.toList.drop 0 = dktJ1_inflate_0 := by decide +kernel
theorem dksJ1_inflate_1 : cJ1_inflate.data.toList.drop 24 = dktJ1_inflate_1 := dk_seg dksJ1_inflate_0 24 rfl rfl
theorem dJ1_inflate_0 : decode cJ1_inflate 0 = .ok (.aload_n 0, 1) := dk_42 (dk_at dksJ1_inflate_0 0 rfl rfl)
theorem dJ1_inflate_1 : decode cJ1_inflate 1 = .ok (.invokevirtual 83, 3) := dk_182 0 83 (dk_at dksJ1_inflate_0 1 rfl rfl)
theorem dJ1_inflate_4 : decode cJ1_inflate 4 = .ok (.ifCond .ne 4, 3) := dk_154 0 4 (dk_at dksJ1_inflate_0 4 rfl rfl)
theorem dJ1_inflate_7 : decode cJ1_inflate 7 = .ok (.return_, 1) := dk_177 (dk_at dksJ1_inflate_0 7 rfl rfl)
theorem dJ1_inflate_8 : decode cJ1_inflate 8 = .ok (.aload_n 0, 1) := dk_42 (dk_at dksJ1_inflate_0 8 rfl rfl)
theorem dJ1_inflate_9 : decode cJ1_inflate 9 = .ok (.getfield 15, 3) := dk_180 0 15 (dk_at dksJ1_inflate_0 9 rfl rfl)
theorem dJ1_inflate_12 : decode cJ1_inflate 12 = .ok (.arraylength, 1) := dk_190 (dk_at dksJ1_inflate_0 12 rfl rfl)
theorem dJ1_inflate_13 : decode cJ1_inflate 13 = .ok (.invokestatic 26, 3) := dk_184 0 26 (dk_at dksJ1_inflate_0 13 rfl rfl)
theorem dJ1_inflate_16 : decode cJ1_inflate 16 = .ok (.astore_n 1, 1) := dk_76 (dk_at dksJ1_inflate_0 16 rfl rfl)
theorem dJ1_inflate_17 : decode cJ1_inflate 17 = .ok (.aload_n 0, 1) := dk_42 (dk_at dksJ1_inflate_0 17 rfl rfl)
theorem dJ1_inflate_18 : decode cJ1_inflate 18 = .ok (.getfield 15, 3) := dk_180 0 15 (dk_at dksJ1_inflate_0 18 rfl rfl)
theorem dJ1_inflate_21 : decode cJ1_inflate 21 = .ok (.iconst 0, 1) := dk_3 (dk_at dksJ1_inflate_0 21 rfl rfl)
theorem dJ1_inflate_22 : decode cJ1_inflate 22 = .ok (.aload_n 1, 1) := dk_43 (dk_at dksJ1_inflate_0 22 rfl rfl)
theorem dJ1_inflate_23 : decode cJ1_inflate 23 = .ok (.iconst 0, 1) := dk_3 (dk_at dksJ1_inflate_0 23 rfl rfl)
theorem dJ1_inflate_24 : decode cJ1_inflate 24 = .ok (.aload_n 0, 1) := dk_42 (dk_at dksJ1_inflate_1 0 rfl rfl)
theorem dJ1_inflate_25 : decode cJ1_inflate 25 = .ok (.getfield 79, 3) := dk_180 0 79 (dk_at dksJ1_inflate_1 1 rfl rfl)
theorem dJ1_inflate_28 : decode cJ1_inflate 28 = .ok (.invokestatic 125, 3) := dk_184 0 125 (dk_at dksJ1_inflate_1 4 rfl rfl)
theorem dJ1_inflate_31 : decode cJ1_inflate 31 = .ok (.aload_n 0, 1) := dk_42 (dk_at dksJ1_inflate_1 7 rfl rfl)
theorem dJ1_inflate_32 : decode cJ1_inflate 32 = .ok (.aload_n 1, 1) := dk_43 (dk_at dksJ1_inflate_1 8 rfl rfl)
theorem dJ1_inflate_33 : decode cJ1_inflate 33 = .ok (.putfield 15, 3) := dk_181 0 15 (dk_at dksJ1_inflate_1 9 rfl rfl)
theorem dJ1_inflate_36 : decode cJ1_inflate 36 = .ok (.aload_n 0, 1) := dk_42 (dk_at dksJ1_inflate_1 12 rfl rfl)
theorem dJ1_inflate_37 : decode cJ1_inflate 37 = .ok (.iconst 1, 1) := dk_4 (dk_at dksJ1_inflate_1 13 rfl rfl)
theorem dJ1_inflate_38 : decode cJ1_inflate 38 = .ok (.putfield 22, 3) := dk_181 0 22 (dk_at dksJ1_inflate_1 14 rfl rfl)
theorem dJ1_inflate_41 : decode cJ1_inflate 41 = .ok (.return_, 1) := dk_177 (dk_at dksJ1_inflate_1 17 rfl rfl)
abbrev cJ1_getValue : ByteArray := prog_20_method_64_code
def yJ1_getValue : MethodName := ⟨RJ1, "getValue", "()[B"⟩
theorem dJ1_getValue_0 : decode cJ1_getValue 0 = .ok (.aload_n 0, 1) := by decide +kernel
theorem dJ1_getValue_1 : decode cJ1_getValue 1 = .ok (.getfield 15, 3) := by decide +kernel
theorem dJ1_getValue_4 : decode cJ1_getValue 4 = .ok (.areturn, 1) := by decide +kernel
abbrev cJ1_length : ByteArray := prog_20_method_6_code
def yJ1_length : MethodName := ⟨RJ1, "length", "()I"⟩
theorem dJ1_length_0 : decode cJ1_length 0 = .ok (.aload_n 0, 1) := by decide +kernel
theorem dJ1_length_1 : decode cJ1_length 1 = .ok (.getfield 79, 3) := by decide +kernel
theorem dJ1_length_4 : decode cJ1_length 4 = .ok (.ireturn, 1) := by decide +kernel
abbrev cJ1_append_2 : ByteArray := prog_20_method_22_code
def yJ1_append_2 : MethodName := ⟨RJ1, "append", "(Ljava/lang/String;)Ljava/lang/AbstractStringBuilder;"⟩
def dkwJ1_append_2_1 : List UInt8 := [42, 42, 180, 0, 79, 43, 182, 0, 208, 42, 89, 180, 0, 79, 28, 96, 181, 0, 79, 42, 176]
abbrev dktJ1_append_2_1 : List UInt8 := dkwJ1_append_2_1 ++ []
def dkwJ1_append_2_0 : List UInt8 := [43, 199, 0, 8, 42, 182, 0, 204, 176, 43, 182, 0, 32, 61, 42, 42, 180, 0, 79, 28, 96, 182, 0, 100]
abbrev dktJ1_append_2_0 : List UInt8 := dkwJ1_append_2_0 ++ dktJ1_append_2_1
theorem dksJ1_append_2_0 : cJ1_append_2.data.toList.drop 0 = dktJ1_append_2_0 := by decide +kernel
theorem dksJ1_append_2_1 : cJ1_append_2.data.toList.drop 24 = dktJ1_append_2_1 := dk_seg dksJ1_append_2_0 24 rfl rfl
theorem dJ1_append_2_0 : decode cJ1_append_2 0 = .ok (.aload_n 1, 1) := dk_43 (dk_at dksJ1_append_2_0 0 rfl rfl)
theorem dJ1_append_2_1 : decode cJ1_append_2 1 = .ok (.ifnonnull 8, 3) := dk_199 0 8 (dk_at dksJ1_append_2_0 1 rfl rfl)
theorem dJ1_append_2_4 : decode cJ1_append_2 4 = .ok (.aload_n 0, 1) := dk_42 (dk_at dksJ1_append_2_0 4 rfl rfl)
theorem dJ1_append_2_5 : decode cJ1_append_2 5 = .ok (.invokevirtual 204, 3) := dk_182 0 204 (dk_at dksJ1_append_2_0 5 rfl rfl)
theorem dJ1_append_2_8 : decode cJ1_append_2 8 = .ok (.areturn, 1) := dk_176 (dk_at dksJ1_append_2_0 8 rfl rfl)
theorem dJ1_append_2_9 : decode cJ1_append_2 9 = .ok (.aload_n 1, 1) := dk_43 (dk_at dksJ1_append_2_0 9 rfl rfl)
theorem dJ1_append_2_10 : decode cJ1_append_2 10 = .ok (.invokevirtual 32, 3) := dk_182 0 32 (dk_at dksJ1_append_2_0 10 rfl rfl)
theorem dJ1_append_2_13 : decode cJ1_append_2 13 = .ok (.istore_n 2, 1) := dk_61 (dk_at dksJ1_append_2_0 13 rfl rfl)
theorem dJ1_append_2_14 : decode cJ1_append_2 14 = .ok (.aload_n 0, 1) := dk_42 (dk_at dksJ1_append_2_0 14 rfl rfl)
theorem dJ1_append_2_15 : decode cJ1_append_2 15 = .ok (.aload_n 0, 1) := dk_42 (dk_at dksJ1_append_2_0 15 rfl rfl)
theorem dJ1_append_2_16 : decode cJ1_append_2 16 = .ok (.getfield 79, 3) := dk_180 0 79 (dk_at dksJ1_append_2_0 16 rfl rfl)
theorem dJ1_append_2_19 : decode cJ1_append_2 19 = .ok (.iload_n 2, 1) := dk_28 (dk_at dksJ1_append_2_0 19 rfl rfl)
theorem dJ1_append_2_20 : decode cJ1_append_2 20 = .ok (.iadd, 1) := dk_96 (dk_at dksJ1_append_2_0 20 rfl rfl)
theorem dJ1_append_2_21 : decode cJ1_append_2 21 = .ok (.invokevirtual 100, 3) := dk_182 0 100 (dk_at dksJ1_append_2_0 21 rfl rfl)
theorem dJ1_append_2_24 : decode cJ1_append_2 24 = .ok (.aload_n 0, 1) := dk_42 (dk_at dksJ1_append_2_1 0 rfl rfl)
theorem dJ1_append_2_25 : decode cJ1_append_2 25 = .ok (.aload_n 0, 1) := dk_42 (dk_at dksJ1_append_2_1 1 rfl rfl)
theorem dJ1_append_2_26 : decode cJ1_append_2 26 = .ok (.getfield 79, 3) := dk_180 0 79 (dk_at dksJ1_append_2_1 2 rfl rfl)
theorem dJ1_append_2_29 : decode cJ1_append_2 29 = .ok (.aload_n 1, 1) := dk_43 (dk_at dksJ1_append_2_1 5 rfl rfl)
theorem dJ1_append_2_30 : decode cJ1_append_2 30 = .ok (.invokevirtual 208, 3) := dk_182 0 208 (dk_at dksJ1_append_2_1 6 rfl rfl)
theorem dJ1_append_2_33 : decode cJ1_append_2 33 = .ok (.aload_n 0, 1) := dk_42 (dk_at dksJ1_append_2_1 9 rfl rfl)
theorem dJ1_append_2_34 : decode cJ1_append_2 34 = .ok (.dup, 1) := dk_89 (dk_at dksJ1_append_2_1 10 rfl rfl)
theorem dJ1_append_2_35 : decode cJ1_append_2 35 = .ok (.getfield 79, 3) := dk_180 0 79 (dk_at dksJ1_append_2_1 11 rfl rfl)
theorem dJ1_append_2_38 : decode cJ1_append_2 38 = .ok (.iload_n 2, 1) := dk_28 (dk_at dksJ1_append_2_1 14 rfl rfl)
theorem dJ1_append_2_39 : decode cJ1_append_2 39 = .ok (.iadd, 1) := dk_96 (dk_at dksJ1_append_2_1 15 rfl rfl)
theorem dJ1_append_2_40 : decode cJ1_append_2 40 = .ok (.putfield 79, 3) := dk_181 0 79 (dk_at dksJ1_append_2_1 16 rfl rfl)
theorem dJ1_append_2_43 : decode cJ1_append_2 43 = .ok (.aload_n 0, 1) := dk_42 (dk_at dksJ1_append_2_1 19 rfl rfl)
theorem dJ1_append_2_44 : decode cJ1_append_2 44 = .ok (.areturn, 1) := dk_176 (dk_at dksJ1_append_2_1 20 rfl rfl)
abbrev cJ1_appendNull : ByteArray := prog_20_method_26_code
def yJ1_appendNull : MethodName := ⟨RJ1, "appendNull", "()Ljava/lang/AbstractStringBuilder;"⟩
def dkwJ1_appendNull_3 : List UInt8 := [184, 0, 226, 60, 42, 27, 181, 0, 79, 42, 176]
abbrev dktJ1_appendNull_3 : List UInt8 := dkwJ1_appendNull_3 ++ []
def dkwJ1_appendNull_2 : List UInt8 := [16, 108, 84, 44, 27, 132, 1, 1, 16, 108, 84, 167, 0, 17, 44, 27, 16, 110, 16, 117, 16, 108, 16, 108]
abbrev dktJ1_appendNull_2 : List UInt8 := dkwJ1_appendNull_2 ++ dktJ1_appendNull_3
def dkwJ1_appendNull_1 : List UInt8 := [153, 0, 38, 44, 27, 132, 1, 1, 16, 110, 84, 44, 27, 132, 1, 1, 16, 117, 84, 44, 27, 132, 1, 1]
abbrev dktJ1_appendNull_1 : List UInt8 := dkwJ1_appendNull_1 ++ dktJ1_appendNull_2
def dkwJ1_appendNull_0 : List UInt8 := [42, 42, 180, 0, 79, 7, 96, 182, 0, 100, 42, 180, 0, 79, 60, 42, 180, 0, 15, 77, 42, 182, 0, 83]
abbrev dktJ1_appendNull_0 : List UInt8 := dkwJ1_appendNull_0 ++ dktJ1_appendNull_1
theorem dksJ1_appendNull_0 : cJ1_appendNull.data.toList.drop 0 = dktJ1_appendNull_0 := by decide +kernel
theorem dksJ1_appendNull_1 : cJ1_appendNull.data.toList.drop 24 = dktJ1_appendNull_1 := dk_seg dksJ1_appendNull_0 24 rfl rfl
theorem dksJ1_appendNull_2 : cJ1_appendNull.data.toList.drop 48 = dktJ1_appendNull_2 := dk_seg dksJ1_appendNull_1 24 rfl rfl
theorem dksJ1_appendNull_3 : cJ1_appendNull.data.toList.drop 72 = dktJ1_appendNull_3 := dk_seg dksJ1_appendNull_2 24 rfl rfl
theorem dJ1_appendNull_0 : decode cJ1_appendNull 0 = .ok (.aload_n 0, 1) := dk_42 (dk_at dksJ1_appendNull_0 0 rfl rfl)
theorem dJ1_appendNull_1 : decode cJ1_appendNull 1 = .ok (.aload_n 0, 1) := dk_42 (dk_at dksJ1_appendNull_0 1 rfl rfl)
theorem dJ1_appendNull_2 : decode cJ1_appendNull 2 = .ok (.getfield 79, 3) := dk_180 0 79 (dk_at dksJ1_appendNull_0 2 rfl rfl)
theorem dJ1_appendNull_5 : decode cJ1_appendNull 5 = .ok (.iconst 4, 1) := dk_7 (dk_at dksJ1_appendNull_0 5 rfl rfl)
theorem dJ1_appendNull_6 : decode cJ1_appendNull 6 = .ok (.iadd, 1) := dk_96 (dk_at dksJ1_appendNull_0 6 rfl rfl)
theorem dJ1_appendNull_7 : decode cJ1_appendNull 7 = .ok (.invokevirtual 100, 3) := dk_182 0 100 (dk_at dksJ1_appendNull_0 7 rfl rfl)
theorem dJ1_appendNull_10 : decode cJ1_appendNull 10 = .ok (.aload_n 0, 1) := dk_42 (dk_at dksJ1_appendNull_0 10 rfl rfl)
theorem dJ1_appendNull_11 : decode cJ1_appendNull 11 = .ok (.getfield 79, 3) := dk_180 0 79 (dk_at dksJ1_appendNull_0 11 rfl rfl)
theorem dJ1_appendNull_14 : decode cJ1_appendNull 14 = .ok (.istore_n 1, 1) := dk_60 (dk_at dksJ1_appendNull_0 14 rfl rfl)
theorem dJ1_appendNull_15 : decode cJ1_appendNull 15 = .ok (.aload_n 0, 1) := dk_42 (dk_at dksJ1_appendNull_0 15 rfl rfl)
theorem dJ1_appendNull_16 : decode cJ1_appendNull 16 = .ok (.getfield 15, 3) := dk_180 0 15 (dk_at dksJ1_appendNull_0 16 rfl rfl)
theorem dJ1_appendNull_19 : decode cJ1_appendNull 19 = .ok (.astore_n 2, 1) := dk_77 (dk_at dksJ1_appendNull_0 19 rfl rfl)
theorem dJ1_appendNull_20 : decode cJ1_appendNull 20 = .ok (.aload_n 0, 1) := dk_42 (dk_at dksJ1_appendNull_0 20 rfl rfl)
theorem dJ1_appendNull_21 : decode cJ1_appendNull 21 = .ok (.invokevirtual 83, 3) := dk_182 0 83 (dk_at dksJ1_appendNull_0 21 rfl rfl)
theorem dJ1_appendNull_24 : decode cJ1_appendNull 24 = .ok (.ifCond .eq 38, 3) := dk_153 0 38 (dk_at dksJ1_appendNull_1 0 rfl rfl)
theorem dJ1_appendNull_27 : decode cJ1_appendNull 27 = .ok (.aload_n 2, 1) := dk_44 (dk_at dksJ1_appendNull_1 3 rfl rfl)
theorem dJ1_appendNull_28 : decode cJ1_appendNull 28 = .ok (.iload_n 1, 1) := dk_27 (dk_at dksJ1_appendNull_1 4 rfl rfl)
theorem dJ1_appendNull_29 : decode cJ1_appendNull 29 = .ok (.iinc 1 1, 3) := dk_132 1 1 (dk_at dksJ1_appendNull_1 5 rfl rfl)
theorem dJ1_appendNull_32 : decode cJ1_appendNull 32 = .ok (.bipush 110, 2) := dk_16 110 (dk_at dksJ1_appendNull_1 8 rfl rfl)
theorem dJ1_appendNull_34 : decode cJ1_appendNull 34 = .ok (.bastore, 1) := dk_84 (dk_at dksJ1_appendNull_1 10 rfl rfl)
theorem dJ1_appendNull_35 : decode cJ1_appendNull 35 = .ok (.aload_n 2, 1) := dk_44 (dk_at dksJ1_appendNull_1 11 rfl rfl)
theorem dJ1_appendNull_36 : decode cJ1_appendNull 36 = .ok (.iload_n 1, 1) := dk_27 (dk_at dksJ1_appendNull_1 12 rfl rfl)
theorem dJ1_appendNull_37 : decode cJ1_appendNull 37 = .ok (.iinc 1 1, 3) := dk_132 1 1 (dk_at dksJ1_appendNull_1 13 rfl rfl)
theorem dJ1_appendNull_40 : decode cJ1_appendNull 40 = .ok (.bipush 117, 2) := dk_16 117 (dk_at dksJ1_appendNull_1 16 rfl rfl)
theorem dJ1_appendNull_42 : decode cJ1_appendNull 42 = .ok (.bastore, 1) := dk_84 (dk_at dksJ1_appendNull_1 18 rfl rfl)
theorem dJ1_appendNull_43 : decode cJ1_appendNull 43 = .ok (.aload_n 2, 1) := dk_44 (dk_at dksJ1_appendNull_1 19 rfl rfl)
theorem dJ1_appendNull_44 : decode cJ1_appendNull 44 = .ok (.iload_n 1, 1) := dk_27 (dk_at dksJ1_appendNull_1 20 rfl rfl)
theorem dJ1_appendNull_45 : decode cJ1_appendNull 45 = .ok (.iinc 1 1, 3) := dk_132 1 1 (dk_at dksJ1_appendNull_1 21 rfl rfl)
theorem dJ1_appendNull_48 : decode cJ1_appendNull 48 = .ok (.bipush 108, 2) := dk_16 108 (dk_at dksJ1_appendNull_2 0 rfl rfl)
theorem dJ1_appendNull_50 : decode cJ1_appendNull 50 = .ok (.bastore, 1) := dk_84 (dk_at dksJ1_appendNull_2 2 rfl rfl)
theorem dJ1_appendNull_51 : decode cJ1_appendNull 51 = .ok (.aload_n 2, 1) := dk_44 (dk_at dksJ1_appendNull_2 3 rfl rfl)
theorem dJ1_appendNull_52 : decode cJ1_appendNull 52 = .ok (.iload_n 1, 1) := dk_27 (dk_at dksJ1_appendNull_2 4 rfl rfl)
theorem dJ1_appendNull_53 : decode cJ1_appendNull 53 = .ok (.iinc 1 1, 3) := dk_132 1 1 (dk_at dksJ1_appendNull_2 5 rfl rfl)
theorem dJ1_appendNull_56 : decode cJ1_appendNull 56 = .ok (.bipush 108, 2) := dk_16 108 (dk_at dksJ1_appendNull_2 8 rfl rfl)
theorem dJ1_appendNull_58 : decode cJ1_appendNull 58 = .ok (.bastore, 1) := dk_84 (dk_at dksJ1_appendNull_2 10 rfl rfl)
theorem dJ1_appendNull_59 : decode cJ1_appendNull 59 = .ok (.goto 17, 3) := dk_167 0 17 (dk_at dksJ1_appendNull_2 11 rfl rfl)
theorem dJ1_appendNull_62 : decode cJ1_appendNull 62 = .ok (.aload_n 2, 1) := dk_44 (dk_at dksJ1_appendNull_2 14 rfl rfl)
theorem dJ1_appendNull_63 : decode cJ1_appendNull 63 = .ok (.iload_n 1, 1) := dk_27 (dk_at dksJ1_appendNull_2 15 rfl rfl)
theorem dJ1_appendNull_64 : decode cJ1_appendNull 64 = .ok (.bipush 110, 2) := dk_16 110 (dk_at dksJ1_appendNull_2 16 rfl rfl)
theorem dJ1_appendNull_66 : decode cJ1_appendNull 66 = .ok (.bipush 117, 2) := dk_16 117 (dk_at dksJ1_appendNull_2 18 rfl rfl)
theorem dJ1_appendNull_68 : decode cJ1_appendNull 68 = .ok (.bipush 108, 2) := dk_16 108 (dk_at dksJ1_appendNull_2 20 rfl rfl)
theorem dJ1_appendNull_70 : decode cJ1_appendNull 70 = .ok (.bipush 108, 2) := dk_16 108 (dk_at dksJ1_appendNull_2 22 rfl rfl)
theorem dJ1_appendNull_72 : decode cJ1_appendNull 72 = .ok (.invokestatic 226, 3) := dk_184 0 226 (dk_at dksJ1_appendNull_3 0 rfl rfl)
theorem dJ1_appendNull_75 : decode cJ1_appendNull 75 = .ok (.istore_n 1, 1) := dk_60 (dk_at dksJ1_appendNull_3 3 rfl rfl)
theorem dJ1_appendNull_76 : decode cJ1_appendNull 76 = .ok (.aload_n 0, 1) := dk_42 (dk_at dksJ1_appendNull_3 4 rfl rfl)
theorem dJ1_appendNull_77 : decode cJ1_appendNull 77 = .ok (.iload_n 1, 1) := dk_27 (dk_at dksJ1_appendNull_3 5 rfl rfl)
theorem dJ1_appendNull_78 : decode cJ1_appendNull 78 = .ok (.putfield 79, 3) := dk_181 0 79 (dk_at dksJ1_appendNull_3 6 rfl rfl)
theorem dJ1_appendNull_81 : decode cJ1_appendNull 81 = .ok (.aload_n 0, 1) := dk_42 (dk_at dksJ1_appendNull_3 9 rfl rfl)
theorem dJ1_appendNull_82 : decode cJ1_appendNull 82 = .ok (.areturn, 1) := dk_176 (dk_at dksJ1_appendNull_3 10 rfl rfl)
abbrev cJ1_putStringAt : ByteArray := prog_20_method_73_code
def yJ1_putStringAt : MethodName := ⟨RJ1, "putStringAt", "(ILjava/lang/String;)V"⟩
def dkwJ1_putStringAt_0 : List UInt8 := [42, 44, 182, 1, 141, 44, 42, 180, 0, 15, 27, 42, 180, 0, 22, 182, 1, 143, 177]
abbrev dktJ1_putStringAt_0 : List UInt8 := dkwJ1_putStringAt_0 ++ []
theorem dksJ1_putStringAt_0 : cJ1_putStringAt.data.toList.drop 0 = dktJ1_putStringAt_0 := by decide +kernel
theorem dJ1_putStringAt_0 : decode cJ1_putStringAt 0 = .ok (.aload_n 0, 1) := dk_42 (dk_at dksJ1_putStringAt_0 0 rfl rfl)
theorem dJ1_putStringAt_1 : decode cJ1_putStringAt 1 = .ok (.aload_n 2, 1) := dk_44 (dk_at dksJ1_putStringAt_0 1 rfl rfl)
theorem dJ1_putStringAt_2 : decode cJ1_putStringAt 2 = .ok (.invokevirtual 397, 3) := dk_182 1 141 (dk_at dksJ1_putStringAt_0 2 rfl rfl)
theorem dJ1_putStringAt_5 : decode cJ1_putStringAt 5 = .ok (.aload_n 2, 1) := dk_44 (dk_at dksJ1_putStringAt_0 5 rfl rfl)
theorem dJ1_putStringAt_6 : decode cJ1_putStringAt 6 = .ok (.aload_n 0, 1) := dk_42 (dk_at dksJ1_putStringAt_0 6 rfl rfl)
theorem dJ1_putStringAt_7 : decode cJ1_putStringAt 7 = .ok (.getfield 15, 3) := dk_180 0 15 (dk_at dksJ1_putStringAt_0 7 rfl rfl)
theorem dJ1_putStringAt_10 : decode cJ1_putStringAt 10 = .ok (.iload_n 1, 1) := dk_27 (dk_at dksJ1_putStringAt_0 10 rfl rfl)
theorem dJ1_putStringAt_11 : decode cJ1_putStringAt 11 = .ok (.aload_n 0, 1) := dk_42 (dk_at dksJ1_putStringAt_0 11 rfl rfl)
theorem dJ1_putStringAt_12 : decode cJ1_putStringAt 12 = .ok (.getfield 22, 3) := dk_180 0 22 (dk_at dksJ1_putStringAt_0 12 rfl rfl)
theorem dJ1_putStringAt_15 : decode cJ1_putStringAt 15 = .ok (.invokevirtual 399, 3) := dk_182 1 143 (dk_at dksJ1_putStringAt_0 15 rfl rfl)
theorem dJ1_putStringAt_18 : decode cJ1_putStringAt 18 = .ok (.return_, 1) := dk_177 (dk_at dksJ1_putStringAt_0 18 rfl rfl)
abbrev cJ1_inflateIfNeededFor : ByteArray := prog_20_method_71_code
def yJ1_inflateIfNeededFor : MethodName := ⟨RJ1, "inflateIfNeededFor", "(Ljava/lang/String;)V"⟩
def dkwJ1_inflateIfNeededFor_0 : List UInt8 := [178, 0, 18, 153, 0, 18, 42, 180, 0, 22, 43, 182, 0, 40, 159, 0, 7, 42, 182, 0, 195, 177]
abbrev dktJ1_inflateIfNeededFor_0 : List UInt8 := dkwJ1_inflateIfNeededFor_0 ++ []
theorem dksJ1_inflateIfNeededFor_0 : cJ1_inflateIfNeededFor.data.toList.drop 0 = dktJ1_inflateIfNeededFor_0 := by decide +kernel
theorem dJ1_inflateIfNeededFor_0 : decode cJ1_inflateIfNeededFor 0 = .ok (.getstatic 18, 3) := dk_178 0 18 (dk_at dksJ1_inflateIfNeededFor_0 0 rfl rfl)
theorem dJ1_inflateIfNeededFor_3 : decode cJ1_inflateIfNeededFor 3 = .ok (.ifCond .eq 18, 3) := dk_153 0 18 (dk_at dksJ1_inflateIfNeededFor_0 3 rfl rfl)
theorem dJ1_inflateIfNeededFor_6 : decode cJ1_inflateIfNeededFor 6 = .ok (.aload_n 0, 1) := dk_42 (dk_at dksJ1_inflateIfNeededFor_0 6 rfl rfl)
theorem dJ1_inflateIfNeededFor_7 : decode cJ1_inflateIfNeededFor 7 = .ok (.getfield 22, 3) := dk_180 0 22 (dk_at dksJ1_inflateIfNeededFor_0 7 rfl rfl)
theorem dJ1_inflateIfNeededFor_10 : decode cJ1_inflateIfNeededFor 10 = .ok (.aload_n 1, 1) := dk_43 (dk_at dksJ1_inflateIfNeededFor_0 10 rfl rfl)
theorem dJ1_inflateIfNeededFor_11 : decode cJ1_inflateIfNeededFor 11 = .ok (.invokevirtual 40, 3) := dk_182 0 40 (dk_at dksJ1_inflateIfNeededFor_0 11 rfl rfl)
theorem dJ1_inflateIfNeededFor_14 : decode cJ1_inflateIfNeededFor 14 = .ok (.if_icmp .eq 7, 3) := dk_159 0 7 (dk_at dksJ1_inflateIfNeededFor_0 14 rfl rfl)
theorem dJ1_inflateIfNeededFor_17 : decode cJ1_inflateIfNeededFor 17 = .ok (.aload_n 0, 1) := dk_42 (dk_at dksJ1_inflateIfNeededFor_0 17 rfl rfl)
theorem dJ1_inflateIfNeededFor_18 : decode cJ1_inflateIfNeededFor 18 = .ok (.invokevirtual 195, 3) := dk_182 0 195 (dk_at dksJ1_inflateIfNeededFor_0 18 rfl rfl)
theorem dJ1_inflateIfNeededFor_21 : decode cJ1_inflateIfNeededFor 21 = .ok (.return_, 1) := dk_177 (dk_at dksJ1_inflateIfNeededFor_0 21 rfl rfl)
abbrev cJ1_append_3 : ByteArray := prog_20_method_32_code
def yJ1_append_3 : MethodName := ⟨RJ1, "append", "(I)Ljava/lang/AbstractStringBuilder;"⟩
def dkwJ1_append_3_2 : List UInt8 := [42, 29, 181, 0, 79, 42, 176]
abbrev dktJ1_append_3_2 : List UInt8 := dkwJ1_append_3_2 ++ []
def dkwJ1_append_3_1 : List UInt8 := [27, 29, 42, 180, 0, 15, 184, 0, 248, 87, 167, 0, 14, 27, 28, 29, 42, 180, 0, 15, 184, 0, 251, 87]
abbrev dktJ1_append_3_1 : List UInt8 := dkwJ1_append_3_1 ++ dktJ1_append_3_2
def dkwJ1_append_3_0 : List UInt8 := [42, 180, 0, 79, 61, 28, 27, 184, 0, 245, 96, 62, 42, 29, 182, 0, 100, 42, 182, 0, 83, 153, 0, 16]
abbrev dktJ1_append_3_0 : List UInt8 := dkwJ1_append_3_0 ++ dktJ1_append_3_1
theorem dksJ1_append_3_0 : cJ1_append_3.data.toList.drop 0 = dktJ1_append_3_0 := by decide +kernel
theorem dksJ1_append_3_1 : cJ1_append_3.data.toList.drop 24 = dktJ1_append_3_1 := dk_seg dksJ1_append_3_0 24 rfl rfl
theorem dksJ1_append_3_2 : cJ1_append_3.data.toList.drop 48 = dktJ1_append_3_2 := dk_seg dksJ1_append_3_1 24 rfl rfl
theorem dJ1_append_3_0 : decode cJ1_append_3 0 = .ok (.aload_n 0, 1) := dk_42 (dk_at dksJ1_append_3_0 0 rfl rfl)
theorem dJ1_append_3_1 : decode cJ1_append_3 1 = .ok (.getfield 79, 3) := dk_180 0 79 (dk_at dksJ1_append_3_0 1 rfl rfl)
theorem dJ1_append_3_4 : decode cJ1_append_3 4 = .ok (.istore_n 2, 1) := dk_61 (dk_at dksJ1_append_3_0 4 rfl rfl)
theorem dJ1_append_3_5 : decode cJ1_append_3 5 = .ok (.iload_n 2, 1) := dk_28 (dk_at dksJ1_append_3_0 5 rfl rfl)
theorem dJ1_append_3_6 : decode cJ1_append_3 6 = .ok (.iload_n 1, 1) := dk_27 (dk_at dksJ1_append_3_0 6 rfl rfl)
theorem dJ1_append_3_7 : decode cJ1_append_3 7 = .ok (.invokestatic 245, 3) := dk_184 0 245 (dk_at dksJ1_append_3_0 7 rfl rfl)
theorem dJ1_append_3_10 : decode cJ1_append_3 10 = .ok (.iadd, 1) := dk_96 (dk_at dksJ1_append_3_0 10 rfl rfl)
theorem dJ1_append_3_11 : decode cJ1_append_3 11 = .ok (.istore_n 3, 1) := dk_62 (dk_at dksJ1_append_3_0 11 rfl rfl)
theorem dJ1_append_3_12 : decode cJ1_append_3 12 = .ok (.aload_n 0, 1) := dk_42 (dk_at dksJ1_append_3_0 12 rfl rfl)
theorem dJ1_append_3_13 : decode cJ1_append_3 13 = .ok (.iload_n 3, 1) := dk_29 (dk_at dksJ1_append_3_0 13 rfl rfl)
theorem dJ1_append_3_14 : decode cJ1_append_3 14 = .ok (.invokevirtual 100, 3) := dk_182 0 100 (dk_at dksJ1_append_3_0 14 rfl rfl)
theorem dJ1_append_3_17 : decode cJ1_append_3 17 = .ok (.aload_n 0, 1) := dk_42 (dk_at dksJ1_append_3_0 17 rfl rfl)
theorem dJ1_append_3_18 : decode cJ1_append_3 18 = .ok (.invokevirtual 83, 3) := dk_182 0 83 (dk_at dksJ1_append_3_0 18 rfl rfl)
theorem dJ1_append_3_21 : decode cJ1_append_3 21 = .ok (.ifCond .eq 16, 3) := dk_153 0 16 (dk_at dksJ1_append_3_0 21 rfl rfl)
theorem dJ1_append_3_24 : decode cJ1_append_3 24 = .ok (.iload_n 1, 1) := dk_27 (dk_at dksJ1_append_3_1 0 rfl rfl)
theorem dJ1_append_3_25 : decode cJ1_append_3 25 = .ok (.iload_n 3, 1) := dk_29 (dk_at dksJ1_append_3_1 1 rfl rfl)
theorem dJ1_append_3_26 : decode cJ1_append_3 26 = .ok (.aload_n 0, 1) := dk_42 (dk_at dksJ1_append_3_1 2 rfl rfl)
theorem dJ1_append_3_27 : decode cJ1_append_3 27 = .ok (.getfield 15, 3) := dk_180 0 15 (dk_at dksJ1_append_3_1 3 rfl rfl)
theorem dJ1_append_3_30 : decode cJ1_append_3 30 = .ok (.invokestatic 248, 3) := dk_184 0 248 (dk_at dksJ1_append_3_1 6 rfl rfl)
theorem dJ1_append_3_33 : decode cJ1_append_3 33 = .ok (.pop, 1) := dk_87 (dk_at dksJ1_append_3_1 9 rfl rfl)
theorem dJ1_append_3_34 : decode cJ1_append_3 34 = .ok (.goto 14, 3) := dk_167 0 14 (dk_at dksJ1_append_3_1 10 rfl rfl)
theorem dJ1_append_3_37 : decode cJ1_append_3 37 = .ok (.iload_n 1, 1) := dk_27 (dk_at dksJ1_append_3_1 13 rfl rfl)
theorem dJ1_append_3_38 : decode cJ1_append_3 38 = .ok (.iload_n 2, 1) := dk_28 (dk_at dksJ1_append_3_1 14 rfl rfl)
theorem dJ1_append_3_39 : decode cJ1_append_3 39 = .ok (.iload_n 3, 1) := dk_29 (dk_at dksJ1_append_3_1 15 rfl rfl)
theorem dJ1_append_3_40 : decode cJ1_append_3 40 = .ok (.aload_n 0, 1) := dk_42 (dk_at dksJ1_append_3_1 16 rfl rfl)
theorem dJ1_append_3_41 : decode cJ1_append_3 41 = .ok (.getfield 15, 3) := dk_180 0 15 (dk_at dksJ1_append_3_1 17 rfl rfl)
theorem dJ1_append_3_44 : decode cJ1_append_3 44 = .ok (.invokestatic 251, 3) := dk_184 0 251 (dk_at dksJ1_append_3_1 20 rfl rfl)
theorem dJ1_append_3_47 : decode cJ1_append_3 47 = .ok (.pop, 1) := dk_87 (dk_at dksJ1_append_3_1 23 rfl rfl)
theorem dJ1_append_3_48 : decode cJ1_append_3 48 = .ok (.aload_n 0, 1) := dk_42 (dk_at dksJ1_append_3_2 0 rfl rfl)
theorem dJ1_append_3_49 : decode cJ1_append_3 49 = .ok (.iload_n 3, 1) := dk_29 (dk_at dksJ1_append_3_2 1 rfl rfl)
theorem dJ1_append_3_50 : decode cJ1_append_3 50 = .ok (.putfield 79, 3) := dk_181 0 79 (dk_at dksJ1_append_3_2 2 rfl rfl)
theorem dJ1_append_3_53 : decode cJ1_append_3 53 = .ok (.aload_n 0, 1) := dk_42 (dk_at dksJ1_append_3_2 5 rfl rfl)
theorem dJ1_append_3_54 : decode cJ1_append_3 54 = .ok (.areturn, 1) := dk_176 (dk_at dksJ1_append_3_2 6 rfl rfl)
theorem q94 : (Jvm.Cond.initialized "java/lang/AbstractStringBuilder") ∈ lw_all := lw_g (lw_at lw_m1 7 rfl) rfl
theorem q383 : (Jvm.Cond.instanceMethod ({ cls := "java/lang/AbstractStringBuilder", name := "<init>", desc := "(I)V" } : Jvm.MethodName)) ∈ lw_all := lw_g (lw_at lw_m2 56 rfl) rfl
theorem q384 : (Jvm.Cond.code ({ cls := "java/lang/AbstractStringBuilder", name := "<init>", desc := "(I)V" } : Jvm.MethodName) prog_20_method_2_code (2 : Nat) (Option.none : Option Jvm.ClassFile.FieldType)) ∈ lw_all := lw_g (lw_at lw_m2 57 rfl) rfl
theorem q385 : (Jvm.Cond.methodLink "java/lang/AbstractStringBuilder" (3 : Nat) ({ cls := "java/lang/Object", name := "<init>", desc := "()V" } : Jvm.MethodName)) ∈ lw_all := lw_g (lw_at lw_m2 58 rfl) rfl
theorem q386 : (Jvm.Cond.fieldLink "java/lang/AbstractStringBuilder" (18 : Nat) "java/lang/String" "COMPACT_STRINGS" "Z") ∈ lw_all := lw_g (lw_at lw_m2 59 rfl) rfl
theorem q388 : (Jvm.Cond.methodLink "java/lang/AbstractStringBuilder" (26 : Nat) ({ cls := "java/lang/StringUTF16", name := "newBytesFor", desc := "(I)[B" } : Jvm.MethodName)) ∈ lw_all := lw_g (lw_at lw_m2 61 rfl) rfl
theorem q476 : (Jvm.Cond.fieldLink "java/lang/AbstractStringBuilder" (15 : Nat) "java/lang/AbstractStringBuilder" "value" "[B") ∈ lw_all := lw_g (lw_at lw_m2 149 rfl) rfl
theorem q477 : (Jvm.Cond.fieldLink "java/lang/AbstractStringBuilder" (22 : Nat) "java/lang/AbstractStringBuilder" "coder" "B") ∈ lw_all := lw_g (lw_at lw_m2 150 rfl) rfl
theorem q479 : (Jvm.Cond.fieldLink "java/lang/AbstractStringBuilder" (79 : Nat) "java/lang/AbstractStringBuilder" "count" "I") ∈ lw_all := lw_g (lw_at lw_m2 152 rfl) rfl
theorem q481 : (Jvm.Cond.soleField "java/lang/AbstractStringBuilder" "value") ∈ lw_all := lw_g (lw_at lw_m2 154 rfl) rfl
theorem q483 : (Jvm.Cond.soleField "java/lang/AbstractStringBuilder" "coder") ∈ lw_all := lw_g (lw_at lw_m2 156 rfl) rfl
theorem q485 : (Jvm.Cond.soleField "java/lang/AbstractStringBuilder" "maybeLatin1") ∈ lw_all := lw_g (lw_at lw_m2 158 rfl) rfl
theorem q487 : (Jvm.Cond.soleField "java/lang/AbstractStringBuilder" "count") ∈ lw_all := lw_g (lw_at lw_m2 160 rfl) rfl
theorem q494 : (Jvm.Cond.instanceMethod ({ cls := "java/lang/AbstractStringBuilder", name := "append", desc := "(C)Ljava/lang/AbstractStringBuilder;" } : Jvm.MethodName)) ∈ lw_all := lw_g (lw_at lw_m2 167 rfl) rfl
theorem q495 : (Jvm.Cond.code ({ cls := "java/lang/AbstractStringBuilder", name := "append", desc := "(C)Ljava/lang/AbstractStringBuilder;" } : Jvm.MethodName) prog_20_method_31_code (2 : Nat) (Option.some (Jvm.ClassFile.FieldType.object "java/lang/AbstractStringBuilder"))) ∈ lw_all := lw_g (lw_at lw_m2 168 rfl) rfl
theorem q496 : (Jvm.Cond.methodLink "java/lang/AbstractStringBuilder" (100 : Nat) ({ cls := "java/lang/AbstractStringBuilder", name := "ensureCapacityInternal", desc := "(I)V" } : Jvm.MethodName)) ∈ lw_all := lw_g (lw_at lw_m2 169 rfl) rfl
theorem q497 : (Jvm.Cond.privateMethod ({ cls := "java/lang/AbstractStringBuilder", name := "ensureCapacityInternal", desc := "(I)V" } : Jvm.MethodName)) ∈ lw_tbl := lw_at lw_m2 170 rfl
theorem q498 : (Jvm.Cond.instanceMethod ({ cls := "java/lang/AbstractStringBuilder", name := "ensureCapacityInternal", desc := "(I)V" } : Jvm.MethodName)) ∈ lw_all := lw_g (lw_at lw_m2 171 rfl) rfl
theorem q499 : (Jvm.Cond.code ({ cls := "java/lang/AbstractStringBuilder", name := "ensureCapacityInternal", desc := "(I)V" } : Jvm.MethodName) prog_20_method_9_code (3 : Nat) (Option.none : Option Jvm.ClassFile.FieldType)) ∈ lw_all := lw_g (lw_at lw_m2 172 rfl) rfl
theorem q500 : (Jvm.Cond.methodLink "java/lang/AbstractStringBuilder" (104 : Nat) ({ cls := "java/lang/AbstractStringBuilder", name := "newCapacity", desc := "(I)I" } : Jvm.MethodName)) ∈ lw_all := lw_g (lw_at lw_m2 173 rfl) rfl
theorem q501 : (Jvm.Cond.privateMethod ({ cls := "java/lang/AbstractStringBuilder", name := "newCapacity", desc := "(I)I" } : Jvm.MethodName)) ∈ lw_tbl := lw_at lw_m2 174 rfl
theorem q502 : (Jvm.Cond.instanceMethod ({ cls := "java/lang/AbstractStringBuilder", name := "newCapacity", desc := "(I)I" } : Jvm.MethodName)) ∈ lw_all := lw_g (lw_at lw_m2 175 rfl) rfl
theorem q503 : (Jvm.Cond.code ({ cls := "java/lang/AbstractStringBuilder", name := "newCapacity", desc := "(I)I" } : Jvm.MethodName) prog_20_method_10_code (6 : Nat) (Option.some Jvm.ClassFile.FieldType.int)) ∈ lw_all := lw_g (lw_at lw_m2 176 rfl) rfl
theorem q504 : (Jvm.Cond.methodLink "java/lang/AbstractStringBuilder" (114 : Nat) ({ cls := "jdk/internal/util/ArraysSupport", name := "newLength", desc := "(III)I" } : Jvm.MethodName)) ∈ lw_all := lw_g (lw_at lw_m2 177 rfl) rfl
theorem q514 : (Jvm.Cond.constant "java/lang/AbstractStringBuilder" (39 : Nat) (2147483647 : Int32)) ∈ lw_all := lw_g (lw_at lw_m2 187 rfl) rfl
theorem q515 : (Jvm.Cond.methodLink "java/lang/AbstractStringBuilder" (108 : Nat) ({ cls := "java/util/Arrays", name := "copyOf", desc := "([BI)[B" } : Jvm.MethodName)) ∈ lw_all := lw_g (lw_at lw_m2 188 rfl) rfl
theorem q527 : (Jvm.Cond.methodLink "java/lang/AbstractStringBuilder" (83 : Nat) ({ cls := "java/lang/AbstractStringBuilder", name := "isLatin1", desc := "()Z" } : Jvm.MethodName)) ∈ lw_all := lw_g (lw_at lw_m2 200 rfl) rfl
theorem q528 : (Jvm.Cond.instanceMethod ({ cls := "java/lang/AbstractStringBuilder", name := "isLatin1", desc := "()Z" } : Jvm.MethodName)) ∈ lw_all := lw_g (lw_at lw_m2 201 rfl) rfl
theorem q529 : (Jvm.Cond.sameMethod "java/lang/AbstractStringBuilder" "java/lang/AbstractStringBuilder" "isLatin1" "()Z") ∈ lw_all := lw_g (lw_at lw_m2 202 rfl) rfl
theorem q531 : (Jvm.Cond.code ({ cls := "java/lang/AbstractStringBuilder", name := "isLatin1", desc := "()Z" } : Jvm.MethodName) prog_20_method_68_code (1 : Nat) (Option.some Jvm.ClassFile.FieldType.boolean)) ∈ lw_all := lw_g (lw_at lw_m2 204 rfl) rfl
theorem q532 : (Jvm.Cond.methodLink "java/lang/AbstractStringBuilder" (191 : Nat) ({ cls := "java/lang/StringLatin1", name := "canEncode", desc := "(C)Z" } : Jvm.MethodName)) ∈ lw_all := lw_g (lw_at lw_m2 205 rfl) rfl
theorem q535 : (Jvm.Cond.methodLink "java/lang/AbstractStringBuilder" (195 : Nat) ({ cls := "java/lang/AbstractStringBuilder", name := "inflate", desc := "()V" } : Jvm.MethodName)) ∈ lw_all := lw_g (lw_at lw_m2 208 rfl) rfl
theorem q536 : (Jvm.Cond.privateMethod ({ cls := "java/lang/AbstractStringBuilder", name := "inflate", desc := "()V" } : Jvm.MethodName)) ∈ lw_tbl := lw_at lw_m2 209 rfl
theorem q537 : (Jvm.Cond.instanceMethod ({ cls := "java/lang/AbstractStringBuilder", name := "inflate", desc := "()V" } : Jvm.MethodName)) ∈ lw_all := lw_g (lw_at lw_m2 210 rfl) rfl
theorem q538 : (Jvm.Cond.code ({ cls := "java/lang/AbstractStringBuilder", name := "inflate", desc := "()V" } : Jvm.MethodName) prog_20_method_11_code (2 : Nat) (Option.none : Option Jvm.ClassFile.FieldType)) ∈ lw_all := lw_g (lw_at lw_m2 211 rfl) rfl
theorem q539 : (Jvm.Cond.methodLink "java/lang/AbstractStringBuilder" (125 : Nat) ({ cls := "java/lang/StringLatin1", name := "inflate", desc := "([BI[BII)V" } : Jvm.MethodName)) ∈ lw_all := lw_g (lw_at lw_m2 212 rfl) rfl
theorem q568 : (Jvm.Cond.methodLink "java/lang/AbstractStringBuilder" (197 : Nat) ({ cls := "java/lang/StringUTF16", name := "putCharSB", desc := "([BII)V" } : Jvm.MethodName)) ∈ lw_all := lw_g (lw_at lw_m3 1 rfl) rfl
theorem q594 : (Jvm.Cond.instanceMethod ({ cls := "java/lang/AbstractStringBuilder", name := "getValue", desc := "()[B" } : Jvm.MethodName)) ∈ lw_all := lw_g (lw_at lw_m3 27 rfl) rfl
theorem q595 : (Jvm.Cond.sameMethod "java/lang/AbstractStringBuilder" "java/lang/AbstractStringBuilder" "getValue" "()[B") ∈ lw_all := lw_g (lw_at lw_m3 28 rfl) rfl
theorem q597 : (Jvm.Cond.code ({ cls := "java/lang/AbstractStringBuilder", name := "getValue", desc := "()[B" } : Jvm.MethodName) prog_20_method_64_code (1 : Nat) (Option.some (Jvm.ClassFile.FieldType.array Jvm.ClassFile.FieldType.byte))) ∈ lw_all := lw_g (lw_at lw_m3 30 rfl) rfl
theorem q599 : (Jvm.Cond.instanceMethod ({ cls := "java/lang/AbstractStringBuilder", name := "length", desc := "()I" } : Jvm.MethodName)) ∈ lw_all := lw_g (lw_at lw_m3 32 rfl) rfl
theorem q600 : (Jvm.Cond.sameMethod "java/lang/AbstractStringBuilder" "java/lang/AbstractStringBuilder" "length" "()I") ∈ lw_all := lw_g (lw_at lw_m3 33 rfl) rfl
theorem q605 : (Jvm.Cond.code ({ cls := "java/lang/AbstractStringBuilder", name := "length", desc := "()I" } : Jvm.MethodName) prog_20_method_6_code (1 : Nat) (Option.some Jvm.ClassFile.FieldType.int)) ∈ lw_all := lw_g (lw_at lw_m3 38 rfl) rfl
theorem q1045 : (Jvm.Cond.instanceMethod ({ cls := "java/lang/AbstractStringBuilder", name := "append", desc := "(Ljava/lang/String;)Ljava/lang/AbstractStringBuilder;" } : Jvm.MethodName)) ∈ lw_all := lw_g (lw_at lw_m4 238 rfl) rfl
theorem q1046 : (Jvm.Cond.code ({ cls := "java/lang/AbstractStringBuilder", name := "append", desc := "(Ljava/lang/String;)Ljava/lang/AbstractStringBuilder;" } : Jvm.MethodName) prog_20_method_22_code (3 : Nat) (Option.some (Jvm.ClassFile.FieldType.object "java/lang/AbstractStringBuilder"))) ∈ lw_all := lw_g (lw_at lw_m4 239 rfl) rfl
theorem q1047 : (Jvm.Cond.methodLink "java/lang/AbstractStringBuilder" (204 : Nat) ({ cls := "java/lang/AbstractStringBuilder", name := "appendNull", desc := "()Ljava/lang/AbstractStringBuilder;" } : Jvm.MethodName)) ∈ lw_all := lw_g (lw_at lw_m5 0 rfl) rfl
theorem q1048 : (Jvm.Cond.privateMethod ({ cls := "java/lang/AbstractStringBuilder", name := "appendNull", desc := "()Ljava/lang/AbstractStringBuilder;" } : Jvm.MethodName)) ∈ lw_tbl := lw_at lw_m5 1 rfl
theorem q1049 : (Jvm.Cond.instanceMethod ({ cls := "java/lang/AbstractStringBuilder", name := "appendNull", desc := "()Ljava/lang/AbstractStringBuilder;" } : Jvm.MethodName)) ∈ lw_all := lw_g (lw_at lw_m5 2 rfl) rfl
theorem q1050 : (Jvm.Cond.code ({ cls := "java/lang/AbstractStringBuilder", name := "appendNull", desc := "()Ljava/lang/AbstractStringBuilder;" } : Jvm.MethodName) prog_20_method_26_code (3 : Nat) (Option.some (Jvm.ClassFile.FieldType.object "java/lang/AbstractStringBuilder"))) ∈ lw_all := lw_g (lw_at lw_m5 3 rfl) rfl
theorem q1051 : (Jvm.Cond.methodLink "java/lang/AbstractStringBuilder" (226 : Nat) ({ cls := "java/lang/StringUTF16", name := "putCharsAt", desc := "([BICCCC)I" } : Jvm.MethodName)) ∈ lw_all := lw_g (lw_at lw_m5 4 rfl) rfl
theorem q1063 : (Jvm.Cond.methodLink "java/lang/AbstractStringBuilder" (32 : Nat) ({ cls := "java/lang/String", name := "length", desc := "()I" } : Jvm.MethodName)) ∈ lw_all := lw_g (lw_at lw_m5 16 rfl) rfl
theorem q1064 : (Jvm.Cond.methodLink "java/lang/AbstractStringBuilder" (208 : Nat) ({ cls := "java/lang/AbstractStringBuilder", name := "putStringAt", desc := "(ILjava/lang/String;)V" } : Jvm.MethodName)) ∈ lw_all := lw_g (lw_at lw_m5 17 rfl) rfl
theorem q1065 : (Jvm.Cond.privateMethod ({ cls := "java/lang/AbstractStringBuilder", name := "putStringAt", desc := "(ILjava/lang/String;)V" } : Jvm.MethodName)) ∈ lw_tbl := lw_at lw_m5 18 rfl
theorem q1066 : (Jvm.Cond.instanceMethod ({ cls := "java/lang/AbstractStringBuilder", name := "putStringAt", desc := "(ILjava/lang/String;)V" } : Jvm.MethodName)) ∈ lw_all := lw_g (lw_at lw_m5 19 rfl) rfl
theorem q1067 : (Jvm.Cond.code ({ cls := "java/lang/AbstractStringBuilder", name := "putStringAt", desc := "(ILjava/lang/String;)V" } : Jvm.MethodName) prog_20_method_73_code (3 : Nat) (Option.none : Option Jvm.ClassFile.FieldType)) ∈ lw_all := lw_g (lw_at lw_m5 20 rfl) rfl
theorem q1068 : (Jvm.Cond.methodLink "java/lang/AbstractStringBuilder" (397 : Nat) ({ cls := "java/lang/AbstractStringBuilder", name := "inflateIfNeededFor", desc := "(Ljava/lang/String;)V" } : Jvm.MethodName)) ∈ lw_all := lw_g (lw_at lw_m5 21 rfl) rfl
theorem q1069 : (Jvm.Cond.privateMethod ({ cls := "java/lang/AbstractStringBuilder", name := "inflateIfNeededFor", desc := "(Ljava/lang/String;)V" } : Jvm.MethodName)) ∈ lw_tbl := lw_at lw_m5 22 rfl
theorem q1070 : (Jvm.Cond.instanceMethod ({ cls := "java/lang/AbstractStringBuilder", name := "inflateIfNeededFor", desc := "(Ljava/lang/String;)V" } : Jvm.MethodName)) ∈ lw_all := lw_g (lw_at lw_m5 23 rfl) rfl
theorem q1071 : (Jvm.Cond.code ({ cls := "java/lang/AbstractStringBuilder", name := "inflateIfNeededFor", desc := "(Ljava/lang/String;)V" } : Jvm.MethodName) prog_20_method_71_code (2 : Nat) (Option.none : Option Jvm.ClassFile.FieldType)) ∈ lw_all := lw_g (lw_at lw_m5 24 rfl) rfl
theorem q1072 : (Jvm.Cond.methodLink "java/lang/AbstractStringBuilder" (40 : Nat) ({ cls := "java/lang/String", name := "coder", desc := "()B" } : Jvm.MethodName)) ∈ lw_all := lw_g (lw_at lw_m5 25 rfl) rfl
theorem q1073 : (Jvm.Cond.methodLink "java/lang/AbstractStringBuilder" (399 : Nat) ({ cls := "java/lang/String", name := "getBytes", desc := "([BIB)V" } : Jvm.MethodName)) ∈ lw_all := lw_g (lw_at lw_m5 26 rfl) rfl
theorem q1084 : (Jvm.Cond.instanceMethod ({ cls := "java/lang/AbstractStringBuilder", name := "append", desc := "(I)Ljava/lang/AbstractStringBuilder;" } : Jvm.MethodName)) ∈ lw_all := lw_g (lw_at lw_m5 37 rfl) rfl
theorem q1085 : (Jvm.Cond.code ({ cls := "java/lang/AbstractStringBuilder", name := "append", desc := "(I)Ljava/lang/AbstractStringBuilder;" } : Jvm.MethodName) prog_20_method_32_code (4 : Nat) (Option.some (Jvm.ClassFile.FieldType.object "java/lang/AbstractStringBuilder"))) ∈ lw_all := lw_g (lw_at lw_m5 38 rfl) rfl
theorem q1086 : (Jvm.Cond.methodLink "java/lang/AbstractStringBuilder" (245 : Nat) ({ cls := "java/lang/Integer", name := "stringSize", desc := "(I)I" } : Jvm.MethodName)) ∈ lw_all := lw_g (lw_at lw_m5 39 rfl) rfl
theorem q1089 : (Jvm.Cond.methodLink "java/lang/AbstractStringBuilder" (248 : Nat) ({ cls := "java/lang/Integer", name := "getChars", desc := "(II[B)I" } : Jvm.MethodName)) ∈ lw_all := lw_g (lw_at lw_m5 42 rfl) rfl
theorem q1096 : (Jvm.Cond.methodLink "java/lang/AbstractStringBuilder" (251 : Nat) ({ cls := "java/lang/StringUTF16", name := "getChars", desc := "(III[B)I" } : Jvm.MethodName)) ∈ lw_all := lw_g (lw_at lw_m5 49 rfl) rfl
theorem q2241 : (Jvm.Cond.sameMethod "java/lang/AbstractStringBuilder" "java/lang/AbstractStringBuilder" "append" "(C)Ljava/lang/AbstractStringBuilder;") ∈ lw_all := lw_g (lw_at lw_m9 234 rfl) rfl
theorem q2242 : (Jvm.Cond.sameMethod "java/lang/AbstractStringBuilder" "java/lang/AbstractStringBuilder" "ensureCapacityInternal" "(I)V") ∈ lw_all := lw_g (lw_at lw_m9 235 rfl) rfl
theorem q2243 : (Jvm.Cond.sameMethod "java/lang/AbstractStringBuilder" "java/lang/AbstractStringBuilder" "newCapacity" "(I)I") ∈ lw_all := lw_g (lw_at lw_m9 236 rfl) rfl
theorem q2244 : (Jvm.Cond.sameMethod "java/lang/AbstractStringBuilder" "java/lang/AbstractStringBuilder" "inflate" "()V") ∈ lw_all := lw_g (lw_at lw_m9 237 rfl) rfl
theorem q2246 : (Jvm.Cond.sameMethod "java/lang/AbstractStringBuilder" "java/lang/AbstractStringBuilder" "append" "(Ljava/lang/String;)Ljava/lang/AbstractStringBuilder;") ∈ lw_all := lw_g (lw_at lw_m9 239 rfl) rfl
theorem q2247 : (Jvm.Cond.sameMethod "java/lang/AbstractStringBuilder" "java/lang/AbstractStringBuilder" "appendNull" "()Ljava/lang/AbstractStringBuilder;") ∈ lw_all := lw_g (lw_at lw_m10 0 rfl) rfl
theorem q2248 : (Jvm.Cond.sameMethod "java/lang/AbstractStringBuilder" "java/lang/AbstractStringBuilder" "putStringAt" "(ILjava/lang/String;)V") ∈ lw_all := lw_g (lw_at lw_m10 1 rfl) rfl
theorem q2249 : (Jvm.Cond.sameMethod "java/lang/AbstractStringBuilder" "java/lang/AbstractStringBuilder" "inflateIfNeededFor" "(Ljava/lang/String;)V") ∈ lw_all := lw_g (lw_at lw_m10 2 rfl) rfl
theorem q2250 : (Jvm.Cond.sameMethod "java/lang/AbstractStringBuilder" "java/lang/AbstractStringBuilder" "append" "(I)Ljava/lang/AbstractStringBuilder;") ∈ lw_all := lw_g (lw_at lw_m10 3 rfl) rfl

/-! java/lang/StringBuilder -/
set_option maxRecDepth 100000
def RJ2 : String := "java/lang/StringBuilder"
def TJ2 : u_T := fun k => match k with
  | 0 => ("java/lang/AbstractStringBuilder", "value", "[B", false)
  | 1 => ("java/lang/AbstractStringBuilder", "coder", "B", false)
  | 2 => ("java/lang/AbstractStringBuilder", "maybeLatin1", "Z", false)
  | _ => ("java/lang/AbstractStringBuilder", "count", "I", false)
def tyJ2 : Nat → FieldType := fun k => match k with
  | 0 => .array .byte
  | 1 => .byte
  | 2 => .boolean
  | _ => .int
abbrev wsJ20 : List Cond := u_ws RJ2 TJ2 4
theorem nmJ2 : ∀ a, a < 4 → ∀ b, b < 4 → a ≠ b → (TJ2 a).2.1 ≠ (TJ2 b).2.1 := by decide +kernel
theorem tyJ2_ok : ∀ k, k < 4 → parseFieldDescriptor (TJ2 k).2.2.1 = some (tyJ2 k) := by decide +kernel
abbrev cJ2_init : ByteArray := prog_38_method_1_code
def yJ2_init : MethodName := ⟨RJ2, "<init>", "()V"⟩
def dkwJ2_init_0 : List UInt8 := [42, 16, 16, 183, 0, 1, 177]
abbrev dktJ2_init_0 : List UInt8 := dkwJ2_init_0 ++ []
theorem dksJ2_init_0 : cJ2_init.data.toList.drop 0 = dktJ2_init_0 := by decide +kernel
theorem dJ2_init_0 : decode cJ2_init 0 = .ok (.aload_n 0, 1) := dk_42 (dk_at dksJ2_init_0 0 rfl rfl)
theorem dJ2_init_1 : decode cJ2_init 1 = .ok (.bipush 16, 2) := dk_16 16 (dk_at dksJ2_init_0 1 rfl rfl)
theorem dJ2_init_3 : decode cJ2_init 3 = .ok (.invokespecial 1, 3) := dk_183 0 1 (dk_at dksJ2_init_0 3 rfl rfl)
theorem dJ2_init_6 : decode cJ2_init 6 = .ok (.return_, 1) := dk_177 (dk_at dksJ2_init_0 6 rfl rfl)
abbrev cJ2_append : ByteArray := prog_38_method_14_code
def yJ2_append : MethodName := ⟨RJ2, "append", "(C)Ljava/lang/StringBuilder;"⟩
def dkwJ2_append_0 : List UInt8 := [42, 27, 183, 0, 50, 87, 42, 176]
abbrev dktJ2_append_0 : List UInt8 := dkwJ2_append_0 ++ []
theorem dksJ2_append_0 : cJ2_append.data.toList.drop 0 = dktJ2_append_0 := by decide +kernel
theorem dJ2_append_0 : decode cJ2_append 0 = .ok (.aload_n 0, 1) := dk_42 (dk_at dksJ2_append_0 0 rfl rfl)
theorem dJ2_append_1 : decode cJ2_append 1 = .ok (.iload_n 1, 1) := dk_27 (dk_at dksJ2_append_0 1 rfl rfl)
theorem dJ2_append_2 : decode cJ2_append 2 = .ok (.invokespecial 50, 3) := dk_183 0 50 (dk_at dksJ2_append_0 2 rfl rfl)
theorem dJ2_append_5 : decode cJ2_append 5 = .ok (.pop, 1) := dk_87 (dk_at dksJ2_append_0 5 rfl rfl)
theorem dJ2_append_6 : decode cJ2_append 6 = .ok (.aload_n 0, 1) := dk_42 (dk_at dksJ2_append_0 6 rfl rfl)
theorem dJ2_append_7 : decode cJ2_append 7 = .ok (.areturn, 1) := dk_176 (dk_at dksJ2_append_0 7 rfl rfl)
abbrev cJ2_toString : ByteArray := prog_38_method_42_code
def yJ2_toString : MethodName := ⟨RJ2, "toString", "()Ljava/lang/String;"⟩
def dkwJ2_toString_0 : List UInt8 := [187, 0, 18, 89, 42, 183, 0, 137, 176]
abbrev dktJ2_toString_0 : List UInt8 := dkwJ2_toString_0 ++ []
theorem dksJ2_toString_0 : cJ2_toString.data.toList.drop 0 = dktJ2_toString_0 := by decide +kernel
theorem dJ2_toString_0 : decode cJ2_toString 0 = .ok (.new 18, 3) := dk_187 0 18 (dk_at dksJ2_toString_0 0 rfl rfl)
theorem dJ2_toString_3 : decode cJ2_toString 3 = .ok (.dup, 1) := dk_89 (dk_at dksJ2_toString_0 3 rfl rfl)
theorem dJ2_toString_4 : decode cJ2_toString 4 = .ok (.aload_n 0, 1) := dk_42 (dk_at dksJ2_toString_0 4 rfl rfl)
theorem dJ2_toString_5 : decode cJ2_toString 5 = .ok (.invokespecial 137, 3) := dk_183 0 137 (dk_at dksJ2_toString_0 5 rfl rfl)
theorem dJ2_toString_8 : decode cJ2_toString 8 = .ok (.areturn, 1) := dk_176 (dk_at dksJ2_toString_0 8 rfl rfl)
abbrev cJ2_length : ByteArray := prog_38_method_93_code
def yJ2_length : MethodName := ⟨RJ2, "length", "()I"⟩
theorem dJ2_length_0 : decode cJ2_length 0 = .ok (.aload_n 0, 1) := by decide +kernel
theorem dJ2_length_1 : decode cJ2_length 1 = .ok (.invokespecial 343, 3) := by decide +kernel
theorem dJ2_length_4 : decode cJ2_length 4 = .ok (.ireturn, 1) := by decide +kernel
abbrev cJ2_append_2 : ByteArray := prog_38_method_7_code
def yJ2_append_2 : MethodName := ⟨RJ2, "append", "(Ljava/lang/String;)Ljava/lang/StringBuilder;"⟩
def dkwJ2_append_2_0 : List UInt8 := [42, 43, 183, 0, 29, 87, 42, 176]
abbrev dktJ2_append_2_0 : List UInt8 := dkwJ2_append_2_0 ++ []
theorem dksJ2_append_2_0 : cJ2_append_2.data.toList.drop 0 = dktJ2_append_2_0 := by decide +kernel
theorem dJ2_append_2_0 : decode cJ2_append_2 0 = .ok (.aload_n 0, 1) := dk_42 (dk_at dksJ2_append_2_0 0 rfl rfl)
theorem dJ2_append_2_1 : decode cJ2_append_2 1 = .ok (.aload_n 1, 1) := dk_43 (dk_at dksJ2_append_2_0 1 rfl rfl)
theorem dJ2_append_2_2 : decode cJ2_append_2 2 = .ok (.invokespecial 29, 3) := dk_183 0 29 (dk_at dksJ2_append_2_0 2 rfl rfl)
theorem dJ2_append_2_5 : decode cJ2_append_2 5 = .ok (.pop, 1) := dk_87 (dk_at dksJ2_append_2_0 5 rfl rfl)
theorem dJ2_append_2_6 : decode cJ2_append_2 6 = .ok (.aload_n 0, 1) := dk_42 (dk_at dksJ2_append_2_0 6 rfl rfl)
theorem dJ2_append_2_7 : decode cJ2_append_2 7 = .ok (.areturn, 1) := dk_176 (dk_at dksJ2_append_2_0 7 rfl rfl)
abbrev cJ2_append_3 : ByteArray := prog_38_method_15_code
def yJ2_append_3 : MethodName := ⟨RJ2, "append", "(I)Ljava/lang/StringBuilder;"⟩
def dkwJ2_append_3_0 : List UInt8 := [42, 27, 183, 0, 53, 87, 42, 176]
abbrev dktJ2_append_3_0 : List UInt8 := dkwJ2_append_3_0 ++ []
theorem dksJ2_append_3_0 : cJ2_append_3.data.toList.drop 0 = dktJ2_append_3_0 := by decide +kernel
theorem dJ2_append_3_0 : decode cJ2_append_3 0 = .ok (.aload_n 0, 1) := dk_42 (dk_at dksJ2_append_3_0 0 rfl rfl)
theorem dJ2_append_3_1 : decode cJ2_append_3 1 = .ok (.iload_n 1, 1) := dk_27 (dk_at dksJ2_append_3_0 1 rfl rfl)
theorem dJ2_append_3_2 : decode cJ2_append_3 2 = .ok (.invokespecial 53, 3) := dk_183 0 53 (dk_at dksJ2_append_3_0 2 rfl rfl)
theorem dJ2_append_3_5 : decode cJ2_append_3 5 = .ok (.pop, 1) := dk_87 (dk_at dksJ2_append_3_0 5 rfl rfl)
theorem dJ2_append_3_6 : decode cJ2_append_3 6 = .ok (.aload_n 0, 1) := dk_42 (dk_at dksJ2_append_3_0 6 rfl rfl)
theorem dJ2_append_3_7 : decode cJ2_append_3 7 = .ok (.areturn, 1) := dk_176 (dk_at dksJ2_append_3_0 7 rfl rfl)
theorem q95 : (Jvm.Cond.initialized "java/lang/StringBuilder") ∈ lw_all := lw_g (lw_at lw_m1 8 rfl) rfl
theorem q378 : (Jvm.Cond.instantiable "java/lang/StringBuilder" (4 : Nat)) ∈ lw_all := lw_g (lw_at lw_m2 51 rfl) rfl
theorem q380 : (Jvm.Cond.instanceMethod ({ cls := "java/lang/StringBuilder", name := "<init>", desc := "()V" } : Jvm.MethodName)) ∈ lw_all := lw_g (lw_at lw_m2 53 rfl) rfl
theorem q381 : (Jvm.Cond.code ({ cls := "java/lang/StringBuilder", name := "<init>", desc := "()V" } : Jvm.MethodName) prog_38_method_1_code (1 : Nat) (Option.none : Option Jvm.ClassFile.FieldType)) ∈ lw_all := lw_g (lw_at lw_m2 54 rfl) rfl
theorem q382 : (Jvm.Cond.methodLink "java/lang/StringBuilder" (1 : Nat) ({ cls := "java/lang/AbstractStringBuilder", name := "<init>", desc := "(I)V" } : Jvm.MethodName)) ∈ lw_all := lw_g (lw_at lw_m2 55 rfl) rfl
theorem q480 : (Jvm.Cond.lays "java/lang/StringBuilder" "java/lang/AbstractStringBuilder" "value" "[B") ∈ lw_all := lw_g (lw_at lw_m2 153 rfl) rfl
theorem q482 : (Jvm.Cond.lays "java/lang/StringBuilder" "java/lang/AbstractStringBuilder" "coder" "B") ∈ lw_all := lw_g (lw_at lw_m2 155 rfl) rfl
theorem q484 : (Jvm.Cond.lays "java/lang/StringBuilder" "java/lang/AbstractStringBuilder" "maybeLatin1" "Z") ∈ lw_all := lw_g (lw_at lw_m2 157 rfl) rfl
theorem q486 : (Jvm.Cond.lays "java/lang/StringBuilder" "java/lang/AbstractStringBuilder" "count" "I") ∈ lw_all := lw_g (lw_at lw_m2 159 rfl) rfl
theorem q488 : (Jvm.Cond.superclass "java/lang/StringBuilder" "java/lang/AbstractStringBuilder") ∈ lw_all := lw_g (lw_at lw_m2 161 rfl) rfl
theorem q490 : (Jvm.Cond.instanceMethod ({ cls := "java/lang/StringBuilder", name := "append", desc := "(C)Ljava/lang/StringBuilder;" } : Jvm.MethodName)) ∈ lw_all := lw_g (lw_at lw_m2 163 rfl) rfl
theorem q491 : (Jvm.Cond.selects "java/lang/StringBuilder" ({ cls := "java/lang/StringBuilder", name := "append", desc := "(C)Ljava/lang/StringBuilder;" } : Jvm.MethodName) ({ cls := "java/lang/StringBuilder", name := "append", desc := "(C)Ljava/lang/StringBuilder;" } : Jvm.MethodName)) ∈ lw_all := lw_g (lw_at lw_m2 164 rfl) rfl
theorem q492 : (Jvm.Cond.code ({ cls := "java/lang/StringBuilder", name := "append", desc := "(C)Ljava/lang/StringBuilder;" } : Jvm.MethodName) prog_38_method_14_code (2 : Nat) (Option.some (Jvm.ClassFile.FieldType.object "java/lang/StringBuilder"))) ∈ lw_all := lw_g (lw_at lw_m2 165 rfl) rfl
theorem q493 : (Jvm.Cond.methodLink "java/lang/StringBuilder" (50 : Nat) ({ cls := "java/lang/AbstractStringBuilder", name := "append", desc := "(C)Ljava/lang/AbstractStringBuilder;" } : Jvm.MethodName)) ∈ lw_all := lw_g (lw_at lw_m2 166 rfl) rfl
theorem q530 : (Jvm.Cond.selects "java/lang/StringBuilder" ({ cls := "java/lang/AbstractStringBuilder", name := "isLatin1", desc := "()Z" } : Jvm.MethodName) ({ cls := "java/lang/AbstractStringBuilder", name := "isLatin1", desc := "()Z" } : Jvm.MethodName)) ∈ lw_all := lw_g (lw_at lw_m2 203 rfl) rfl
theorem q581 : (Jvm.Cond.instanceMethod ({ cls := "java/lang/StringBuilder", name := "toString", desc := "()Ljava/lang/String;" } : Jvm.MethodName)) ∈ lw_all := lw_g (lw_at lw_m3 14 rfl) rfl
theorem q582 : (Jvm.Cond.selects "java/lang/StringBuilder" ({ cls := "java/lang/StringBuilder", name := "toString", desc := "()Ljava/lang/String;" } : Jvm.MethodName) ({ cls := "java/lang/StringBuilder", name := "toString", desc := "()Ljava/lang/String;" } : Jvm.MethodName)) ∈ lw_all := lw_g (lw_at lw_m3 15 rfl) rfl
theorem q583 : (Jvm.Cond.code ({ cls := "java/lang/StringBuilder", name := "toString", desc := "()Ljava/lang/String;" } : Jvm.MethodName) prog_38_method_42_code (1 : Nat) (Option.some (Jvm.ClassFile.FieldType.object "java/lang/String"))) ∈ lw_all := lw_g (lw_at lw_m3 16 rfl) rfl
theorem q584 : (Jvm.Cond.classLink "java/lang/StringBuilder" (18 : Nat) "java/lang/String") ∈ lw_all := lw_g (lw_at lw_m3 17 rfl) rfl
theorem q586 : (Jvm.Cond.methodLink "java/lang/StringBuilder" (137 : Nat) ({ cls := "java/lang/String", name := "<init>", desc := "(Ljava/lang/StringBuilder;)V" } : Jvm.MethodName)) ∈ lw_all := lw_g (lw_at lw_m3 19 rfl) rfl
theorem q596 : (Jvm.Cond.selects "java/lang/StringBuilder" ({ cls := "java/lang/AbstractStringBuilder", name := "getValue", desc := "()[B" } : Jvm.MethodName) ({ cls := "java/lang/AbstractStringBuilder", name := "getValue", desc := "()[B" } : Jvm.MethodName)) ∈ lw_all := lw_g (lw_at lw_m3 29 rfl) rfl
theorem q601 : (Jvm.Cond.selects "java/lang/StringBuilder" ({ cls := "java/lang/AbstractStringBuilder", name := "length", desc := "()I" } : Jvm.MethodName) ({ cls := "java/lang/StringBuilder", name := "length", desc := "()I" } : Jvm.MethodName)) ∈ lw_all := lw_g (lw_at lw_m3 34 rfl) rfl
theorem q602 : (Jvm.Cond.instanceMethod ({ cls := "java/lang/StringBuilder", name := "length", desc := "()I" } : Jvm.MethodName)) ∈ lw_all := lw_g (lw_at lw_m3 35 rfl) rfl
theorem q603 : (Jvm.Cond.code ({ cls := "java/lang/StringBuilder", name := "length", desc := "()I" } : Jvm.MethodName) prog_38_method_93_code (1 : Nat) (Option.some Jvm.ClassFile.FieldType.int)) ∈ lw_all := lw_g (lw_at lw_m3 36 rfl) rfl
theorem q604 : (Jvm.Cond.methodLink "java/lang/StringBuilder" (343 : Nat) ({ cls := "java/lang/AbstractStringBuilder", name := "length", desc := "()I" } : Jvm.MethodName)) ∈ lw_all := lw_g (lw_at lw_m3 37 rfl) rfl
theorem q736 : (Jvm.Cond.selects "java/lang/StringBuilder" ({ cls := "java/lang/Object", name := "equals", desc := "(Ljava/lang/Object;)Z" } : Jvm.MethodName) ({ cls := "java/lang/Object", name := "equals", desc := "(Ljava/lang/Object;)Z" } : Jvm.MethodName)) ∈ lw_all := lw_g (lw_at lw_m3 169 rfl) rfl
theorem q987 : (Jvm.Cond.selects "java/lang/StringBuilder" ({ cls := "java/lang/Object", name := "getClass", desc := "()Ljava/lang/Class;" } : Jvm.MethodName) ({ cls := "java/lang/Object", name := "getClass", desc := "()Ljava/lang/Class;" } : Jvm.MethodName)) ∈ lw_all := lw_g (lw_at lw_m4 180 rfl) rfl
theorem q1041 : (Jvm.Cond.instanceMethod ({ cls := "java/lang/StringBuilder", name := "append", desc := "(Ljava/lang/String;)Ljava/lang/StringBuilder;" } : Jvm.MethodName)) ∈ lw_all := lw_g (lw_at lw_m4 234 rfl) rfl
theorem q1042 : (Jvm.Cond.selects "java/lang/StringBuilder" ({ cls := "java/lang/StringBuilder", name := "append", desc := "(Ljava/lang/String;)Ljava/lang/StringBuilder;" } : Jvm.MethodName) ({ cls := "java/lang/StringBuilder", name := "append", desc := "(Ljava/lang/String;)Ljava/lang/StringBuilder;" } : Jvm.MethodName)) ∈ lw_all := lw_g (lw_at lw_m4 235 rfl) rfl
theorem q1043 : (Jvm.Cond.code ({ cls := "java/lang/StringBuilder", name := "append", desc := "(Ljava/lang/String;)Ljava/lang/StringBuilder;" } : Jvm.MethodName) prog_38_method_7_code (2 : Nat) (Option.some (Jvm.ClassFile.FieldType.object "java/lang/StringBuilder"))) ∈ lw_all := lw_g (lw_at lw_m4 236 rfl) rfl
theorem q1044 : (Jvm.Cond.methodLink "java/lang/StringBuilder" (29 : Nat) ({ cls := "java/lang/AbstractStringBuilder", name := "append", desc := "(Ljava/lang/String;)Ljava/lang/AbstractStringBuilder;" } : Jvm.MethodName)) ∈ lw_all := lw_g (lw_at lw_m4 237 rfl) rfl
theorem q1080 : (Jvm.Cond.instanceMethod ({ cls := "java/lang/StringBuilder", name := "append", desc := "(I)Ljava/lang/StringBuilder;" } : Jvm.MethodName)) ∈ lw_all := lw_g (lw_at lw_m5 33 rfl) rfl
theorem q1081 : (Jvm.Cond.selects "java/lang/StringBuilder" ({ cls := "java/lang/StringBuilder", name := "append", desc := "(I)Ljava/lang/StringBuilder;" } : Jvm.MethodName) ({ cls := "java/lang/StringBuilder", name := "append", desc := "(I)Ljava/lang/StringBuilder;" } : Jvm.MethodName)) ∈ lw_all := lw_g (lw_at lw_m5 34 rfl) rfl
theorem q1082 : (Jvm.Cond.code ({ cls := "java/lang/StringBuilder", name := "append", desc := "(I)Ljava/lang/StringBuilder;" } : Jvm.MethodName) prog_38_method_15_code (2 : Nat) (Option.some (Jvm.ClassFile.FieldType.object "java/lang/StringBuilder"))) ∈ lw_all := lw_g (lw_at lw_m5 35 rfl) rfl
theorem q1083 : (Jvm.Cond.methodLink "java/lang/StringBuilder" (53 : Nat) ({ cls := "java/lang/AbstractStringBuilder", name := "append", desc := "(I)Ljava/lang/AbstractStringBuilder;" } : Jvm.MethodName)) ∈ lw_all := lw_g (lw_at lw_m5 36 rfl) rfl
theorem q2276 : (Jvm.Cond.castable "java/lang/StringBuilder" "java/lang/Object") ∈ lw_tbl := lw_at lw_m10 29 rfl
theorem in_J2 : ∀ w ∈ wsJ20, w ∈ lw_all := lw_in wsJ20 [480, 482, 484, 486] (by decide +kernel) (by decide +kernel)

/-! java/lang/String -/
set_option maxRecDepth 100000
def RJ3 : String := "java/lang/String"
def TJ3 : u_T := fun k => match k with
  | 0 => ("java/lang/String", "value", "[B", true)
  | 1 => ("java/lang/String", "coder", "B", true)
  | 2 => ("java/lang/String", "hash", "I", false)
  | _ => ("java/lang/String", "hashIsZero", "Z", false)
def tyJ3 : Nat → FieldType := fun k => match k with
  | 0 => .array .byte
  | 1 => .byte
  | 2 => .int
  | _ => .boolean
abbrev wsJ30 : List Cond := u_ws RJ3 TJ3 4
theorem nmJ3 : ∀ a, a < 4 → ∀ b, b < 4 → a ≠ b → (TJ3 a).2.1 ≠ (TJ3 b).2.1 := by decide +kernel
theorem tyJ3_ok : ∀ k, k < 4 → parseFieldDescriptor (TJ3 k).2.2.1 = some (tyJ3 k) := by decide +kernel
abbrev cJ3_checkBoundsOffCount : ByteArray := prog_37_method_157_code
def yJ3_checkBoundsOffCount : MethodName := ⟨RJ3, "checkBoundsOffCount", "(III)I"⟩
def dkwJ3_checkBoundsOffCount_0 : List UInt8 := [26, 27, 28, 178, 4, 29, 184, 4, 41, 172]
abbrev dktJ3_checkBoundsOffCount_0 : List UInt8 := dkwJ3_checkBoundsOffCount_0 ++ []
theorem dksJ3_checkBoundsOffCount_0 : cJ3_checkBoundsOffCount.data.toList.drop 0 = dktJ3_checkBoundsOffCount_0 := by decide +kernel
theorem dJ3_checkBoundsOffCount_0 : decode cJ3_checkBoundsOffCount 0 = .ok (.iload_n 0, 1) := dk_26 (dk_at dksJ3_checkBoundsOffCount_0 0 rfl rfl)
theorem dJ3_checkBoundsOffCount_1 : decode cJ3_checkBoundsOffCount 1 = .ok (.iload_n 1, 1) := dk_27 (dk_at dksJ3_checkBoundsOffCount_0 1 rfl rfl)
theorem dJ3_checkBoundsOffCount_2 : decode cJ3_checkBoundsOffCount 2 = .ok (.iload_n 2, 1) := dk_28 (dk_at dksJ3_checkBoundsOffCount_0 2 rfl rfl)
theorem dJ3_checkBoundsOffCount_3 : decode cJ3_checkBoundsOffCount 3 = .ok (.getstatic 1053, 3) := dk_178 4 29 (dk_at dksJ3_checkBoundsOffCount_0 3 rfl rfl)
theorem dJ3_checkBoundsOffCount_6 : decode cJ3_checkBoundsOffCount 6 = .ok (.invokestatic 1065, 3) := dk_184 4 41 (dk_at dksJ3_checkBoundsOffCount_0 6 rfl rfl)
theorem dJ3_checkBoundsOffCount_9 : decode cJ3_checkBoundsOffCount 9 = .ok (.ireturn, 1) := dk_172 (dk_at dksJ3_checkBoundsOffCount_0 9 rfl rfl)
abbrev cJ3_checkIndex : ByteArray := prog_37_method_155_code
def yJ3_checkIndex : MethodName := ⟨RJ3, "checkIndex", "(II)V"⟩
def dkwJ3_checkIndex_0 : List UInt8 := [26, 27, 178, 4, 29, 184, 4, 35, 87, 177]
abbrev dktJ3_checkIndex_0 : List UInt8 := dkwJ3_checkIndex_0 ++ []
theorem dksJ3_checkIndex_0 : cJ3_checkIndex.data.toList.drop 0 = dktJ3_checkIndex_0 := by decide +kernel
theorem dJ3_checkIndex_0 : decode cJ3_checkIndex 0 = .ok (.iload_n 0, 1) := dk_26 (dk_at dksJ3_checkIndex_0 0 rfl rfl)
theorem dJ3_checkIndex_1 : decode cJ3_checkIndex 1 = .ok (.iload_n 1, 1) := dk_27 (dk_at dksJ3_checkIndex_0 1 rfl rfl)
theorem dJ3_checkIndex_2 : decode cJ3_checkIndex 2 = .ok (.getstatic 1053, 3) := dk_178 4 29 (dk_at dksJ3_checkIndex_0 2 rfl rfl)
theorem dJ3_checkIndex_5 : decode cJ3_checkIndex 5 = .ok (.invokestatic 1059, 3) := dk_184 4 35 (dk_at dksJ3_checkIndex_0 5 rfl rfl)
theorem dJ3_checkIndex_8 : decode cJ3_checkIndex 8 = .ok (.pop, 1) := dk_87 (dk_at dksJ3_checkIndex_0 8 rfl rfl)
theorem dJ3_checkIndex_9 : decode cJ3_checkIndex 9 = .ok (.return_, 1) := dk_177 (dk_at dksJ3_checkIndex_0 9 rfl rfl)
abbrev cJ3_init : ByteArray := prog_37_method_53_code
def yJ3_init : MethodName := ⟨RJ3, "<init>", "(Ljava/lang/StringBuilder;)V"⟩
def dkwJ3_init_0 : List UInt8 := [42, 43, 1, 183, 1, 233, 177]
abbrev dktJ3_init_0 : List UInt8 := dkwJ3_init_0 ++ []
theorem dksJ3_init_0 : cJ3_init.data.toList.drop 0 = dktJ3_init_0 := by decide +kernel
theorem dJ3_init_0 : decode cJ3_init 0 = .ok (.aload_n 0, 1) := dk_42 (dk_at dksJ3_init_0 0 rfl rfl)
theorem dJ3_init_1 : decode cJ3_init 1 = .ok (.aload_n 1, 1) := dk_43 (dk_at dksJ3_init_0 1 rfl rfl)
theorem dJ3_init_2 : decode cJ3_init 2 = .ok (.aconst_null, 1) := dk_1 (dk_at dksJ3_init_0 2 rfl rfl)
theorem dJ3_init_3 : decode cJ3_init 3 = .ok (.invokespecial 489, 3) := dk_183 1 233 (dk_at dksJ3_init_0 3 rfl rfl)
theorem dJ3_init_6 : decode cJ3_init 6 = .ok (.return_, 1) := dk_177 (dk_at dksJ3_init_0 6 rfl rfl)
abbrev cJ3_init_2 : ByteArray := prog_37_method_150_code
def yJ3_init_2 : MethodName := ⟨RJ3, "<init>", "(Ljava/lang/AbstractStringBuilder;Ljava/lang/Void;)V"⟩
def dkwJ3_init_2_4 : List UInt8 := [181, 0, 9, 177]
abbrev dktJ3_init_2_4 : List UInt8 := dkwJ3_init_2_4 ++ []
def dkwJ3_init_2_3 : List UInt8 := [184, 0, 47, 181, 0, 15, 177, 42, 4, 181, 0, 15, 42, 45, 3, 21, 4, 4, 120, 184, 0, 54]
abbrev dktJ3_init_2_3 : List UInt8 := dkwJ3_init_2_3 ++ dktJ3_init_2_4
def dkwJ3_init_2_2 : List UInt8 := [180, 4, 24, 153, 0, 28, 42, 45, 3, 21, 4, 184, 4, 27, 181, 0, 9, 42, 42, 180, 0, 9, 21, 4]
abbrev dktJ3_init_2_2 : List UInt8 := dkwJ3_init_2_2 ++ dktJ3_init_2_3
def dkwJ3_init_2_1 : List UInt8 := [181, 0, 15, 42, 45, 3, 21, 4, 184, 0, 54, 181, 0, 9, 167, 0, 59, 178, 0, 38, 153, 0, 35, 43]
abbrev dktJ3_init_2_1 : List UInt8 := dkwJ3_init_2_1 ++ dktJ3_init_2_2
def dkwJ3_init_2_0 : List UInt8 := [42, 183, 0, 1, 43, 182, 2, 40, 78, 43, 182, 2, 37, 54, 4, 43, 182, 4, 23, 153, 0, 22, 42, 3]
abbrev dktJ3_init_2_0 : List UInt8 := dkwJ3_init_2_0 ++ dktJ3_init_2_1
theorem dksJ3_init_2_0 : cJ3_init_2.data.toList.drop 0 = dktJ3_init_2_0 := by decide +kernel
theorem dksJ3_init_2_1 : cJ3_init_2.data.toList.drop 24 = dktJ3_init_2_1 := dk_seg dksJ3_init_2_0 24 rfl rfl
theorem dksJ3_init_2_2 : cJ3_init_2.data.toList.drop 48 = dktJ3_init_2_2 := dk_seg dksJ3_init_2_1 24 rfl rfl
theorem dksJ3_init_2_3 : cJ3_init_2.data.toList.drop 72 = dktJ3_init_2_3 := dk_seg dksJ3_init_2_2 24 rfl rfl
theorem dksJ3_init_2_4 : cJ3_init_2.data.toList.drop 94 = dktJ3_init_2_4 := dk_seg dksJ3_init_2_3 22 rfl rfl
theorem dJ3_init_2_0 : decode cJ3_init_2 0 = .ok (.aload_n 0, 1) := dk_42 (dk_at dksJ3_init_2_0 0 rfl rfl)
theorem dJ3_init_2_1 : decode cJ3_init_2 1 = .ok (.invokespecial 1, 3) := dk_183 0 1 (dk_at dksJ3_init_2_0 1 rfl rfl)
theorem dJ3_init_2_4 : decode cJ3_init_2 4 = .ok (.aload_n 1, 1) := dk_43 (dk_at dksJ3_init_2_0 4 rfl rfl)
theorem dJ3_init_2_5 : decode cJ3_init_2 5 = .ok (.invokevirtual 552, 3) := dk_182 2 40 (dk_at dksJ3_init_2_0 5 rfl rfl)
theorem dJ3_init_2_8 : decode cJ3_init_2 8 = .ok (.astore_n 3, 1) := dk_78 (dk_at dksJ3_init_2_0 8 rfl rfl)
theorem dJ3_init_2_9 : decode cJ3_init_2 9 = .ok (.aload_n 1, 1) := dk_43 (dk_at dksJ3_init_2_0 9 rfl rfl)
theorem dJ3_init_2_10 : decode cJ3_init_2 10 = .ok (.invokevirtual 549, 3) := dk_182 2 37 (dk_at dksJ3_init_2_0 10 rfl rfl)
theorem dJ3_init_2_13 : decode cJ3_init_2 13 = .ok (.istore 4, 2) := dk_54 4 (dk_at dksJ3_init_2_0 13 rfl rfl)
theorem dJ3_init_2_15 : decode cJ3_init_2 15 = .ok (.aload_n 1, 1) := dk_43 (dk_at dksJ3_init_2_0 15 rfl rfl)
theorem dJ3_init_2_16 : decode cJ3_init_2 16 = .ok (.invokevirtual 1047, 3) := dk_182 4 23 (dk_at dksJ3_init_2_0 16 rfl rfl)
theorem dJ3_init_2_19 : decode cJ3_init_2 19 = .ok (.ifCond .eq 22, 3) := dk_153 0 22 (dk_at dksJ3_init_2_0 19 rfl rfl)
theorem dJ3_init_2_22 : decode cJ3_init_2 22 = .ok (.aload_n 0, 1) := dk_42 (dk_at dksJ3_init_2_0 22 rfl rfl)
theorem dJ3_init_2_23 : decode cJ3_init_2 23 = .ok (.iconst 0, 1) := dk_3 (dk_at dksJ3_init_2_0 23 rfl rfl)
theorem dJ3_init_2_24 : decode cJ3_init_2 24 = .ok (.putfield 15, 3) := dk_181 0 15 (dk_at dksJ3_init_2_1 0 rfl rfl)
theorem dJ3_init_2_27 : decode cJ3_init_2 27 = .ok (.aload_n 0, 1) := dk_42 (dk_at dksJ3_init_2_1 3 rfl rfl)
theorem dJ3_init_2_28 : decode cJ3_init_2 28 = .ok (.aload_n 3, 1) := dk_45 (dk_at dksJ3_init_2_1 4 rfl rfl)
theorem dJ3_init_2_29 : decode cJ3_init_2 29 = .ok (.iconst 0, 1) := dk_3 (dk_at dksJ3_init_2_1 5 rfl rfl)
theorem dJ3_init_2_30 : decode cJ3_init_2 30 = .ok (.iload 4, 2) := dk_21 4 (dk_at dksJ3_init_2_1 6 rfl rfl)
theorem dJ3_init_2_32 : decode cJ3_init_2 32 = .ok (.invokestatic 54, 3) := dk_184 0 54 (dk_at dksJ3_init_2_1 8 rfl rfl)
theorem dJ3_init_2_35 : decode cJ3_init_2 35 = .ok (.putfield 9, 3) := dk_181 0 9 (dk_at dksJ3_init_2_1 11 rfl rfl)
theorem dJ3_init_2_38 : decode cJ3_init_2 38 = .ok (.goto 59, 3) := dk_167 0 59 (dk_at dksJ3_init_2_1 14 rfl rfl)
theorem dJ3_init_2_41 : decode cJ3_init_2 41 = .ok (.getstatic 38, 3) := dk_178 0 38 (dk_at dksJ3_init_2_1 17 rfl rfl)
theorem dJ3_init_2_44 : decode cJ3_init_2 44 = .ok (.ifCond .eq 35, 3) := dk_153 0 35 (dk_at dksJ3_init_2_1 20 rfl rfl)
theorem dJ3_init_2_47 : decode cJ3_init_2 47 = .ok (.aload_n 1, 1) := dk_43 (dk_at dksJ3_init_2_1 23 rfl rfl)
theorem dJ3_init_2_48 : decode cJ3_init_2 48 = .ok (.getfield 1048, 3) := dk_180 4 24 (dk_at dksJ3_init_2_2 0 rfl rfl)
theorem dJ3_init_2_51 : decode cJ3_init_2 51 = .ok (.ifCond .eq 28, 3) := dk_153 0 28 (dk_at dksJ3_init_2_2 3 rfl rfl)
theorem dJ3_init_2_54 : decode cJ3_init_2 54 = .ok (.aload_n 0, 1) := dk_42 (dk_at dksJ3_init_2_2 6 rfl rfl)
theorem dJ3_init_2_55 : decode cJ3_init_2 55 = .ok (.aload_n 3, 1) := dk_45 (dk_at dksJ3_init_2_2 7 rfl rfl)
theorem dJ3_init_2_56 : decode cJ3_init_2 56 = .ok (.iconst 0, 1) := dk_3 (dk_at dksJ3_init_2_2 8 rfl rfl)
theorem dJ3_init_2_57 : decode cJ3_init_2 57 = .ok (.iload 4, 2) := dk_21 4 (dk_at dksJ3_init_2_2 9 rfl rfl)
theorem dJ3_init_2_59 : decode cJ3_init_2 59 = .ok (.invokestatic 1051, 3) := dk_184 4 27 (dk_at dksJ3_init_2_2 11 rfl rfl)
theorem dJ3_init_2_62 : decode cJ3_init_2 62 = .ok (.putfield 9, 3) := dk_181 0 9 (dk_at dksJ3_init_2_2 14 rfl rfl)
theorem dJ3_init_2_65 : decode cJ3_init_2 65 = .ok (.aload_n 0, 1) := dk_42 (dk_at dksJ3_init_2_2 17 rfl rfl)
theorem dJ3_init_2_66 : decode cJ3_init_2 66 = .ok (.aload_n 0, 1) := dk_42 (dk_at dksJ3_init_2_2 18 rfl rfl)
theorem dJ3_init_2_67 : decode cJ3_init_2 67 = .ok (.getfield 9, 3) := dk_180 0 9 (dk_at dksJ3_init_2_2 19 rfl rfl)
theorem dJ3_init_2_70 : decode cJ3_init_2 70 = .ok (.iload 4, 2) := dk_21 4 (dk_at dksJ3_init_2_2 22 rfl rfl)
theorem dJ3_init_2_72 : decode cJ3_init_2 72 = .ok (.invokestatic 47, 3) := dk_184 0 47 (dk_at dksJ3_init_2_3 0 rfl rfl)
theorem dJ3_init_2_75 : decode cJ3_init_2 75 = .ok (.putfield 15, 3) := dk_181 0 15 (dk_at dksJ3_init_2_3 3 rfl rfl)
theorem dJ3_init_2_78 : decode cJ3_init_2 78 = .ok (.return_, 1) := dk_177 (dk_at dksJ3_init_2_3 6 rfl rfl)
theorem dJ3_init_2_79 : decode cJ3_init_2 79 = .ok (.aload_n 0, 1) := dk_42 (dk_at dksJ3_init_2_3 7 rfl rfl)
theorem dJ3_init_2_80 : decode cJ3_init_2 80 = .ok (.iconst 1, 1) := dk_4 (dk_at dksJ3_init_2_3 8 rfl rfl)
theorem dJ3_init_2_81 : decode cJ3_init_2 81 = .ok (.putfield 15, 3) := dk_181 0 15 (dk_at dksJ3_init_2_3 9 rfl rfl)
theorem dJ3_init_2_84 : decode cJ3_init_2 84 = .ok (.aload_n 0, 1) := dk_42 (dk_at dksJ3_init_2_3 12 rfl rfl)
theorem dJ3_init_2_85 : decode cJ3_init_2 85 = .ok (.aload_n 3, 1) := dk_45 (dk_at dksJ3_init_2_3 13 rfl rfl)
theorem dJ3_init_2_86 : decode cJ3_init_2 86 = .ok (.iconst 0, 1) := dk_3 (dk_at dksJ3_init_2_3 14 rfl rfl)
theorem dJ3_init_2_87 : decode cJ3_init_2 87 = .ok (.iload 4, 2) := dk_21 4 (dk_at dksJ3_init_2_3 15 rfl rfl)
theorem dJ3_init_2_89 : decode cJ3_init_2 89 = .ok (.iconst 1, 1) := dk_4 (dk_at dksJ3_init_2_3 17 rfl rfl)
theorem dJ3_init_2_90 : decode cJ3_init_2 90 = .ok (.ishl, 1) := dk_120 (dk_at dksJ3_init_2_3 18 rfl rfl)
theorem dJ3_init_2_91 : decode cJ3_init_2 91 = .ok (.invokestatic 54, 3) := dk_184 0 54 (dk_at dksJ3_init_2_3 19 rfl rfl)
theorem dJ3_init_2_94 : decode cJ3_init_2 94 = .ok (.putfield 9, 3) := dk_181 0 9 (dk_at dksJ3_init_2_4 0 rfl rfl)
theorem dJ3_init_2_97 : decode cJ3_init_2 97 = .ok (.return_, 1) := dk_177 (dk_at dksJ3_init_2_4 3 rfl rfl)
abbrev cJ3_equals : ByteArray := prog_37_method_66_code
def yJ3_equals : MethodName := ⟨RJ3, "equals", "(Ljava/lang/Object;)Z"⟩
def dkwJ3_equals_2 : List UInt8 := [184, 2, 29, 153, 0, 7, 4, 167, 0, 4, 3, 172]
abbrev dktJ3_equals_2 : List UInt8 := dkwJ3_equals_2 ++ []
def dkwJ3_equals_1 : List UInt8 := [153, 0, 14, 42, 180, 0, 15, 44, 180, 0, 15, 160, 0, 21, 42, 180, 0, 9, 44, 180, 0, 9]
abbrev dktJ3_equals_1 : List UInt8 := dkwJ3_equals_1 ++ dktJ3_equals_2
def dkwJ3_equals_0 : List UInt8 := [42, 43, 166, 0, 5, 4, 172, 43, 193, 0, 10, 153, 0, 43, 43, 192, 0, 10, 77, 178, 0, 38]
abbrev dktJ3_equals_0 : List UInt8 := dkwJ3_equals_0 ++ dktJ3_equals_1
theorem dksJ3_equals_0 : cJ3_equals.data.toList.drop 0 = dktJ3_equals_0 := by decide +kernel
theorem dksJ3_equals_1 : cJ3_equals.data.toList.drop 22 = dktJ3_equals_1 := dk_seg dksJ3_equals_0 22 rfl rfl
theorem dksJ3_equals_2 : cJ3_equals.data.toList.drop 44 = dktJ3_equals_2 := dk_seg dksJ3_equals_1 22 rfl rfl
theorem dJ3_equals_0 : decode cJ3_equals 0 = .ok (.aload_n 0, 1) := dk_42 (dk_at dksJ3_equals_0 0 rfl rfl)
theorem dJ3_equals_1 : decode cJ3_equals 1 = .ok (.aload_n 1, 1) := dk_43 (dk_at dksJ3_equals_0 1 rfl rfl)
theorem dJ3_equals_2 : decode cJ3_equals 2 = .ok (.if_acmp .ne 5, 3) := dk_166 0 5 (dk_at dksJ3_equals_0 2 rfl rfl)
theorem dJ3_equals_5 : decode cJ3_equals 5 = .ok (.iconst 1, 1) := dk_4 (dk_at dksJ3_equals_0 5 rfl rfl)
theorem dJ3_equals_6 : decode cJ3_equals 6 = .ok (.ireturn, 1) := dk_172 (dk_at dksJ3_equals_0 6 rfl rfl)
theorem dJ3_equals_7 : decode cJ3_equals 7 = .ok (.aload_n 1, 1) := dk_43 (dk_at dksJ3_equals_0 7 rfl rfl)
theorem dJ3_equals_8 : decode cJ3_equals 8 = .ok (.instanceof 10, 3) := dk_193 0 10 (dk_at dksJ3_equals_0 8 rfl rfl)
theorem dJ3_equals_11 : decode cJ3_equals 11 = .ok (.ifCond .eq 43, 3) := dk_153 0 43 (dk_at dksJ3_equals_0 11 rfl rfl)
theorem dJ3_equals_14 : decode cJ3_equals 14 = .ok (.aload_n 1, 1) := dk_43 (dk_at dksJ3_equals_0 14 rfl rfl)
theorem dJ3_equals_15 : decode cJ3_equals 15 = .ok (.checkcast 10, 3) := dk_192 0 10 (dk_at dksJ3_equals_0 15 rfl rfl)
theorem dJ3_equals_18 : decode cJ3_equals 18 = .ok (.astore_n 2, 1) := dk_77 (dk_at dksJ3_equals_0 18 rfl rfl)
theorem dJ3_equals_19 : decode cJ3_equals 19 = .ok (.getstatic 38, 3) := dk_178 0 38 (dk_at dksJ3_equals_0 19 rfl rfl)
theorem dJ3_equals_22 : decode cJ3_equals 22 = .ok (.ifCond .eq 14, 3) := dk_153 0 14 (dk_at dksJ3_equals_1 0 rfl rfl)
theorem dJ3_equals_25 : decode cJ3_equals 25 = .ok (.aload_n 0, 1) := dk_42 (dk_at dksJ3_equals_1 3 rfl rfl)
theorem dJ3_equals_26 : decode cJ3_equals 26 = .ok (.getfield 15, 3) := dk_180 0 15 (dk_at dksJ3_equals_1 4 rfl rfl)
theorem dJ3_equals_29 : decode cJ3_equals 29 = .ok (.aload_n 2, 1) := dk_44 (dk_at dksJ3_equals_1 7 rfl rfl)
theorem dJ3_equals_30 : decode cJ3_equals 30 = .ok (.getfield 15, 3) := dk_180 0 15 (dk_at dksJ3_equals_1 8 rfl rfl)
theorem dJ3_equals_33 : decode cJ3_equals 33 = .ok (.if_icmp .ne 21, 3) := dk_160 0 21 (dk_at dksJ3_equals_1 11 rfl rfl)
theorem dJ3_equals_36 : decode cJ3_equals 36 = .ok (.aload_n 0, 1) := dk_42 (dk_at dksJ3_equals_1 14 rfl rfl)
theorem dJ3_equals_37 : decode cJ3_equals 37 = .ok (.getfield 9, 3) := dk_180 0 9 (dk_at dksJ3_equals_1 15 rfl rfl)
theorem dJ3_equals_40 : decode cJ3_equals 40 = .ok (.aload_n 2, 1) := dk_44 (dk_at dksJ3_equals_1 18 rfl rfl)
theorem dJ3_equals_41 : decode cJ3_equals 41 = .ok (.getfield 9, 3) := dk_180 0 9 (dk_at dksJ3_equals_1 19 rfl rfl)
theorem dJ3_equals_44 : decode cJ3_equals 44 = .ok (.invokestatic 541, 3) := dk_184 2 29 (dk_at dksJ3_equals_2 0 rfl rfl)
theorem dJ3_equals_47 : decode cJ3_equals 47 = .ok (.ifCond .eq 7, 3) := dk_153 0 7 (dk_at dksJ3_equals_2 3 rfl rfl)
theorem dJ3_equals_50 : decode cJ3_equals 50 = .ok (.iconst 1, 1) := dk_4 (dk_at dksJ3_equals_2 6 rfl rfl)
theorem dJ3_equals_51 : decode cJ3_equals 51 = .ok (.goto 4, 3) := dk_167 0 4 (dk_at dksJ3_equals_2 7 rfl rfl)
theorem dJ3_equals_54 : decode cJ3_equals 54 = .ok (.iconst 0, 1) := dk_3 (dk_at dksJ3_equals_2 10 rfl rfl)
theorem dJ3_equals_55 : decode cJ3_equals 55 = .ok (.ireturn, 1) := dk_172 (dk_at dksJ3_equals_2 11 rfl rfl)
abbrev cJ3_length : ByteArray := prog_37_method_54_code
def yJ3_length : MethodName := ⟨RJ3, "length", "()I"⟩
def dkwJ3_length_0 : List UInt8 := [42, 180, 0, 9, 190, 42, 182, 1, 79, 122, 172]
abbrev dktJ3_length_0 : List UInt8 := dkwJ3_length_0 ++ []
theorem dksJ3_length_0 : cJ3_length.data.toList.drop 0 = dktJ3_length_0 := by decide +kernel
theorem dJ3_length_0 : decode cJ3_length 0 = .ok (.aload_n 0, 1) := dk_42 (dk_at dksJ3_length_0 0 rfl rfl)
theorem dJ3_length_1 : decode cJ3_length 1 = .ok (.getfield 9, 3) := dk_180 0 9 (dk_at dksJ3_length_0 1 rfl rfl)
theorem dJ3_length_4 : decode cJ3_length 4 = .ok (.arraylength, 1) := dk_190 (dk_at dksJ3_length_0 4 rfl rfl)
theorem dJ3_length_5 : decode cJ3_length 5 = .ok (.aload_n 0, 1) := dk_42 (dk_at dksJ3_length_0 5 rfl rfl)
theorem dJ3_length_6 : decode cJ3_length 6 = .ok (.invokevirtual 335, 3) := dk_182 1 79 (dk_at dksJ3_length_0 6 rfl rfl)
theorem dJ3_length_9 : decode cJ3_length 9 = .ok (.ishr, 1) := dk_122 (dk_at dksJ3_length_0 9 rfl rfl)
theorem dJ3_length_10 : decode cJ3_length 10 = .ok (.ireturn, 1) := dk_172 (dk_at dksJ3_length_0 10 rfl rfl)
abbrev cJ3_coder : ByteArray := prog_37_method_152_code
def yJ3_coder : MethodName := ⟨RJ3, "coder", "()B"⟩
def dkwJ3_coder_0 : List UInt8 := [178, 0, 38, 153, 0, 10, 42, 180, 0, 15, 167, 0, 4, 4, 172]
abbrev dktJ3_coder_0 : List UInt8 := dkwJ3_coder_0 ++ []
theorem dksJ3_coder_0 : cJ3_coder.data.toList.drop 0 = dktJ3_coder_0 := by decide +kernel
theorem dJ3_coder_0 : decode cJ3_coder 0 = .ok (.getstatic 38, 3) := dk_178 0 38 (dk_at dksJ3_coder_0 0 rfl rfl)
theorem dJ3_coder_3 : decode cJ3_coder 3 = .ok (.ifCond .eq 10, 3) := dk_153 0 10 (dk_at dksJ3_coder_0 3 rfl rfl)
theorem dJ3_coder_6 : decode cJ3_coder 6 = .ok (.aload_n 0, 1) := dk_42 (dk_at dksJ3_coder_0 6 rfl rfl)
theorem dJ3_coder_7 : decode cJ3_coder 7 = .ok (.getfield 15, 3) := dk_180 0 15 (dk_at dksJ3_coder_0 7 rfl rfl)
theorem dJ3_coder_10 : decode cJ3_coder 10 = .ok (.goto 4, 3) := dk_167 0 4 (dk_at dksJ3_coder_0 10 rfl rfl)
theorem dJ3_coder_13 : decode cJ3_coder 13 = .ok (.iconst 1, 1) := dk_4 (dk_at dksJ3_coder_0 13 rfl rfl)
theorem dJ3_coder_14 : decode cJ3_coder 14 = .ok (.ireturn, 1) := dk_172 (dk_at dksJ3_coder_0 14 rfl rfl)
abbrev cJ3_charAt : ByteArray := prog_37_method_56_code
def yJ3_charAt : MethodName := ⟨RJ3, "charAt", "(I)C"⟩
def dkwJ3_charAt_1 : List UInt8 := [172]
abbrev dktJ3_charAt_1 : List UInt8 := dkwJ3_charAt_1 ++ []
def dkwJ3_charAt_0 : List UInt8 := [42, 182, 1, 236, 153, 0, 12, 42, 180, 0, 9, 27, 184, 1, 239, 172, 42, 180, 0, 9, 27, 184, 1, 242]
abbrev dktJ3_charAt_0 : List UInt8 := dkwJ3_charAt_0 ++ dktJ3_charAt_1
theorem dksJ3_charAt_0 : cJ3_charAt.data.toList.drop 0 = dktJ3_charAt_0 := by decide +kernel
theorem dksJ3_charAt_1 : cJ3_charAt.data.toList.drop 24 = dktJ3_charAt_1 := dk_seg dksJ3_charAt_0 24 rfl rfl
theorem dJ3_charAt_0 : decode cJ3_charAt 0 = .ok (.aload_n 0, 1) := dk_42 (dk_at dksJ3_charAt_0 0 rfl rfl)
theorem dJ3_charAt_1 : decode cJ3_charAt 1 = .ok (.invokevirtual 492, 3) := dk_182 1 236 (dk_at dksJ3_charAt_0 1 rfl rfl)
theorem dJ3_charAt_4 : decode cJ3_charAt 4 = .ok (.ifCond .eq 12, 3) := dk_153 0 12 (dk_at dksJ3_charAt_0 4 rfl rfl)
theorem dJ3_charAt_7 : decode cJ3_charAt 7 = .ok (.aload_n 0, 1) := dk_42 (dk_at dksJ3_charAt_0 7 rfl rfl)
theorem dJ3_charAt_8 : decode cJ3_charAt 8 = .ok (.getfield 9, 3) := dk_180 0 9 (dk_at dksJ3_charAt_0 8 rfl rfl)
theorem dJ3_charAt_11 : decode cJ3_charAt 11 = .ok (.iload_n 1, 1) := dk_27 (dk_at dksJ3_charAt_0 11 rfl rfl)
theorem dJ3_charAt_12 : decode cJ3_charAt 12 = .ok (.invokestatic 495, 3) := dk_184 1 239 (dk_at dksJ3_charAt_0 12 rfl rfl)
theorem dJ3_charAt_15 : decode cJ3_charAt 15 = .ok (.ireturn, 1) := dk_172 (dk_at dksJ3_charAt_0 15 rfl rfl)
theorem dJ3_charAt_16 : decode cJ3_charAt 16 = .ok (.aload_n 0, 1) := dk_42 (dk_at dksJ3_charAt_0 16 rfl rfl)
theorem dJ3_charAt_17 : decode cJ3_charAt 17 = .ok (.getfield 9, 3) := dk_180 0 9 (dk_at dksJ3_charAt_0 17 rfl rfl)
theorem dJ3_charAt_20 : decode cJ3_charAt 20 = .ok (.iload_n 1, 1) := dk_27 (dk_at dksJ3_charAt_0 20 rfl rfl)
theorem dJ3_charAt_21 : decode cJ3_charAt 21 = .ok (.invokestatic 498, 3) := dk_184 1 242 (dk_at dksJ3_charAt_0 21 rfl rfl)
theorem dJ3_charAt_24 : decode cJ3_charAt 24 = .ok (.ireturn, 1) := dk_172 (dk_at dksJ3_charAt_1 0 rfl rfl)
abbrev cJ3_isLatin1 : ByteArray := prog_37_method_154_code
def yJ3_isLatin1 : MethodName := ⟨RJ3, "isLatin1", "()Z"⟩
def dkwJ3_isLatin1_0 : List UInt8 := [178, 0, 38, 153, 0, 14, 42, 180, 0, 15, 154, 0, 7, 4, 167, 0, 4, 3, 172]
abbrev dktJ3_isLatin1_0 : List UInt8 := dkwJ3_isLatin1_0 ++ []
theorem dksJ3_isLatin1_0 : cJ3_isLatin1.data.toList.drop 0 = dktJ3_isLatin1_0 := by decide +kernel
theorem dJ3_isLatin1_0 : decode cJ3_isLatin1 0 = .ok (.getstatic 38, 3) := dk_178 0 38 (dk_at dksJ3_isLatin1_0 0 rfl rfl)
theorem dJ3_isLatin1_3 : decode cJ3_isLatin1 3 = .ok (.ifCond .eq 14, 3) := dk_153 0 14 (dk_at dksJ3_isLatin1_0 3 rfl rfl)
theorem dJ3_isLatin1_6 : decode cJ3_isLatin1 6 = .ok (.aload_n 0, 1) := dk_42 (dk_at dksJ3_isLatin1_0 6 rfl rfl)
theorem dJ3_isLatin1_7 : decode cJ3_isLatin1 7 = .ok (.getfield 15, 3) := dk_180 0 15 (dk_at dksJ3_isLatin1_0 7 rfl rfl)
theorem dJ3_isLatin1_10 : decode cJ3_isLatin1 10 = .ok (.ifCond .ne 7, 3) := dk_154 0 7 (dk_at dksJ3_isLatin1_0 10 rfl rfl)
theorem dJ3_isLatin1_13 : decode cJ3_isLatin1 13 = .ok (.iconst 1, 1) := dk_4 (dk_at dksJ3_isLatin1_0 13 rfl rfl)
theorem dJ3_isLatin1_14 : decode cJ3_isLatin1 14 = .ok (.goto 4, 3) := dk_167 0 4 (dk_at dksJ3_isLatin1_0 14 rfl rfl)
theorem dJ3_isLatin1_17 : decode cJ3_isLatin1 17 = .ok (.iconst 0, 1) := dk_3 (dk_at dksJ3_isLatin1_0 17 rfl rfl)
theorem dJ3_isLatin1_18 : decode cJ3_isLatin1 18 = .ok (.ireturn, 1) := dk_172 (dk_at dksJ3_isLatin1_0 18 rfl rfl)
abbrev cJ3_isEmpty : ByteArray := prog_37_method_55_code
def yJ3_isEmpty : MethodName := ⟨RJ3, "isEmpty", "()Z"⟩
def dkwJ3_isEmpty_0 : List UInt8 := [42, 180, 0, 9, 190, 154, 0, 7, 4, 167, 0, 4, 3, 172]
abbrev dktJ3_isEmpty_0 : List UInt8 := dkwJ3_isEmpty_0 ++ []
theorem dksJ3_isEmpty_0 : cJ3_isEmpty.data.toList.drop 0 = dktJ3_isEmpty_0 := by decide +kernel
theorem dJ3_isEmpty_0 : decode cJ3_isEmpty 0 = .ok (.aload_n 0, 1) := dk_42 (dk_at dksJ3_isEmpty_0 0 rfl rfl)
theorem dJ3_isEmpty_1 : decode cJ3_isEmpty 1 = .ok (.getfield 9, 3) := dk_180 0 9 (dk_at dksJ3_isEmpty_0 1 rfl rfl)
theorem dJ3_isEmpty_4 : decode cJ3_isEmpty 4 = .ok (.arraylength, 1) := dk_190 (dk_at dksJ3_isEmpty_0 4 rfl rfl)
theorem dJ3_isEmpty_5 : decode cJ3_isEmpty 5 = .ok (.ifCond .ne 7, 3) := dk_154 0 7 (dk_at dksJ3_isEmpty_0 5 rfl rfl)
theorem dJ3_isEmpty_8 : decode cJ3_isEmpty 8 = .ok (.iconst 1, 1) := dk_4 (dk_at dksJ3_isEmpty_0 8 rfl rfl)
theorem dJ3_isEmpty_9 : decode cJ3_isEmpty 9 = .ok (.goto 4, 3) := dk_167 0 4 (dk_at dksJ3_isEmpty_0 9 rfl rfl)
theorem dJ3_isEmpty_12 : decode cJ3_isEmpty 12 = .ok (.iconst 0, 1) := dk_3 (dk_at dksJ3_isEmpty_0 12 rfl rfl)
theorem dJ3_isEmpty_13 : decode cJ3_isEmpty 13 = .ok (.ireturn, 1) := dk_172 (dk_at dksJ3_isEmpty_0 13 rfl rfl)
abbrev cJ3_checkBoundsBeginEnd : ByteArray := prog_37_method_158_code
def yJ3_checkBoundsBeginEnd : MethodName := ⟨RJ3, "checkBoundsBeginEnd", "(III)V"⟩
def dkwJ3_checkBoundsBeginEnd_0 : List UInt8 := [26, 27, 28, 178, 4, 29, 184, 4, 38, 87, 177]
abbrev dktJ3_checkBoundsBeginEnd_0 : List UInt8 := dkwJ3_checkBoundsBeginEnd_0 ++ []
theorem dksJ3_checkBoundsBeginEnd_0 : cJ3_checkBoundsBeginEnd.data.toList.drop 0 = dktJ3_checkBoundsBeginEnd_0 := by decide +kernel
theorem dJ3_checkBoundsBeginEnd_0 : decode cJ3_checkBoundsBeginEnd 0 = .ok (.iload_n 0, 1) := dk_26 (dk_at dksJ3_checkBoundsBeginEnd_0 0 rfl rfl)
theorem dJ3_checkBoundsBeginEnd_1 : decode cJ3_checkBoundsBeginEnd 1 = .ok (.iload_n 1, 1) := dk_27 (dk_at dksJ3_checkBoundsBeginEnd_0 1 rfl rfl)
theorem dJ3_checkBoundsBeginEnd_2 : decode cJ3_checkBoundsBeginEnd 2 = .ok (.iload_n 2, 1) := dk_28 (dk_at dksJ3_checkBoundsBeginEnd_0 2 rfl rfl)
theorem dJ3_checkBoundsBeginEnd_3 : decode cJ3_checkBoundsBeginEnd 3 = .ok (.getstatic 1053, 3) := dk_178 4 29 (dk_at dksJ3_checkBoundsBeginEnd_0 3 rfl rfl)
theorem dJ3_checkBoundsBeginEnd_6 : decode cJ3_checkBoundsBeginEnd 6 = .ok (.invokestatic 1062, 3) := dk_184 4 38 (dk_at dksJ3_checkBoundsBeginEnd_0 6 rfl rfl)
theorem dJ3_checkBoundsBeginEnd_9 : decode cJ3_checkBoundsBeginEnd 9 = .ok (.pop, 1) := dk_87 (dk_at dksJ3_checkBoundsBeginEnd_0 9 rfl rfl)
theorem dJ3_checkBoundsBeginEnd_10 : decode cJ3_checkBoundsBeginEnd 10 = .ok (.return_, 1) := dk_177 (dk_at dksJ3_checkBoundsBeginEnd_0 10 rfl rfl)
abbrev cJ3_getBytes : ByteArray := prog_37_method_147_code
def yJ3_getBytes : MethodName := ⟨RJ3, "getBytes", "([BIB)V"⟩
def dkwJ3_getBytes_1 : List UInt8 := [184, 0, 212, 167, 0, 18, 42, 180, 0, 9, 3, 43, 28, 42, 180, 0, 9, 190, 184, 0, 106, 177]
abbrev dktJ3_getBytes_1 : List UInt8 := dkwJ3_getBytes_1 ++ []
def dkwJ3_getBytes_0 : List UInt8 := [42, 182, 1, 79, 29, 160, 0, 23, 42, 180, 0, 9, 3, 43, 28, 29, 120, 42, 180, 0, 9, 190]
abbrev dktJ3_getBytes_0 : List UInt8 := dkwJ3_getBytes_0 ++ dktJ3_getBytes_1
theorem dksJ3_getBytes_0 : cJ3_getBytes.data.toList.drop 0 = dktJ3_getBytes_0 := by decide +kernel
theorem dksJ3_getBytes_1 : cJ3_getBytes.data.toList.drop 22 = dktJ3_getBytes_1 := dk_seg dksJ3_getBytes_0 22 rfl rfl
theorem dJ3_getBytes_0 : decode cJ3_getBytes 0 = .ok (.aload_n 0, 1) := dk_42 (dk_at dksJ3_getBytes_0 0 rfl rfl)
theorem dJ3_getBytes_1 : decode cJ3_getBytes 1 = .ok (.invokevirtual 335, 3) := dk_182 1 79 (dk_at dksJ3_getBytes_0 1 rfl rfl)
theorem dJ3_getBytes_4 : decode cJ3_getBytes 4 = .ok (.iload_n 3, 1) := dk_29 (dk_at dksJ3_getBytes_0 4 rfl rfl)
theorem dJ3_getBytes_5 : decode cJ3_getBytes 5 = .ok (.if_icmp .ne 23, 3) := dk_160 0 23 (dk_at dksJ3_getBytes_0 5 rfl rfl)
theorem dJ3_getBytes_8 : decode cJ3_getBytes 8 = .ok (.aload_n 0, 1) := dk_42 (dk_at dksJ3_getBytes_0 8 rfl rfl)
theorem dJ3_getBytes_9 : decode cJ3_getBytes 9 = .ok (.getfield 9, 3) := dk_180 0 9 (dk_at dksJ3_getBytes_0 9 rfl rfl)
theorem dJ3_getBytes_12 : decode cJ3_getBytes 12 = .ok (.iconst 0, 1) := dk_3 (dk_at dksJ3_getBytes_0 12 rfl rfl)
theorem dJ3_getBytes_13 : decode cJ3_getBytes 13 = .ok (.aload_n 1, 1) := dk_43 (dk_at dksJ3_getBytes_0 13 rfl rfl)
theorem dJ3_getBytes_14 : decode cJ3_getBytes 14 = .ok (.iload_n 2, 1) := dk_28 (dk_at dksJ3_getBytes_0 14 rfl rfl)
theorem dJ3_getBytes_15 : decode cJ3_getBytes 15 = .ok (.iload_n 3, 1) := dk_29 (dk_at dksJ3_getBytes_0 15 rfl rfl)
theorem dJ3_getBytes_16 : decode cJ3_getBytes 16 = .ok (.ishl, 1) := dk_120 (dk_at dksJ3_getBytes_0 16 rfl rfl)
theorem dJ3_getBytes_17 : decode cJ3_getBytes 17 = .ok (.aload_n 0, 1) := dk_42 (dk_at dksJ3_getBytes_0 17 rfl rfl)
theorem dJ3_getBytes_18 : decode cJ3_getBytes 18 = .ok (.getfield 9, 3) := dk_180 0 9 (dk_at dksJ3_getBytes_0 18 rfl rfl)
theorem dJ3_getBytes_21 : decode cJ3_getBytes 21 = .ok (.arraylength, 1) := dk_190 (dk_at dksJ3_getBytes_0 21 rfl rfl)
theorem dJ3_getBytes_22 : decode cJ3_getBytes 22 = .ok (.invokestatic 212, 3) := dk_184 0 212 (dk_at dksJ3_getBytes_1 0 rfl rfl)
theorem dJ3_getBytes_25 : decode cJ3_getBytes 25 = .ok (.goto 18, 3) := dk_167 0 18 (dk_at dksJ3_getBytes_1 3 rfl rfl)
theorem dJ3_getBytes_28 : decode cJ3_getBytes 28 = .ok (.aload_n 0, 1) := dk_42 (dk_at dksJ3_getBytes_1 6 rfl rfl)
theorem dJ3_getBytes_29 : decode cJ3_getBytes 29 = .ok (.getfield 9, 3) := dk_180 0 9 (dk_at dksJ3_getBytes_1 7 rfl rfl)
theorem dJ3_getBytes_32 : decode cJ3_getBytes 32 = .ok (.iconst 0, 1) := dk_3 (dk_at dksJ3_getBytes_1 10 rfl rfl)
theorem dJ3_getBytes_33 : decode cJ3_getBytes 33 = .ok (.aload_n 1, 1) := dk_43 (dk_at dksJ3_getBytes_1 11 rfl rfl)
theorem dJ3_getBytes_34 : decode cJ3_getBytes 34 = .ok (.iload_n 2, 1) := dk_28 (dk_at dksJ3_getBytes_1 12 rfl rfl)
theorem dJ3_getBytes_35 : decode cJ3_getBytes 35 = .ok (.aload_n 0, 1) := dk_42 (dk_at dksJ3_getBytes_1 13 rfl rfl)
theorem dJ3_getBytes_36 : decode cJ3_getBytes 36 = .ok (.getfield 9, 3) := dk_180 0 9 (dk_at dksJ3_getBytes_1 14 rfl rfl)
theorem dJ3_getBytes_39 : decode cJ3_getBytes 39 = .ok (.arraylength, 1) := dk_190 (dk_at dksJ3_getBytes_1 17 rfl rfl)
theorem dJ3_getBytes_40 : decode cJ3_getBytes 40 = .ok (.invokestatic 106, 3) := dk_184 0 106 (dk_at dksJ3_getBytes_1 18 rfl rfl)
theorem dJ3_getBytes_43 : decode cJ3_getBytes 43 = .ok (.return_, 1) := dk_177 (dk_at dksJ3_getBytes_1 21 rfl rfl)
theorem q96 : (Jvm.Cond.initialized "java/lang/String") ∈ lw_all := lw_g (lw_at lw_m1 9 rfl) rfl
theorem q387 : (Jvm.Cond.laysStatic "java/lang/String" "COMPACT_STRINGS" "Z") ∈ lw_tbl := lw_at lw_m2 60 rfl
theorem q478 : (Jvm.Cond.fieldLink "java/lang/String" (1048 : Nat) "java/lang/AbstractStringBuilder" "maybeLatin1" "Z") ∈ lw_all := lw_g (lw_at lw_m2 151 rfl) rfl
theorem q552 : (Jvm.Cond.static ({ cls := "java/lang/String", name := "checkBoundsOffCount", desc := "(III)I" } : Jvm.MethodName)) ∈ lw_all := lw_g (lw_at lw_m2 225 rfl) rfl
theorem q553 : (Jvm.Cond.code ({ cls := "java/lang/String", name := "checkBoundsOffCount", desc := "(III)I" } : Jvm.MethodName) prog_37_method_157_code (3 : Nat) (Option.some Jvm.ClassFile.FieldType.int)) ∈ lw_all := lw_g (lw_at lw_m2 226 rfl) rfl
theorem q554 : (Jvm.Cond.fieldLink "java/lang/String" (1053 : Nat) "jdk/internal/util/Preconditions" "SIOOBE_FORMATTER" "Ljava/util/function/BiFunction;") ∈ lw_all := lw_g (lw_at lw_m2 227 rfl) rfl
theorem q556 : (Jvm.Cond.methodLink "java/lang/String" (1065 : Nat) ({ cls := "jdk/internal/util/Preconditions", name := "checkFromIndexSize", desc := "(IIILjava/util/function/BiFunction;)I" } : Jvm.MethodName)) ∈ lw_all := lw_g (lw_at lw_m2 229 rfl) rfl
theorem q575 : (Jvm.Cond.static ({ cls := "java/lang/String", name := "checkIndex", desc := "(II)V" } : Jvm.MethodName)) ∈ lw_all := lw_g (lw_at lw_m3 8 rfl) rfl
theorem q576 : (Jvm.Cond.code ({ cls := "java/lang/String", name := "checkIndex", desc := "(II)V" } : Jvm.MethodName) prog_37_method_155_code (2 : Nat) (Option.none : Option Jvm.ClassFile.FieldType)) ∈ lw_all := lw_g (lw_at lw_m3 9 rfl) rfl
theorem q577 : (Jvm.Cond.methodLink "java/lang/String" (1059 : Nat) ({ cls := "jdk/internal/util/Preconditions", name := "checkIndex", desc := "(IILjava/util/function/BiFunction;)I" } : Jvm.MethodName)) ∈ lw_all := lw_g (lw_at lw_m3 10 rfl) rfl
theorem q585 : (Jvm.Cond.instantiable "java/lang/String" (4 : Nat)) ∈ lw_all := lw_g (lw_at lw_m3 18 rfl) rfl
theorem q587 : (Jvm.Cond.instanceMethod ({ cls := "java/lang/String", name := "<init>", desc := "(Ljava/lang/StringBuilder;)V" } : Jvm.MethodName)) ∈ lw_all := lw_g (lw_at lw_m3 20 rfl) rfl
theorem q588 : (Jvm.Cond.code ({ cls := "java/lang/String", name := "<init>", desc := "(Ljava/lang/StringBuilder;)V" } : Jvm.MethodName) prog_37_method_53_code (2 : Nat) (Option.none : Option Jvm.ClassFile.FieldType)) ∈ lw_all := lw_g (lw_at lw_m3 21 rfl) rfl
theorem q589 : (Jvm.Cond.methodLink "java/lang/String" (489 : Nat) ({ cls := "java/lang/String", name := "<init>", desc := "(Ljava/lang/AbstractStringBuilder;Ljava/lang/Void;)V" } : Jvm.MethodName)) ∈ lw_all := lw_g (lw_at lw_m3 22 rfl) rfl
theorem q590 : (Jvm.Cond.instanceMethod ({ cls := "java/lang/String", name := "<init>", desc := "(Ljava/lang/AbstractStringBuilder;Ljava/lang/Void;)V" } : Jvm.MethodName)) ∈ lw_all := lw_g (lw_at lw_m3 23 rfl) rfl
theorem q591 : (Jvm.Cond.code ({ cls := "java/lang/String", name := "<init>", desc := "(Ljava/lang/AbstractStringBuilder;Ljava/lang/Void;)V" } : Jvm.MethodName) prog_37_method_150_code (5 : Nat) (Option.none : Option Jvm.ClassFile.FieldType)) ∈ lw_all := lw_g (lw_at lw_m3 24 rfl) rfl
theorem q592 : (Jvm.Cond.methodLink "java/lang/String" (1 : Nat) ({ cls := "java/lang/Object", name := "<init>", desc := "()V" } : Jvm.MethodName)) ∈ lw_all := lw_g (lw_at lw_m3 25 rfl) rfl
theorem q593 : (Jvm.Cond.methodLink "java/lang/String" (552 : Nat) ({ cls := "java/lang/AbstractStringBuilder", name := "getValue", desc := "()[B" } : Jvm.MethodName)) ∈ lw_all := lw_g (lw_at lw_m3 26 rfl) rfl
theorem q598 : (Jvm.Cond.methodLink "java/lang/String" (549 : Nat) ({ cls := "java/lang/AbstractStringBuilder", name := "length", desc := "()I" } : Jvm.MethodName)) ∈ lw_all := lw_g (lw_at lw_m3 31 rfl) rfl
theorem q606 : (Jvm.Cond.methodLink "java/lang/String" (1047 : Nat) ({ cls := "java/lang/AbstractStringBuilder", name := "isLatin1", desc := "()Z" } : Jvm.MethodName)) ∈ lw_all := lw_g (lw_at lw_m3 39 rfl) rfl
theorem q607 : (Jvm.Cond.methodLink "java/lang/String" (54 : Nat) ({ cls := "java/util/Arrays", name := "copyOfRange", desc := "([BII)[B" } : Jvm.MethodName)) ∈ lw_all := lw_g (lw_at lw_m3 40 rfl) rfl
theorem q616 : (Jvm.Cond.fieldLink "java/lang/String" (38 : Nat) "java/lang/String" "COMPACT_STRINGS" "Z") ∈ lw_all := lw_g (lw_at lw_m3 49 rfl) rfl
theorem q617 : (Jvm.Cond.methodLink "java/lang/String" (1051 : Nat) ({ cls := "java/lang/StringUTF16", name := "compress", desc := "([BII)[B" } : Jvm.MethodName)) ∈ lw_all := lw_g (lw_at lw_m3 50 rfl) rfl
theorem q627 : (Jvm.Cond.methodLink "java/lang/String" (47 : Nat) ({ cls := "java/lang/StringUTF16", name := "coderFromArrayLen", desc := "([BI)B" } : Jvm.MethodName)) ∈ lw_all := lw_g (lw_at lw_m3 60 rfl) rfl
theorem q630 : (Jvm.Cond.fieldLink "java/lang/String" (9 : Nat) "java/lang/String" "value" "[B") ∈ lw_all := lw_g (lw_at lw_m3 63 rfl) rfl
theorem q631 : (Jvm.Cond.fieldLink "java/lang/String" (15 : Nat) "java/lang/String" "coder" "B") ∈ lw_all := lw_g (lw_at lw_m3 64 rfl) rfl
theorem q632 : (Jvm.Cond.laysFinal "java/lang/String" "java/lang/String" "value" "[B") ∈ lw_all := lw_g (lw_at lw_m3 65 rfl) rfl
theorem q633 : (Jvm.Cond.soleField "java/lang/String" "value") ∈ lw_all := lw_g (lw_at lw_m3 66 rfl) rfl
theorem q634 : (Jvm.Cond.laysFinal "java/lang/String" "java/lang/String" "coder" "B") ∈ lw_all := lw_g (lw_at lw_m3 67 rfl) rfl
theorem q635 : (Jvm.Cond.soleField "java/lang/String" "coder") ∈ lw_all := lw_g (lw_at lw_m3 68 rfl) rfl
theorem q636 : (Jvm.Cond.lays "java/lang/String" "java/lang/String" "hash" "I") ∈ lw_all := lw_g (lw_at lw_m3 69 rfl) rfl
theorem q637 : (Jvm.Cond.soleField "java/lang/String" "hash") ∈ lw_all := lw_g (lw_at lw_m3 70 rfl) rfl
theorem q638 : (Jvm.Cond.lays "java/lang/String" "java/lang/String" "hashIsZero" "Z") ∈ lw_all := lw_g (lw_at lw_m3 71 rfl) rfl
theorem q639 : (Jvm.Cond.soleField "java/lang/String" "hashIsZero") ∈ lw_all := lw_g (lw_at lw_m3 72 rfl) rfl
theorem q640 : (Jvm.Cond.superclass "java/lang/String" "java/lang/Object") ∈ lw_all := lw_g (lw_at lw_m3 73 rfl) rfl
theorem q729 : (Jvm.Cond.selects "java/lang/String" ({ cls := "java/lang/Object", name := "equals", desc := "(Ljava/lang/Object;)Z" } : Jvm.MethodName) ({ cls := "java/lang/String", name := "equals", desc := "(Ljava/lang/Object;)Z" } : Jvm.MethodName)) ∈ lw_all := lw_g (lw_at lw_m3 162 rfl) rfl
theorem q730 : (Jvm.Cond.instanceMethod ({ cls := "java/lang/String", name := "equals", desc := "(Ljava/lang/Object;)Z" } : Jvm.MethodName)) ∈ lw_all := lw_g (lw_at lw_m3 163 rfl) rfl
theorem q731 : (Jvm.Cond.code ({ cls := "java/lang/String", name := "equals", desc := "(Ljava/lang/Object;)Z" } : Jvm.MethodName) prog_37_method_66_code (3 : Nat) (Option.some Jvm.ClassFile.FieldType.boolean)) ∈ lw_all := lw_g (lw_at lw_m3 164 rfl) rfl
theorem q732 : (Jvm.Cond.classLink "java/lang/String" (10 : Nat) "java/lang/String") ∈ lw_all := lw_g (lw_at lw_m3 165 rfl) rfl
theorem q733 : (Jvm.Cond.methodLink "java/lang/String" (541 : Nat) ({ cls := "java/lang/StringLatin1", name := "equals", desc := "([B[B)Z" } : Jvm.MethodName)) ∈ lw_all := lw_g (lw_at lw_m3 166 rfl) rfl
theorem q779 : (Jvm.Cond.instanceMethod ({ cls := "java/lang/String", name := "length", desc := "()I" } : Jvm.MethodName)) ∈ lw_all := lw_g (lw_at lw_m3 212 rfl) rfl
theorem q780 : (Jvm.Cond.selects "java/lang/String" ({ cls := "java/lang/String", name := "length", desc := "()I" } : Jvm.MethodName) ({ cls := "java/lang/String", name := "length", desc := "()I" } : Jvm.MethodName)) ∈ lw_all := lw_g (lw_at lw_m3 213 rfl) rfl
theorem q781 : (Jvm.Cond.code ({ cls := "java/lang/String", name := "length", desc := "()I" } : Jvm.MethodName) prog_37_method_54_code (1 : Nat) (Option.some Jvm.ClassFile.FieldType.int)) ∈ lw_all := lw_g (lw_at lw_m3 214 rfl) rfl
theorem q782 : (Jvm.Cond.methodLink "java/lang/String" (335 : Nat) ({ cls := "java/lang/String", name := "coder", desc := "()B" } : Jvm.MethodName)) ∈ lw_all := lw_g (lw_at lw_m3 215 rfl) rfl
theorem q783 : (Jvm.Cond.instanceMethod ({ cls := "java/lang/String", name := "coder", desc := "()B" } : Jvm.MethodName)) ∈ lw_all := lw_g (lw_at lw_m3 216 rfl) rfl
theorem q784 : (Jvm.Cond.selects "java/lang/String" ({ cls := "java/lang/String", name := "coder", desc := "()B" } : Jvm.MethodName) ({ cls := "java/lang/String", name := "coder", desc := "()B" } : Jvm.MethodName)) ∈ lw_all := lw_g (lw_at lw_m3 217 rfl) rfl
theorem q785 : (Jvm.Cond.code ({ cls := "java/lang/String", name := "coder", desc := "()B" } : Jvm.MethodName) prog_37_method_152_code (1 : Nat) (Option.some Jvm.ClassFile.FieldType.byte)) ∈ lw_all := lw_g (lw_at lw_m3 218 rfl) rfl
theorem q787 : (Jvm.Cond.instanceMethod ({ cls := "java/lang/String", name := "charAt", desc := "(I)C" } : Jvm.MethodName)) ∈ lw_all := lw_g (lw_at lw_m3 220 rfl) rfl
theorem q788 : (Jvm.Cond.selects "java/lang/String" ({ cls := "java/lang/String", name := "charAt", desc := "(I)C" } : Jvm.MethodName) ({ cls := "java/lang/String", name := "charAt", desc := "(I)C" } : Jvm.MethodName)) ∈ lw_all := lw_g (lw_at lw_m3 221 rfl) rfl
theorem q789 : (Jvm.Cond.code ({ cls := "java/lang/String", name := "charAt", desc := "(I)C" } : Jvm.MethodName) prog_37_method_56_code (2 : Nat) (Option.some Jvm.ClassFile.FieldType.char)) ∈ lw_all := lw_g (lw_at lw_m3 222 rfl) rfl
theorem q790 : (Jvm.Cond.methodLink "java/lang/String" (492 : Nat) ({ cls := "java/lang/String", name := "isLatin1", desc := "()Z" } : Jvm.MethodName)) ∈ lw_all := lw_g (lw_at lw_m3 223 rfl) rfl
theorem q791 : (Jvm.Cond.instanceMethod ({ cls := "java/lang/String", name := "isLatin1", desc := "()Z" } : Jvm.MethodName)) ∈ lw_all := lw_g (lw_at lw_m3 224 rfl) rfl
theorem q792 : (Jvm.Cond.selects "java/lang/String" ({ cls := "java/lang/String", name := "isLatin1", desc := "()Z" } : Jvm.MethodName) ({ cls := "java/lang/String", name := "isLatin1", desc := "()Z" } : Jvm.MethodName)) ∈ lw_all := lw_g (lw_at lw_m3 225 rfl) rfl
theorem q793 : (Jvm.Cond.code ({ cls := "java/lang/String", name := "isLatin1", desc := "()Z" } : Jvm.MethodName) prog_37_method_154_code (1 : Nat) (Option.some Jvm.ClassFile.FieldType.boolean)) ∈ lw_all := lw_g (lw_at lw_m3 226 rfl) rfl
theorem q794 : (Jvm.Cond.methodLink "java/lang/String" (495 : Nat) ({ cls := "java/lang/StringLatin1", name := "charAt", desc := "([BI)C" } : Jvm.MethodName)) ∈ lw_all := lw_g (lw_at lw_m3 227 rfl) rfl
theorem q798 : (Jvm.Cond.methodLink "java/lang/String" (498 : Nat) ({ cls := "java/lang/StringUTF16", name := "charAt", desc := "([BI)C" } : Jvm.MethodName)) ∈ lw_all := lw_g (lw_at lw_m3 231 rfl) rfl
theorem q827 : (Jvm.Cond.instanceMethod ({ cls := "java/lang/String", name := "isEmpty", desc := "()Z" } : Jvm.MethodName)) ∈ lw_all := lw_g (lw_at lw_m4 20 rfl) rfl
theorem q828 : (Jvm.Cond.selects "java/lang/String" ({ cls := "java/lang/String", name := "isEmpty", desc := "()Z" } : Jvm.MethodName) ({ cls := "java/lang/String", name := "isEmpty", desc := "()Z" } : Jvm.MethodName)) ∈ lw_all := lw_g (lw_at lw_m4 21 rfl) rfl
theorem q829 : (Jvm.Cond.code ({ cls := "java/lang/String", name := "isEmpty", desc := "()Z" } : Jvm.MethodName) prog_37_method_55_code (1 : Nat) (Option.some Jvm.ClassFile.FieldType.boolean)) ∈ lw_all := lw_g (lw_at lw_m4 22 rfl) rfl
theorem q986 : (Jvm.Cond.selects "java/lang/String" ({ cls := "java/lang/Object", name := "getClass", desc := "()Ljava/lang/Class;" } : Jvm.MethodName) ({ cls := "java/lang/Object", name := "getClass", desc := "()Ljava/lang/Class;" } : Jvm.MethodName)) ∈ lw_all := lw_g (lw_at lw_m4 179 rfl) rfl
theorem q1058 : (Jvm.Cond.static ({ cls := "java/lang/String", name := "checkBoundsBeginEnd", desc := "(III)V" } : Jvm.MethodName)) ∈ lw_all := lw_g (lw_at lw_m5 11 rfl) rfl
theorem q1059 : (Jvm.Cond.code ({ cls := "java/lang/String", name := "checkBoundsBeginEnd", desc := "(III)V" } : Jvm.MethodName) prog_37_method_158_code (3 : Nat) (Option.none : Option Jvm.ClassFile.FieldType)) ∈ lw_all := lw_g (lw_at lw_m5 12 rfl) rfl
theorem q1060 : (Jvm.Cond.methodLink "java/lang/String" (1062 : Nat) ({ cls := "jdk/internal/util/Preconditions", name := "checkFromToIndex", desc := "(IIILjava/util/function/BiFunction;)I" } : Jvm.MethodName)) ∈ lw_all := lw_g (lw_at lw_m5 13 rfl) rfl
theorem q1074 : (Jvm.Cond.instanceMethod ({ cls := "java/lang/String", name := "getBytes", desc := "([BIB)V" } : Jvm.MethodName)) ∈ lw_all := lw_g (lw_at lw_m5 27 rfl) rfl
theorem q1075 : (Jvm.Cond.selects "java/lang/String" ({ cls := "java/lang/String", name := "getBytes", desc := "([BIB)V" } : Jvm.MethodName) ({ cls := "java/lang/String", name := "getBytes", desc := "([BIB)V" } : Jvm.MethodName)) ∈ lw_all := lw_g (lw_at lw_m5 28 rfl) rfl
theorem q1076 : (Jvm.Cond.code ({ cls := "java/lang/String", name := "getBytes", desc := "([BIB)V" } : Jvm.MethodName) prog_37_method_147_code (4 : Nat) (Option.none : Option Jvm.ClassFile.FieldType)) ∈ lw_all := lw_g (lw_at lw_m5 29 rfl) rfl
theorem q1077 : (Jvm.Cond.methodLink "java/lang/String" (212 : Nat) ({ cls := "java/lang/System", name := "arraycopy", desc := "(Ljava/lang/Object;ILjava/lang/Object;II)V" } : Jvm.MethodName)) ∈ lw_all := lw_g (lw_at lw_m5 30 rfl) rfl
theorem q1078 : (Jvm.Cond.methodLink "java/lang/String" (106 : Nat) ({ cls := "java/lang/StringLatin1", name := "inflate", desc := "([BI[BII)V" } : Jvm.MethodName)) ∈ lw_all := lw_g (lw_at lw_m5 31 rfl) rfl
theorem q2245 : (Jvm.Cond.selects "java/lang/String" ({ cls := "java/lang/String", name := "equals", desc := "(Ljava/lang/Object;)Z" } : Jvm.MethodName) ({ cls := "java/lang/String", name := "equals", desc := "(Ljava/lang/Object;)Z" } : Jvm.MethodName)) ∈ lw_all := lw_g (lw_at lw_m9 238 rfl) rfl
theorem q2272 : (Jvm.Cond.castable "java/lang/String" "java/lang/Object") ∈ lw_tbl := lw_at lw_m10 25 rfl
theorem in_J3 : ∀ w ∈ wsJ30, w ∈ lw_all := lw_in wsJ30 [632, 634, 636, 638] (by decide +kernel) (by decide +kernel)

/-! java/lang/StringUTF16 -/
set_option maxRecDepth 100000
def RJ4 : String := "java/lang/StringUTF16"
abbrev cJ4_newBytesFor : ByteArray := prog_40_method_2_code
def yJ4_newBytesFor : MethodName := ⟨RJ4, "newBytesFor", "(I)[B"⟩
def dkwJ4_newBytesFor_0 : List UInt8 := [26, 184, 0, 11, 188, 8, 176]
abbrev dktJ4_newBytesFor_0 : List UInt8 := dkwJ4_newBytesFor_0 ++ []
theorem dksJ4_newBytesFor_0 : cJ4_newBytesFor.data.toList.drop 0 = dktJ4_newBytesFor_0 := by decide +kernel
theorem dJ4_newBytesFor_0 : decode cJ4_newBytesFor 0 = .ok (.iload_n 0, 1) := dk_26 (dk_at dksJ4_newBytesFor_0 0 rfl rfl)
theorem dJ4_newBytesFor_1 : decode cJ4_newBytesFor 1 = .ok (.invokestatic 11, 3) := dk_184 0 11 (dk_at dksJ4_newBytesFor_0 1 rfl rfl)
theorem dJ4_newBytesFor_4 : decode cJ4_newBytesFor 4 = .ok (.newarray .byte, 2) := dk_188_8 (dk_at dksJ4_newBytesFor_0 4 rfl rfl)
theorem dJ4_newBytesFor_6 : decode cJ4_newBytesFor 6 = .ok (.areturn, 1) := dk_176 (dk_at dksJ4_newBytesFor_0 6 rfl rfl)
abbrev cJ4_newBytesLength : ByteArray := prog_40_method_3_code
def yJ4_newBytesLength : MethodName := ⟨RJ4, "newBytesLength", "(I)I"⟩
def dkwJ4_newBytesLength_2 : List UInt8 := [182, 0, 32, 182, 0, 37, 183, 0, 41, 191, 26, 4, 120, 172]
abbrev dktJ4_newBytesLength_2 : List UInt8 := dkwJ4_newBytesLength_2 ++ []
def dkwJ4_newBytesLength_1 : List UInt8 := [187, 0, 23, 89, 183, 0, 25, 18, 26, 182, 0, 28, 26, 182, 0, 32, 18, 35, 182, 0, 28, 18, 20]
abbrev dktJ4_newBytesLength_1 : List UInt8 := dkwJ4_newBytesLength_1 ++ dktJ4_newBytesLength_2
def dkwJ4_newBytesLength_0 : List UInt8 := [26, 156, 0, 11, 187, 0, 17, 89, 183, 0, 19, 191, 26, 18, 20, 161, 0, 40, 187, 0, 21, 89]
abbrev dktJ4_newBytesLength_0 : List UInt8 := dkwJ4_newBytesLength_0 ++ dktJ4_newBytesLength_1
theorem dksJ4_newBytesLength_0 : cJ4_newBytesLength.data.toList.drop 0 = dktJ4_newBytesLength_0 := by decide +kernel
theorem dksJ4_newBytesLength_1 : cJ4_newBytesLength.data.toList.drop 22 = dktJ4_newBytesLength_1 := dk_seg dksJ4_newBytesLength_0 22 rfl rfl
theorem dksJ4_newBytesLength_2 : cJ4_newBytesLength.data.toList.drop 45 = dktJ4_newBytesLength_2 := dk_seg dksJ4_newBytesLength_1 23 rfl rfl
theorem dJ4_newBytesLength_0 : decode cJ4_newBytesLength 0 = .ok (.iload_n 0, 1) := dk_26 (dk_at dksJ4_newBytesLength_0 0 rfl rfl)
theorem dJ4_newBytesLength_1 : decode cJ4_newBytesLength 1 = .ok (.ifCond .ge 11, 3) := dk_156 0 11 (dk_at dksJ4_newBytesLength_0 1 rfl rfl)
theorem dJ4_newBytesLength_4 : decode cJ4_newBytesLength 4 = .ok (.new 17, 3) := dk_187 0 17 (dk_at dksJ4_newBytesLength_0 4 rfl rfl)
theorem dJ4_newBytesLength_7 : decode cJ4_newBytesLength 7 = .ok (.dup, 1) := dk_89 (dk_at dksJ4_newBytesLength_0 7 rfl rfl)
theorem dJ4_newBytesLength_8 : decode cJ4_newBytesLength 8 = .ok (.invokespecial 19, 3) := dk_183 0 19 (dk_at dksJ4_newBytesLength_0 8 rfl rfl)
theorem dJ4_newBytesLength_11 : decode cJ4_newBytesLength 11 = .ok (.athrow, 1) := dk_191 (dk_at dksJ4_newBytesLength_0 11 rfl rfl)
theorem dJ4_newBytesLength_12 : decode cJ4_newBytesLength 12 = .ok (.iload_n 0, 1) := dk_26 (dk_at dksJ4_newBytesLength_0 12 rfl rfl)
theorem dJ4_newBytesLength_13 : decode cJ4_newBytesLength 13 = .ok (.ldc 20, 2) := dk_18 20 (dk_at dksJ4_newBytesLength_0 13 rfl rfl)
theorem dJ4_newBytesLength_15 : decode cJ4_newBytesLength 15 = .ok (.if_icmp .lt 40, 3) := dk_161 0 40 (dk_at dksJ4_newBytesLength_0 15 rfl rfl)
theorem dJ4_newBytesLength_18 : decode cJ4_newBytesLength 18 = .ok (.new 21, 3) := dk_187 0 21 (dk_at dksJ4_newBytesLength_0 18 rfl rfl)
theorem dJ4_newBytesLength_21 : decode cJ4_newBytesLength 21 = .ok (.dup, 1) := dk_89 (dk_at dksJ4_newBytesLength_0 21 rfl rfl)
theorem dJ4_newBytesLength_22 : decode cJ4_newBytesLength 22 = .ok (.new 23, 3) := dk_187 0 23 (dk_at dksJ4_newBytesLength_1 0 rfl rfl)
theorem dJ4_newBytesLength_25 : decode cJ4_newBytesLength 25 = .ok (.dup, 1) := dk_89 (dk_at dksJ4_newBytesLength_1 3 rfl rfl)
theorem dJ4_newBytesLength_26 : decode cJ4_newBytesLength 26 = .ok (.invokespecial 25, 3) := dk_183 0 25 (dk_at dksJ4_newBytesLength_1 4 rfl rfl)
theorem dJ4_newBytesLength_29 : decode cJ4_newBytesLength 29 = .ok (.ldc 26, 2) := dk_18 26 (dk_at dksJ4_newBytesLength_1 7 rfl rfl)
theorem dJ4_newBytesLength_31 : decode cJ4_newBytesLength 31 = .ok (.invokevirtual 28, 3) := dk_182 0 28 (dk_at dksJ4_newBytesLength_1 9 rfl rfl)
theorem dJ4_newBytesLength_34 : decode cJ4_newBytesLength 34 = .ok (.iload_n 0, 1) := dk_26 (dk_at dksJ4_newBytesLength_1 12 rfl rfl)
theorem dJ4_newBytesLength_35 : decode cJ4_newBytesLength 35 = .ok (.invokevirtual 32, 3) := dk_182 0 32 (dk_at dksJ4_newBytesLength_1 13 rfl rfl)
theorem dJ4_newBytesLength_38 : decode cJ4_newBytesLength 38 = .ok (.ldc 35, 2) := dk_18 35 (dk_at dksJ4_newBytesLength_1 16 rfl rfl)
theorem dJ4_newBytesLength_40 : decode cJ4_newBytesLength 40 = .ok (.invokevirtual 28, 3) := dk_182 0 28 (dk_at dksJ4_newBytesLength_1 18 rfl rfl)
theorem dJ4_newBytesLength_43 : decode cJ4_newBytesLength 43 = .ok (.ldc 20, 2) := dk_18 20 (dk_at dksJ4_newBytesLength_1 21 rfl rfl)
theorem dJ4_newBytesLength_45 : decode cJ4_newBytesLength 45 = .ok (.invokevirtual 32, 3) := dk_182 0 32 (dk_at dksJ4_newBytesLength_2 0 rfl rfl)
theorem dJ4_newBytesLength_48 : decode cJ4_newBytesLength 48 = .ok (.invokevirtual 37, 3) := dk_182 0 37 (dk_at dksJ4_newBytesLength_2 3 rfl rfl)
theorem dJ4_newBytesLength_51 : decode cJ4_newBytesLength 51 = .ok (.invokespecial 41, 3) := dk_183 0 41 (dk_at dksJ4_newBytesLength_2 6 rfl rfl)
theorem dJ4_newBytesLength_54 : decode cJ4_newBytesLength 54 = .ok (.athrow, 1) := dk_191 (dk_at dksJ4_newBytesLength_2 9 rfl rfl)
theorem dJ4_newBytesLength_55 : decode cJ4_newBytesLength 55 = .ok (.iload_n 0, 1) := dk_26 (dk_at dksJ4_newBytesLength_2 10 rfl rfl)
theorem dJ4_newBytesLength_56 : decode cJ4_newBytesLength 56 = .ok (.iconst 1, 1) := dk_4 (dk_at dksJ4_newBytesLength_2 11 rfl rfl)
theorem dJ4_newBytesLength_57 : decode cJ4_newBytesLength 57 = .ok (.ishl, 1) := dk_120 (dk_at dksJ4_newBytesLength_2 12 rfl rfl)
theorem dJ4_newBytesLength_58 : decode cJ4_newBytesLength 58 = .ok (.ireturn, 1) := dk_172 (dk_at dksJ4_newBytesLength_2 13 rfl rfl)
abbrev cJ4_inflate : ByteArray := prog_40_method_86_code
def yJ4_inflate : MethodName := ⟨RJ4, "inflate", "([BI[BII)V"⟩
def dkwJ4_inflate_1 : List UInt8 := [132, 1, 1, 51, 17, 0, 255, 126, 184, 0, 111, 132, 5, 1, 167, 255, 228, 177]
abbrev dktJ4_inflate_1 : List UInt8 := dkwJ4_inflate_1 ++ []
def dkwJ4_inflate_0 : List UInt8 := [29, 21, 4, 44, 184, 0, 173, 3, 54, 5, 21, 5, 21, 4, 162, 0, 27, 44, 29, 132, 3, 1, 42, 27]
abbrev dktJ4_inflate_0 : List UInt8 := dkwJ4_inflate_0 ++ dktJ4_inflate_1
theorem dksJ4_inflate_0 : cJ4_inflate.data.toList.drop 0 = dktJ4_inflate_0 := by decide +kernel
theorem dksJ4_inflate_1 : cJ4_inflate.data.toList.drop 24 = dktJ4_inflate_1 := dk_seg dksJ4_inflate_0 24 rfl rfl
theorem dJ4_inflate_0 : decode cJ4_inflate 0 = .ok (.iload_n 3, 1) := dk_29 (dk_at dksJ4_inflate_0 0 rfl rfl)
theorem dJ4_inflate_1 : decode cJ4_inflate 1 = .ok (.iload 4, 2) := dk_21 4 (dk_at dksJ4_inflate_0 1 rfl rfl)
theorem dJ4_inflate_3 : decode cJ4_inflate 3 = .ok (.aload_n 2, 1) := dk_44 (dk_at dksJ4_inflate_0 3 rfl rfl)
theorem dJ4_inflate_4 : decode cJ4_inflate 4 = .ok (.invokestatic 173, 3) := dk_184 0 173 (dk_at dksJ4_inflate_0 4 rfl rfl)
theorem dJ4_inflate_7 : decode cJ4_inflate 7 = .ok (.iconst 0, 1) := dk_3 (dk_at dksJ4_inflate_0 7 rfl rfl)
theorem dJ4_inflate_8 : decode cJ4_inflate 8 = .ok (.istore 5, 2) := dk_54 5 (dk_at dksJ4_inflate_0 8 rfl rfl)
theorem dJ4_inflate_10 : decode cJ4_inflate 10 = .ok (.iload 5, 2) := dk_21 5 (dk_at dksJ4_inflate_0 10 rfl rfl)
theorem dJ4_inflate_12 : decode cJ4_inflate 12 = .ok (.iload 4, 2) := dk_21 4 (dk_at dksJ4_inflate_0 12 rfl rfl)
theorem dJ4_inflate_14 : decode cJ4_inflate 14 = .ok (.if_icmp .ge 27, 3) := dk_162 0 27 (dk_at dksJ4_inflate_0 14 rfl rfl)
theorem dJ4_inflate_17 : decode cJ4_inflate 17 = .ok (.aload_n 2, 1) := dk_44 (dk_at dksJ4_inflate_0 17 rfl rfl)
theorem dJ4_inflate_18 : decode cJ4_inflate 18 = .ok (.iload_n 3, 1) := dk_29 (dk_at dksJ4_inflate_0 18 rfl rfl)
theorem dJ4_inflate_19 : decode cJ4_inflate 19 = .ok (.iinc 3 1, 3) := dk_132 3 1 (dk_at dksJ4_inflate_0 19 rfl rfl)
theorem dJ4_inflate_22 : decode cJ4_inflate 22 = .ok (.aload_n 0, 1) := dk_42 (dk_at dksJ4_inflate_0 22 rfl rfl)
theorem dJ4_inflate_23 : decode cJ4_inflate 23 = .ok (.iload_n 1, 1) := dk_27 (dk_at dksJ4_inflate_0 23 rfl rfl)
theorem dJ4_inflate_24 : decode cJ4_inflate 24 = .ok (.iinc 1 1, 3) := dk_132 1 1 (dk_at dksJ4_inflate_1 0 rfl rfl)
theorem dJ4_inflate_27 : decode cJ4_inflate 27 = .ok (.baload, 1) := dk_51 (dk_at dksJ4_inflate_1 3 rfl rfl)
theorem dJ4_inflate_28 : decode cJ4_inflate 28 = .ok (.sipush 255, 3) := dk_17 0 255 (dk_at dksJ4_inflate_1 4 rfl rfl)
theorem dJ4_inflate_31 : decode cJ4_inflate 31 = .ok (.iand, 1) := dk_126 (dk_at dksJ4_inflate_1 7 rfl rfl)
theorem dJ4_inflate_32 : decode cJ4_inflate 32 = .ok (.invokestatic 111, 3) := dk_184 0 111 (dk_at dksJ4_inflate_1 8 rfl rfl)
theorem dJ4_inflate_35 : decode cJ4_inflate 35 = .ok (.iinc 5 1, 3) := dk_132 5 1 (dk_at dksJ4_inflate_1 11 rfl rfl)
theorem dJ4_inflate_38 : decode cJ4_inflate 38 = .ok (.goto (-28), 3) := dk_167 255 228 (dk_at dksJ4_inflate_1 14 rfl rfl)
theorem dJ4_inflate_41 : decode cJ4_inflate 41 = .ok (.return_, 1) := dk_177 (dk_at dksJ4_inflate_1 17 rfl rfl)
abbrev cJ4_checkBoundsOffCount : ByteArray := prog_40_method_94_code
def yJ4_checkBoundsOffCount : MethodName := ⟨RJ4, "checkBoundsOffCount", "(II[B)V"⟩
def dkwJ4_checkBoundsOffCount_0 : List UInt8 := [26, 27, 44, 184, 0, 48, 184, 1, 163, 87, 177]
abbrev dktJ4_checkBoundsOffCount_0 : List UInt8 := dkwJ4_checkBoundsOffCount_0 ++ []
theorem dksJ4_checkBoundsOffCount_0 : cJ4_checkBoundsOffCount.data.toList.drop 0 = dktJ4_checkBoundsOffCount_0 := by decide +kernel
theorem dJ4_checkBoundsOffCount_0 : decode cJ4_checkBoundsOffCount 0 = .ok (.iload_n 0, 1) := dk_26 (dk_at dksJ4_checkBoundsOffCount_0 0 rfl rfl)
theorem dJ4_checkBoundsOffCount_1 : decode cJ4_checkBoundsOffCount 1 = .ok (.iload_n 1, 1) := dk_27 (dk_at dksJ4_checkBoundsOffCount_0 1 rfl rfl)
theorem dJ4_checkBoundsOffCount_2 : decode cJ4_checkBoundsOffCount 2 = .ok (.aload_n 2, 1) := dk_44 (dk_at dksJ4_checkBoundsOffCount_0 2 rfl rfl)
theorem dJ4_checkBoundsOffCount_3 : decode cJ4_checkBoundsOffCount 3 = .ok (.invokestatic 48, 3) := dk_184 0 48 (dk_at dksJ4_checkBoundsOffCount_0 3 rfl rfl)
theorem dJ4_checkBoundsOffCount_6 : decode cJ4_checkBoundsOffCount 6 = .ok (.invokestatic 419, 3) := dk_184 1 163 (dk_at dksJ4_checkBoundsOffCount_0 6 rfl rfl)
theorem dJ4_checkBoundsOffCount_9 : decode cJ4_checkBoundsOffCount 9 = .ok (.pop, 1) := dk_87 (dk_at dksJ4_checkBoundsOffCount_0 9 rfl rfl)
theorem dJ4_checkBoundsOffCount_10 : decode cJ4_checkBoundsOffCount 10 = .ok (.return_, 1) := dk_177 (dk_at dksJ4_checkBoundsOffCount_0 10 rfl rfl)
abbrev cJ4_length : ByteArray := prog_40_method_6_code
def yJ4_length : MethodName := ⟨RJ4, "length", "([B)I"⟩
def dkwJ4_length_0 : List UInt8 := [42, 190, 4, 122, 172]
abbrev dktJ4_length_0 : List UInt8 := dkwJ4_length_0 ++ []
theorem dksJ4_length_0 : cJ4_length.data.toList.drop 0 = dktJ4_length_0 := by decide +kernel
theorem dJ4_length_0 : decode cJ4_length 0 = .ok (.aload_n 0, 1) := dk_42 (dk_at dksJ4_length_0 0 rfl rfl)
theorem dJ4_length_1 : decode cJ4_length 1 = .ok (.arraylength, 1) := dk_190 (dk_at dksJ4_length_0 1 rfl rfl)
theorem dJ4_length_2 : decode cJ4_length 2 = .ok (.iconst 1, 1) := dk_4 (dk_at dksJ4_length_0 2 rfl rfl)
theorem dJ4_length_3 : decode cJ4_length 3 = .ok (.ishr, 1) := dk_122 (dk_at dksJ4_length_0 3 rfl rfl)
theorem dJ4_length_4 : decode cJ4_length 4 = .ok (.ireturn, 1) := dk_172 (dk_at dksJ4_length_0 4 rfl rfl)
abbrev cJ4_putChar : ByteArray := prog_40_method_4_code
def yJ4_putChar : MethodName := ⟨RJ4, "putChar", "([BII)V"⟩
def dkwJ4_putChar_2 : List UInt8 := [178, 0, 63, 122, 145, 84, 177]
abbrev dktJ4_putChar_2 : List UInt8 := dkwJ4_putChar_2 ++ []
def dkwJ4_putChar_1 : List UInt8 := [183, 0, 56, 191, 27, 4, 120, 60, 42, 27, 132, 1, 1, 28, 178, 0, 59, 122, 145, 84, 42, 27, 28]
abbrev dktJ4_putChar_1 : List UInt8 := dkwJ4_putChar_1 ++ dktJ4_putChar_2
def dkwJ4_putChar_0 : List UInt8 := [178, 0, 44, 154, 0, 25, 27, 155, 0, 11, 27, 42, 184, 0, 48, 161, 0, 13, 187, 0, 52, 89, 18, 54]
abbrev dktJ4_putChar_0 : List UInt8 := dkwJ4_putChar_0 ++ dktJ4_putChar_1
theorem dksJ4_putChar_0 : cJ4_putChar.data.toList.drop 0 = dktJ4_putChar_0 := by decide +kernel
theorem dksJ4_putChar_1 : cJ4_putChar.data.toList.drop 24 = dktJ4_putChar_1 := dk_seg dksJ4_putChar_0 24 rfl rfl
theorem dksJ4_putChar_2 : cJ4_putChar.data.toList.drop 47 = dktJ4_putChar_2 := dk_seg dksJ4_putChar_1 23 rfl rfl
theorem dJ4_putChar_0 : decode cJ4_putChar 0 = .ok (.getstatic 44, 3) := dk_178 0 44 (dk_at dksJ4_putChar_0 0 rfl rfl)
theorem dJ4_putChar_3 : decode cJ4_putChar 3 = .ok (.ifCond .ne 25, 3) := dk_154 0 25 (dk_at dksJ4_putChar_0 3 rfl rfl)
theorem dJ4_putChar_6 : decode cJ4_putChar 6 = .ok (.iload_n 1, 1) := dk_27 (dk_at dksJ4_putChar_0 6 rfl rfl)
theorem dJ4_putChar_7 : decode cJ4_putChar 7 = .ok (.ifCond .lt 11, 3) := dk_155 0 11 (dk_at dksJ4_putChar_0 7 rfl rfl)
theorem dJ4_putChar_10 : decode cJ4_putChar 10 = .ok (.iload_n 1, 1) := dk_27 (dk_at dksJ4_putChar_0 10 rfl rfl)
theorem dJ4_putChar_11 : decode cJ4_putChar 11 = .ok (.aload_n 0, 1) := dk_42 (dk_at dksJ4_putChar_0 11 rfl rfl)
theorem dJ4_putChar_12 : decode cJ4_putChar 12 = .ok (.invokestatic 48, 3) := dk_184 0 48 (dk_at dksJ4_putChar_0 12 rfl rfl)
theorem dJ4_putChar_15 : decode cJ4_putChar 15 = .ok (.if_icmp .lt 13, 3) := dk_161 0 13 (dk_at dksJ4_putChar_0 15 rfl rfl)
theorem dJ4_putChar_18 : decode cJ4_putChar 18 = .ok (.new 52, 3) := dk_187 0 52 (dk_at dksJ4_putChar_0 18 rfl rfl)
theorem dJ4_putChar_21 : decode cJ4_putChar 21 = .ok (.dup, 1) := dk_89 (dk_at dksJ4_putChar_0 21 rfl rfl)
theorem dJ4_putChar_22 : decode cJ4_putChar 22 = .ok (.ldc 54, 2) := dk_18 54 (dk_at dksJ4_putChar_0 22 rfl rfl)
theorem dJ4_putChar_24 : decode cJ4_putChar 24 = .ok (.invokespecial 56, 3) := dk_183 0 56 (dk_at dksJ4_putChar_1 0 rfl rfl)
theorem dJ4_putChar_27 : decode cJ4_putChar 27 = .ok (.athrow, 1) := dk_191 (dk_at dksJ4_putChar_1 3 rfl rfl)
theorem dJ4_putChar_28 : decode cJ4_putChar 28 = .ok (.iload_n 1, 1) := dk_27 (dk_at dksJ4_putChar_1 4 rfl rfl)
theorem dJ4_putChar_29 : decode cJ4_putChar 29 = .ok (.iconst 1, 1) := dk_4 (dk_at dksJ4_putChar_1 5 rfl rfl)
theorem dJ4_putChar_30 : decode cJ4_putChar 30 = .ok (.ishl, 1) := dk_120 (dk_at dksJ4_putChar_1 6 rfl rfl)
theorem dJ4_putChar_31 : decode cJ4_putChar 31 = .ok (.istore_n 1, 1) := dk_60 (dk_at dksJ4_putChar_1 7 rfl rfl)
theorem dJ4_putChar_32 : decode cJ4_putChar 32 = .ok (.aload_n 0, 1) := dk_42 (dk_at dksJ4_putChar_1 8 rfl rfl)
theorem dJ4_putChar_33 : decode cJ4_putChar 33 = .ok (.iload_n 1, 1) := dk_27 (dk_at dksJ4_putChar_1 9 rfl rfl)
theorem dJ4_putChar_34 : decode cJ4_putChar 34 = .ok (.iinc 1 1, 3) := dk_132 1 1 (dk_at dksJ4_putChar_1 10 rfl rfl)
theorem dJ4_putChar_37 : decode cJ4_putChar 37 = .ok (.iload_n 2, 1) := dk_28 (dk_at dksJ4_putChar_1 13 rfl rfl)
theorem dJ4_putChar_38 : decode cJ4_putChar 38 = .ok (.getstatic 59, 3) := dk_178 0 59 (dk_at dksJ4_putChar_1 14 rfl rfl)
theorem dJ4_putChar_41 : decode cJ4_putChar 41 = .ok (.ishr, 1) := dk_122 (dk_at dksJ4_putChar_1 17 rfl rfl)
theorem dJ4_putChar_42 : decode cJ4_putChar 42 = .ok (.i2b, 1) := dk_145 (dk_at dksJ4_putChar_1 18 rfl rfl)
theorem dJ4_putChar_43 : decode cJ4_putChar 43 = .ok (.bastore, 1) := dk_84 (dk_at dksJ4_putChar_1 19 rfl rfl)
theorem dJ4_putChar_44 : decode cJ4_putChar 44 = .ok (.aload_n 0, 1) := dk_42 (dk_at dksJ4_putChar_1 20 rfl rfl)
theorem dJ4_putChar_45 : decode cJ4_putChar 45 = .ok (.iload_n 1, 1) := dk_27 (dk_at dksJ4_putChar_1 21 rfl rfl)
theorem dJ4_putChar_46 : decode cJ4_putChar 46 = .ok (.iload_n 2, 1) := dk_28 (dk_at dksJ4_putChar_1 22 rfl rfl)
theorem dJ4_putChar_47 : decode cJ4_putChar 47 = .ok (.getstatic 63, 3) := dk_178 0 63 (dk_at dksJ4_putChar_2 0 rfl rfl)
theorem dJ4_putChar_50 : decode cJ4_putChar 50 = .ok (.ishr, 1) := dk_122 (dk_at dksJ4_putChar_2 3 rfl rfl)
theorem dJ4_putChar_51 : decode cJ4_putChar 51 = .ok (.i2b, 1) := dk_145 (dk_at dksJ4_putChar_2 4 rfl rfl)
theorem dJ4_putChar_52 : decode cJ4_putChar 52 = .ok (.bastore, 1) := dk_84 (dk_at dksJ4_putChar_2 5 rfl rfl)
theorem dJ4_putChar_53 : decode cJ4_putChar 53 = .ok (.return_, 1) := dk_177 (dk_at dksJ4_putChar_2 6 rfl rfl)
abbrev cJ4_putCharSB : ByteArray := prog_40_method_71_code
def yJ4_putCharSB : MethodName := ⟨RJ4, "putCharSB", "([BII)V"⟩
def dkwJ4_putCharSB_0 : List UInt8 := [27, 42, 184, 0, 67, 42, 27, 28, 184, 0, 111, 177]
abbrev dktJ4_putCharSB_0 : List UInt8 := dkwJ4_putCharSB_0 ++ []
theorem dksJ4_putCharSB_0 : cJ4_putCharSB.data.toList.drop 0 = dktJ4_putCharSB_0 := by decide +kernel
theorem dJ4_putCharSB_0 : decode cJ4_putCharSB 0 = .ok (.iload_n 1, 1) := dk_27 (dk_at dksJ4_putCharSB_0 0 rfl rfl)
theorem dJ4_putCharSB_1 : decode cJ4_putCharSB 1 = .ok (.aload_n 0, 1) := dk_42 (dk_at dksJ4_putCharSB_0 1 rfl rfl)
theorem dJ4_putCharSB_2 : decode cJ4_putCharSB 2 = .ok (.invokestatic 67, 3) := dk_184 0 67 (dk_at dksJ4_putCharSB_0 2 rfl rfl)
theorem dJ4_putCharSB_5 : decode cJ4_putCharSB 5 = .ok (.aload_n 0, 1) := dk_42 (dk_at dksJ4_putCharSB_0 5 rfl rfl)
theorem dJ4_putCharSB_6 : decode cJ4_putCharSB 6 = .ok (.iload_n 1, 1) := dk_27 (dk_at dksJ4_putCharSB_0 6 rfl rfl)
theorem dJ4_putCharSB_7 : decode cJ4_putCharSB 7 = .ok (.iload_n 2, 1) := dk_28 (dk_at dksJ4_putCharSB_0 7 rfl rfl)
theorem dJ4_putCharSB_8 : decode cJ4_putCharSB 8 = .ok (.invokestatic 111, 3) := dk_184 0 111 (dk_at dksJ4_putCharSB_0 8 rfl rfl)
theorem dJ4_putCharSB_11 : decode cJ4_putCharSB 11 = .ok (.return_, 1) := dk_177 (dk_at dksJ4_putCharSB_0 11 rfl rfl)
abbrev cJ4_checkIndex : ByteArray := prog_40_method_91_code
def yJ4_checkIndex : MethodName := ⟨RJ4, "checkIndex", "(I[B)V"⟩
def dkwJ4_checkIndex_0 : List UInt8 := [26, 43, 184, 0, 48, 184, 1, 158, 177]
abbrev dktJ4_checkIndex_0 : List UInt8 := dkwJ4_checkIndex_0 ++ []
theorem dksJ4_checkIndex_0 : cJ4_checkIndex.data.toList.drop 0 = dktJ4_checkIndex_0 := by decide +kernel
theorem dJ4_checkIndex_0 : decode cJ4_checkIndex 0 = .ok (.iload_n 0, 1) := dk_26 (dk_at dksJ4_checkIndex_0 0 rfl rfl)
theorem dJ4_checkIndex_1 : decode cJ4_checkIndex 1 = .ok (.aload_n 1, 1) := dk_43 (dk_at dksJ4_checkIndex_0 1 rfl rfl)
theorem dJ4_checkIndex_2 : decode cJ4_checkIndex 2 = .ok (.invokestatic 48, 3) := dk_184 0 48 (dk_at dksJ4_checkIndex_0 2 rfl rfl)
theorem dJ4_checkIndex_5 : decode cJ4_checkIndex 5 = .ok (.invokestatic 414, 3) := dk_184 1 158 (dk_at dksJ4_checkIndex_0 5 rfl rfl)
theorem dJ4_checkIndex_8 : decode cJ4_checkIndex 8 = .ok (.return_, 1) := dk_177 (dk_at dksJ4_checkIndex_0 8 rfl rfl)
abbrev cJ4_compress : ByteArray := prog_40_method_17_code
def yJ4_compress : MethodName := ⟨RJ4, "compress", "([BII)[B"⟩
def dkwJ4_compress_2 : List UInt8 := [25, 5, 3, 45, 3, 28, 184, 0, 123, 28, 159, 0, 6, 25, 5, 176, 45, 176]
abbrev dktJ4_compress_2 : List UInt8 := dkwJ4_compress_2 ++ []
def dkwJ4_compress_1 : List UInt8 := [27, 28, 96, 184, 0, 11, 184, 0, 126, 58, 5, 25, 5, 21, 4, 184, 0, 71, 17, 0, 255, 163, 0, 16]
abbrev dktJ4_compress_1 : List UInt8 := dkwJ4_compress_1 ++ dktJ4_compress_2
def dkwJ4_compress_0 : List UInt8 := [28, 188, 8, 78, 42, 27, 45, 3, 28, 184, 0, 123, 54, 4, 21, 4, 28, 159, 0, 47, 42, 27, 4, 120]
abbrev dktJ4_compress_0 : List UInt8 := dkwJ4_compress_0 ++ dktJ4_compress_1
theorem dksJ4_compress_0 : cJ4_compress.data.toList.drop 0 = dktJ4_compress_0 := by decide +kernel
theorem dksJ4_compress_1 : cJ4_compress.data.toList.drop 24 = dktJ4_compress_1 := dk_seg dksJ4_compress_0 24 rfl rfl
theorem dksJ4_compress_2 : cJ4_compress.data.toList.drop 48 = dktJ4_compress_2 := dk_seg dksJ4_compress_1 24 rfl rfl
theorem dJ4_compress_0 : decode cJ4_compress 0 = .ok (.iload_n 2, 1) := dk_28 (dk_at dksJ4_compress_0 0 rfl rfl)
theorem dJ4_compress_1 : decode cJ4_compress 1 = .ok (.newarray .byte, 2) := dk_188_8 (dk_at dksJ4_compress_0 1 rfl rfl)
theorem dJ4_compress_3 : decode cJ4_compress 3 = .ok (.astore_n 3, 1) := dk_78 (dk_at dksJ4_compress_0 3 rfl rfl)
theorem dJ4_compress_4 : decode cJ4_compress 4 = .ok (.aload_n 0, 1) := dk_42 (dk_at dksJ4_compress_0 4 rfl rfl)
theorem dJ4_compress_5 : decode cJ4_compress 5 = .ok (.iload_n 1, 1) := dk_27 (dk_at dksJ4_compress_0 5 rfl rfl)
theorem dJ4_compress_6 : decode cJ4_compress 6 = .ok (.aload_n 3, 1) := dk_45 (dk_at dksJ4_compress_0 6 rfl rfl)
theorem dJ4_compress_7 : decode cJ4_compress 7 = .ok (.iconst 0, 1) := dk_3 (dk_at dksJ4_compress_0 7 rfl rfl)
theorem dJ4_compress_8 : decode cJ4_compress 8 = .ok (.iload_n 2, 1) := dk_28 (dk_at dksJ4_compress_0 8 rfl rfl)
theorem dJ4_compress_9 : decode cJ4_compress 9 = .ok (.invokestatic 123, 3) := dk_184 0 123 (dk_at dksJ4_compress_0 9 rfl rfl)
theorem dJ4_compress_12 : decode cJ4_compress 12 = .ok (.istore 4, 2) := dk_54 4 (dk_at dksJ4_compress_0 12 rfl rfl)
theorem dJ4_compress_14 : decode cJ4_compress 14 = .ok (.iload 4, 2) := dk_21 4 (dk_at dksJ4_compress_0 14 rfl rfl)
theorem dJ4_compress_16 : decode cJ4_compress 16 = .ok (.iload_n 2, 1) := dk_28 (dk_at dksJ4_compress_0 16 rfl rfl)
theorem dJ4_compress_17 : decode cJ4_compress 17 = .ok (.if_icmp .eq 47, 3) := dk_159 0 47 (dk_at dksJ4_compress_0 17 rfl rfl)
theorem dJ4_compress_20 : decode cJ4_compress 20 = .ok (.aload_n 0, 1) := dk_42 (dk_at dksJ4_compress_0 20 rfl rfl)
theorem dJ4_compress_21 : decode cJ4_compress 21 = .ok (.iload_n 1, 1) := dk_27 (dk_at dksJ4_compress_0 21 rfl rfl)
theorem dJ4_compress_22 : decode cJ4_compress 22 = .ok (.iconst 1, 1) := dk_4 (dk_at dksJ4_compress_0 22 rfl rfl)
theorem dJ4_compress_23 : decode cJ4_compress 23 = .ok (.ishl, 1) := dk_120 (dk_at dksJ4_compress_0 23 rfl rfl)
theorem dJ4_compress_24 : decode cJ4_compress 24 = .ok (.iload_n 1, 1) := dk_27 (dk_at dksJ4_compress_1 0 rfl rfl)
theorem dJ4_compress_25 : decode cJ4_compress 25 = .ok (.iload_n 2, 1) := dk_28 (dk_at dksJ4_compress_1 1 rfl rfl)
theorem dJ4_compress_26 : decode cJ4_compress 26 = .ok (.iadd, 1) := dk_96 (dk_at dksJ4_compress_1 2 rfl rfl)
theorem dJ4_compress_27 : decode cJ4_compress 27 = .ok (.invokestatic 11, 3) := dk_184 0 11 (dk_at dksJ4_compress_1 3 rfl rfl)
theorem dJ4_compress_30 : decode cJ4_compress 30 = .ok (.invokestatic 126, 3) := dk_184 0 126 (dk_at dksJ4_compress_1 6 rfl rfl)
theorem dJ4_compress_33 : decode cJ4_compress 33 = .ok (.astore 5, 2) := dk_58 5 (dk_at dksJ4_compress_1 9 rfl rfl)
theorem dJ4_compress_35 : decode cJ4_compress 35 = .ok (.aload 5, 2) := dk_25 5 (dk_at dksJ4_compress_1 11 rfl rfl)
theorem dJ4_compress_37 : decode cJ4_compress 37 = .ok (.iload 4, 2) := dk_21 4 (dk_at dksJ4_compress_1 13 rfl rfl)
theorem dJ4_compress_39 : decode cJ4_compress 39 = .ok (.invokestatic 71, 3) := dk_184 0 71 (dk_at dksJ4_compress_1 15 rfl rfl)
theorem dJ4_compress_42 : decode cJ4_compress 42 = .ok (.sipush 255, 3) := dk_17 0 255 (dk_at dksJ4_compress_1 18 rfl rfl)
theorem dJ4_compress_45 : decode cJ4_compress 45 = .ok (.if_icmp .gt 16, 3) := dk_163 0 16 (dk_at dksJ4_compress_1 21 rfl rfl)
theorem dJ4_compress_48 : decode cJ4_compress 48 = .ok (.aload 5, 2) := dk_25 5 (dk_at dksJ4_compress_2 0 rfl rfl)
theorem dJ4_compress_50 : decode cJ4_compress 50 = .ok (.iconst 0, 1) := dk_3 (dk_at dksJ4_compress_2 2 rfl rfl)
theorem dJ4_compress_51 : decode cJ4_compress 51 = .ok (.aload_n 3, 1) := dk_45 (dk_at dksJ4_compress_2 3 rfl rfl)
theorem dJ4_compress_52 : decode cJ4_compress 52 = .ok (.iconst 0, 1) := dk_3 (dk_at dksJ4_compress_2 4 rfl rfl)
theorem dJ4_compress_53 : decode cJ4_compress 53 = .ok (.iload_n 2, 1) := dk_28 (dk_at dksJ4_compress_2 5 rfl rfl)
theorem dJ4_compress_54 : decode cJ4_compress 54 = .ok (.invokestatic 123, 3) := dk_184 0 123 (dk_at dksJ4_compress_2 6 rfl rfl)
theorem dJ4_compress_57 : decode cJ4_compress 57 = .ok (.iload_n 2, 1) := dk_28 (dk_at dksJ4_compress_2 9 rfl rfl)
theorem dJ4_compress_58 : decode cJ4_compress 58 = .ok (.if_icmp .eq 6, 3) := dk_159 0 6 (dk_at dksJ4_compress_2 10 rfl rfl)
theorem dJ4_compress_61 : decode cJ4_compress 61 = .ok (.aload 5, 2) := dk_25 5 (dk_at dksJ4_compress_2 13 rfl rfl)
theorem dJ4_compress_63 : decode cJ4_compress 63 = .ok (.areturn, 1) := dk_176 (dk_at dksJ4_compress_2 15 rfl rfl)
theorem dJ4_compress_64 : decode cJ4_compress 64 = .ok (.aload_n 3, 1) := dk_45 (dk_at dksJ4_compress_2 16 rfl rfl)
theorem dJ4_compress_65 : decode cJ4_compress 65 = .ok (.areturn, 1) := dk_176 (dk_at dksJ4_compress_2 17 rfl rfl)
abbrev cJ4_compress_2 : ByteArray := prog_40_method_22_code
def yJ4_compress_2 : MethodName := ⟨RJ4, "compress", "([BI[BII)I"⟩
def dkwJ4_compress_2_2 : List UInt8 := [132, 5, 1, 167, 255, 216, 21, 4, 172]
abbrev dktJ4_compress_2_2 : List UInt8 := dkwJ4_compress_2_2 ++ []
def dkwJ4_compress_2_1 : List UInt8 := [21, 6, 17, 0, 255, 164, 0, 6, 21, 5, 172, 44, 29, 21, 6, 145, 84, 132, 1, 1, 132, 3, 1]
abbrev dktJ4_compress_2_1 : List UInt8 := dkwJ4_compress_2_1 ++ dktJ4_compress_2_2
def dkwJ4_compress_2_0 : List UInt8 := [27, 21, 4, 42, 184, 0, 173, 3, 54, 5, 21, 5, 21, 4, 162, 0, 39, 42, 27, 184, 0, 71, 54, 6]
abbrev dktJ4_compress_2_0 : List UInt8 := dkwJ4_compress_2_0 ++ dktJ4_compress_2_1
theorem dksJ4_compress_2_0 : cJ4_compress_2.data.toList.drop 0 = dktJ4_compress_2_0 := by decide +kernel
theorem dksJ4_compress_2_1 : cJ4_compress_2.data.toList.drop 24 = dktJ4_compress_2_1 := dk_seg dksJ4_compress_2_0 24 rfl rfl
theorem dksJ4_compress_2_2 : cJ4_compress_2.data.toList.drop 47 = dktJ4_compress_2_2 := dk_seg dksJ4_compress_2_1 23 rfl rfl
theorem dJ4_compress_2_0 : decode cJ4_compress_2 0 = .ok (.iload_n 1, 1) := dk_27 (dk_at dksJ4_compress_2_0 0 rfl rfl)
theorem dJ4_compress_2_1 : decode cJ4_compress_2 1 = .ok (.iload 4, 2) := dk_21 4 (dk_at dksJ4_compress_2_0 1 rfl rfl)
theorem dJ4_compress_2_3 : decode cJ4_compress_2 3 = .ok (.aload_n 0, 1) := dk_42 (dk_at dksJ4_compress_2_0 3 rfl rfl)
theorem dJ4_compress_2_4 : decode cJ4_compress_2 4 = .ok (.invokestatic 173, 3) := dk_184 0 173 (dk_at dksJ4_compress_2_0 4 rfl rfl)
theorem dJ4_compress_2_7 : decode cJ4_compress_2 7 = .ok (.iconst 0, 1) := dk_3 (dk_at dksJ4_compress_2_0 7 rfl rfl)
theorem dJ4_compress_2_8 : decode cJ4_compress_2 8 = .ok (.istore 5, 2) := dk_54 5 (dk_at dksJ4_compress_2_0 8 rfl rfl)
theorem dJ4_compress_2_10 : decode cJ4_compress_2 10 = .ok (.iload 5, 2) := dk_21 5 (dk_at dksJ4_compress_2_0 10 rfl rfl)
theorem dJ4_compress_2_12 : decode cJ4_compress_2 12 = .ok (.iload 4, 2) := dk_21 4 (dk_at dksJ4_compress_2_0 12 rfl rfl)
theorem dJ4_compress_2_14 : decode cJ4_compress_2 14 = .ok (.if_icmp .ge 39, 3) := dk_162 0 39 (dk_at dksJ4_compress_2_0 14 rfl rfl)
theorem dJ4_compress_2_17 : decode cJ4_compress_2 17 = .ok (.aload_n 0, 1) := dk_42 (dk_at dksJ4_compress_2_0 17 rfl rfl)
theorem dJ4_compress_2_18 : decode cJ4_compress_2 18 = .ok (.iload_n 1, 1) := dk_27 (dk_at dksJ4_compress_2_0 18 rfl rfl)
theorem dJ4_compress_2_19 : decode cJ4_compress_2 19 = .ok (.invokestatic 71, 3) := dk_184 0 71 (dk_at dksJ4_compress_2_0 19 rfl rfl)
theorem dJ4_compress_2_22 : decode cJ4_compress_2 22 = .ok (.istore 6, 2) := dk_54 6 (dk_at dksJ4_compress_2_0 22 rfl rfl)
theorem dJ4_compress_2_24 : decode cJ4_compress_2 24 = .ok (.iload 6, 2) := dk_21 6 (dk_at dksJ4_compress_2_1 0 rfl rfl)
theorem dJ4_compress_2_26 : decode cJ4_compress_2 26 = .ok (.sipush 255, 3) := dk_17 0 255 (dk_at dksJ4_compress_2_1 2 rfl rfl)
theorem dJ4_compress_2_29 : decode cJ4_compress_2 29 = .ok (.if_icmp .le 6, 3) := dk_164 0 6 (dk_at dksJ4_compress_2_1 5 rfl rfl)
theorem dJ4_compress_2_32 : decode cJ4_compress_2 32 = .ok (.iload 5, 2) := dk_21 5 (dk_at dksJ4_compress_2_1 8 rfl rfl)
theorem dJ4_compress_2_34 : decode cJ4_compress_2 34 = .ok (.ireturn, 1) := dk_172 (dk_at dksJ4_compress_2_1 10 rfl rfl)
theorem dJ4_compress_2_35 : decode cJ4_compress_2 35 = .ok (.aload_n 2, 1) := dk_44 (dk_at dksJ4_compress_2_1 11 rfl rfl)
theorem dJ4_compress_2_36 : decode cJ4_compress_2 36 = .ok (.iload_n 3, 1) := dk_29 (dk_at dksJ4_compress_2_1 12 rfl rfl)
theorem dJ4_compress_2_37 : decode cJ4_compress_2 37 = .ok (.iload 6, 2) := dk_21 6 (dk_at dksJ4_compress_2_1 13 rfl rfl)
theorem dJ4_compress_2_39 : decode cJ4_compress_2 39 = .ok (.i2b, 1) := dk_145 (dk_at dksJ4_compress_2_1 15 rfl rfl)
theorem dJ4_compress_2_40 : decode cJ4_compress_2 40 = .ok (.bastore, 1) := dk_84 (dk_at dksJ4_compress_2_1 16 rfl rfl)
theorem dJ4_compress_2_41 : decode cJ4_compress_2 41 = .ok (.iinc 1 1, 3) := dk_132 1 1 (dk_at dksJ4_compress_2_1 17 rfl rfl)
theorem dJ4_compress_2_44 : decode cJ4_compress_2 44 = .ok (.iinc 3 1, 3) := dk_132 3 1 (dk_at dksJ4_compress_2_1 20 rfl rfl)
theorem dJ4_compress_2_47 : decode cJ4_compress_2 47 = .ok (.iinc 5 1, 3) := dk_132 5 1 (dk_at dksJ4_compress_2_2 0 rfl rfl)
theorem dJ4_compress_2_50 : decode cJ4_compress_2 50 = .ok (.goto (-40), 3) := dk_167 255 216 (dk_at dksJ4_compress_2_2 3 rfl rfl)
theorem dJ4_compress_2_53 : decode cJ4_compress_2 53 = .ok (.iload 4, 2) := dk_21 4 (dk_at dksJ4_compress_2_2 6 rfl rfl)
theorem dJ4_compress_2_55 : decode cJ4_compress_2 55 = .ok (.ireturn, 1) := dk_172 (dk_at dksJ4_compress_2_2 8 rfl rfl)
abbrev cJ4_getChar : ByteArray := prog_40_method_5_code
def yJ4_getChar : MethodName := ⟨RJ4, "getChar", "([BI)C"⟩
def dkwJ4_getChar_2 : List UInt8 := [51, 17, 0, 255, 126, 178, 0, 63, 120, 128, 146, 172]
abbrev dktJ4_getChar_2 : List UInt8 := dkwJ4_getChar_2 ++ []
def dkwJ4_getChar_1 : List UInt8 := [183, 0, 56, 191, 27, 4, 120, 60, 42, 27, 132, 1, 1, 51, 17, 0, 255, 126, 178, 0, 59, 120, 42, 27]
abbrev dktJ4_getChar_1 : List UInt8 := dkwJ4_getChar_1 ++ dktJ4_getChar_2
def dkwJ4_getChar_0 : List UInt8 := [178, 0, 44, 154, 0, 25, 27, 155, 0, 11, 27, 42, 184, 0, 48, 161, 0, 13, 187, 0, 52, 89, 18, 54]
abbrev dktJ4_getChar_0 : List UInt8 := dkwJ4_getChar_0 ++ dktJ4_getChar_1
theorem dksJ4_getChar_0 : cJ4_getChar.data.toList.drop 0 = dktJ4_getChar_0 := by decide +kernel
theorem dksJ4_getChar_1 : cJ4_getChar.data.toList.drop 24 = dktJ4_getChar_1 := dk_seg dksJ4_getChar_0 24 rfl rfl
theorem dksJ4_getChar_2 : cJ4_getChar.data.toList.drop 48 = dktJ4_getChar_2 := dk_seg dksJ4_getChar_1 24 rfl rfl
theorem dJ4_getChar_0 : decode cJ4_getChar 0 = .ok (.getstatic 44, 3) := dk_178 0 44 (dk_at dksJ4_getChar_0 0 rfl rfl)
theorem dJ4_getChar_3 : decode cJ4_getChar 3 = .ok (.ifCond .ne 25, 3) := dk_154 0 25 (dk_at dksJ4_getChar_0 3 rfl rfl)
theorem dJ4_getChar_6 : decode cJ4_getChar 6 = .ok (.iload_n 1, 1) := dk_27 (dk_at dksJ4_getChar_0 6 rfl rfl)
theorem dJ4_getChar_7 : decode cJ4_getChar 7 = .ok (.ifCond .lt 11, 3) := dk_155 0 11 (dk_at dksJ4_getChar_0 7 rfl rfl)
theorem dJ4_getChar_10 : decode cJ4_getChar 10 = .ok (.iload_n 1, 1) := dk_27 (dk_at dksJ4_getChar_0 10 rfl rfl)
theorem dJ4_getChar_11 : decode cJ4_getChar 11 = .ok (.aload_n 0, 1) := dk_42 (dk_at dksJ4_getChar_0 11 rfl rfl)
theorem dJ4_getChar_12 : decode cJ4_getChar 12 = .ok (.invokestatic 48, 3) := dk_184 0 48 (dk_at dksJ4_getChar_0 12 rfl rfl)
theorem dJ4_getChar_15 : decode cJ4_getChar 15 = .ok (.if_icmp .lt 13, 3) := dk_161 0 13 (dk_at dksJ4_getChar_0 15 rfl rfl)
theorem dJ4_getChar_18 : decode cJ4_getChar 18 = .ok (.new 52, 3) := dk_187 0 52 (dk_at dksJ4_getChar_0 18 rfl rfl)
theorem dJ4_getChar_21 : decode cJ4_getChar 21 = .ok (.dup, 1) := dk_89 (dk_at dksJ4_getChar_0 21 rfl rfl)
theorem dJ4_getChar_22 : decode cJ4_getChar 22 = .ok (.ldc 54, 2) := dk_18 54 (dk_at dksJ4_getChar_0 22 rfl rfl)
theorem dJ4_getChar_24 : decode cJ4_getChar 24 = .ok (.invokespecial 56, 3) := dk_183 0 56 (dk_at dksJ4_getChar_1 0 rfl rfl)
theorem dJ4_getChar_27 : decode cJ4_getChar 27 = .ok (.athrow, 1) := dk_191 (dk_at dksJ4_getChar_1 3 rfl rfl)
theorem dJ4_getChar_28 : decode cJ4_getChar 28 = .ok (.iload_n 1, 1) := dk_27 (dk_at dksJ4_getChar_1 4 rfl rfl)
theorem dJ4_getChar_29 : decode cJ4_getChar 29 = .ok (.iconst 1, 1) := dk_4 (dk_at dksJ4_getChar_1 5 rfl rfl)
theorem dJ4_getChar_30 : decode cJ4_getChar 30 = .ok (.ishl, 1) := dk_120 (dk_at dksJ4_getChar_1 6 rfl rfl)
theorem dJ4_getChar_31 : decode cJ4_getChar 31 = .ok (.istore_n 1, 1) := dk_60 (dk_at dksJ4_getChar_1 7 rfl rfl)
theorem dJ4_getChar_32 : decode cJ4_getChar 32 = .ok (.aload_n 0, 1) := dk_42 (dk_at dksJ4_getChar_1 8 rfl rfl)
theorem dJ4_getChar_33 : decode cJ4_getChar 33 = .ok (.iload_n 1, 1) := dk_27 (dk_at dksJ4_getChar_1 9 rfl rfl)
theorem dJ4_getChar_34 : decode cJ4_getChar 34 = .ok (.iinc 1 1, 3) := dk_132 1 1 (dk_at dksJ4_getChar_1 10 rfl rfl)
theorem dJ4_getChar_37 : decode cJ4_getChar 37 = .ok (.baload, 1) := dk_51 (dk_at dksJ4_getChar_1 13 rfl rfl)
theorem dJ4_getChar_38 : decode cJ4_getChar 38 = .ok (.sipush 255, 3) := dk_17 0 255 (dk_at dksJ4_getChar_1 14 rfl rfl)
theorem dJ4_getChar_41 : decode cJ4_getChar 41 = .ok (.iand, 1) := dk_126 (dk_at dksJ4_getChar_1 17 rfl rfl)
theorem dJ4_getChar_42 : decode cJ4_getChar 42 = .ok (.getstatic 59, 3) := dk_178 0 59 (dk_at dksJ4_getChar_1 18 rfl rfl)
theorem dJ4_getChar_45 : decode cJ4_getChar 45 = .ok (.ishl, 1) := dk_120 (dk_at dksJ4_getChar_1 21 rfl rfl)
theorem dJ4_getChar_46 : decode cJ4_getChar 46 = .ok (.aload_n 0, 1) := dk_42 (dk_at dksJ4_getChar_1 22 rfl rfl)
theorem dJ4_getChar_47 : decode cJ4_getChar 47 = .ok (.iload_n 1, 1) := dk_27 (dk_at dksJ4_getChar_1 23 rfl rfl)
theorem dJ4_getChar_48 : decode cJ4_getChar 48 = .ok (.baload, 1) := dk_51 (dk_at dksJ4_getChar_2 0 rfl rfl)
theorem dJ4_getChar_49 : decode cJ4_getChar 49 = .ok (.sipush 255, 3) := dk_17 0 255 (dk_at dksJ4_getChar_2 1 rfl rfl)
theorem dJ4_getChar_52 : decode cJ4_getChar 52 = .ok (.iand, 1) := dk_126 (dk_at dksJ4_getChar_2 4 rfl rfl)
theorem dJ4_getChar_53 : decode cJ4_getChar 53 = .ok (.getstatic 63, 3) := dk_178 0 63 (dk_at dksJ4_getChar_2 5 rfl rfl)
theorem dJ4_getChar_56 : decode cJ4_getChar 56 = .ok (.ishl, 1) := dk_120 (dk_at dksJ4_getChar_2 8 rfl rfl)
theorem dJ4_getChar_57 : decode cJ4_getChar 57 = .ok (.ior, 1) := dk_128 (dk_at dksJ4_getChar_2 9 rfl rfl)
theorem dJ4_getChar_58 : decode cJ4_getChar 58 = .ok (.i2c, 1) := dk_146 (dk_at dksJ4_getChar_2 10 rfl rfl)
theorem dJ4_getChar_59 : decode cJ4_getChar 59 = .ok (.ireturn, 1) := dk_172 (dk_at dksJ4_getChar_2 11 rfl rfl)
abbrev cJ4_coderFromArrayLen : ByteArray := prog_40_method_15_code
def yJ4_coderFromArrayLen : MethodName := ⟨RJ4, "coderFromArrayLen", "([BI)B"⟩
def dkwJ4_coderFromArrayLen_0 : List UInt8 := [27, 42, 190, 100, 16, 31, 124, 145, 172]
abbrev dktJ4_coderFromArrayLen_0 : List UInt8 := dkwJ4_coderFromArrayLen_0 ++ []
theorem dksJ4_coderFromArrayLen_0 : cJ4_coderFromArrayLen.data.toList.drop 0 = dktJ4_coderFromArrayLen_0 := by decide +kernel
theorem dJ4_coderFromArrayLen_0 : decode cJ4_coderFromArrayLen 0 = .ok (.iload_n 1, 1) := dk_27 (dk_at dksJ4_coderFromArrayLen_0 0 rfl rfl)
theorem dJ4_coderFromArrayLen_1 : decode cJ4_coderFromArrayLen 1 = .ok (.aload_n 0, 1) := dk_42 (dk_at dksJ4_coderFromArrayLen_0 1 rfl rfl)
theorem dJ4_coderFromArrayLen_2 : decode cJ4_coderFromArrayLen 2 = .ok (.arraylength, 1) := dk_190 (dk_at dksJ4_coderFromArrayLen_0 2 rfl rfl)
theorem dJ4_coderFromArrayLen_3 : decode cJ4_coderFromArrayLen 3 = .ok (.isub, 1) := dk_100 (dk_at dksJ4_coderFromArrayLen_0 3 rfl rfl)
theorem dJ4_coderFromArrayLen_4 : decode cJ4_coderFromArrayLen 4 = .ok (.bipush 31, 2) := dk_16 31 (dk_at dksJ4_coderFromArrayLen_0 4 rfl rfl)
theorem dJ4_coderFromArrayLen_6 : decode cJ4_coderFromArrayLen 6 = .ok (.iushr, 1) := dk_124 (dk_at dksJ4_coderFromArrayLen_0 6 rfl rfl)
theorem dJ4_coderFromArrayLen_7 : decode cJ4_coderFromArrayLen 7 = .ok (.i2b, 1) := dk_145 (dk_at dksJ4_coderFromArrayLen_0 7 rfl rfl)
theorem dJ4_coderFromArrayLen_8 : decode cJ4_coderFromArrayLen 8 = .ok (.ireturn, 1) := dk_172 (dk_at dksJ4_coderFromArrayLen_0 8 rfl rfl)
abbrev cJ4_charAt : ByteArray := prog_40_method_83_code
def yJ4_charAt : MethodName := ⟨RJ4, "charAt", "([BI)C"⟩
def dkwJ4_charAt_0 : List UInt8 := [27, 42, 184, 0, 67, 42, 27, 184, 0, 71, 172]
abbrev dktJ4_charAt_0 : List UInt8 := dkwJ4_charAt_0 ++ []
theorem dksJ4_charAt_0 : cJ4_charAt.data.toList.drop 0 = dktJ4_charAt_0 := by decide +kernel
theorem dJ4_charAt_0 : decode cJ4_charAt 0 = .ok (.iload_n 1, 1) := dk_27 (dk_at dksJ4_charAt_0 0 rfl rfl)
theorem dJ4_charAt_1 : decode cJ4_charAt 1 = .ok (.aload_n 0, 1) := dk_42 (dk_at dksJ4_charAt_0 1 rfl rfl)
theorem dJ4_charAt_2 : decode cJ4_charAt 2 = .ok (.invokestatic 67, 3) := dk_184 0 67 (dk_at dksJ4_charAt_0 2 rfl rfl)
theorem dJ4_charAt_5 : decode cJ4_charAt 5 = .ok (.aload_n 0, 1) := dk_42 (dk_at dksJ4_charAt_0 5 rfl rfl)
theorem dJ4_charAt_6 : decode cJ4_charAt 6 = .ok (.iload_n 1, 1) := dk_27 (dk_at dksJ4_charAt_0 6 rfl rfl)
theorem dJ4_charAt_7 : decode cJ4_charAt 7 = .ok (.invokestatic 71, 3) := dk_184 0 71 (dk_at dksJ4_charAt_0 7 rfl rfl)
theorem dJ4_charAt_10 : decode cJ4_charAt 10 = .ok (.ireturn, 1) := dk_172 (dk_at dksJ4_charAt_0 10 rfl rfl)
abbrev cJ4_putCharsAt : ByteArray := prog_40_method_81_code
def yJ4_putCharsAt : MethodName := ⟨RJ4, "putCharsAt", "([BICCCC)I"⟩
def dkwJ4_putCharsAt_3 : List UInt8 := [21, 6, 172]
abbrev dktJ4_putCharsAt_3 : List UInt8 := dkwJ4_putCharsAt_3 ++ []
def dkwJ4_putCharsAt_2 : List UInt8 := [184, 0, 111, 178, 0, 44, 154, 0, 17, 27, 21, 6, 159, 0, 11, 187, 0, 52, 89, 183, 0, 66, 191]
abbrev dktJ4_putCharsAt_2 : List UInt8 := dkwJ4_putCharsAt_2 ++ dktJ4_putCharsAt_3
def dkwJ4_putCharsAt_1 : List UInt8 := [132, 1, 1, 29, 184, 0, 111, 42, 27, 132, 1, 1, 21, 4, 184, 0, 111, 42, 27, 132, 1, 1, 21, 5]
abbrev dktJ4_putCharsAt_1 : List UInt8 := dkwJ4_putCharsAt_1 ++ dktJ4_putCharsAt_2
def dkwJ4_putCharsAt_0 : List UInt8 := [27, 7, 96, 54, 6, 27, 21, 6, 42, 184, 0, 96, 42, 27, 132, 1, 1, 28, 184, 0, 111, 42, 27]
abbrev dktJ4_putCharsAt_0 : List UInt8 := dkwJ4_putCharsAt_0 ++ dktJ4_putCharsAt_1
theorem dksJ4_putCharsAt_0 : cJ4_putCharsAt.data.toList.drop 0 = dktJ4_putCharsAt_0 := by decide +kernel
theorem dksJ4_putCharsAt_1 : cJ4_putCharsAt.data.toList.drop 23 = dktJ4_putCharsAt_1 := dk_seg dksJ4_putCharsAt_0 23 rfl rfl
theorem dksJ4_putCharsAt_2 : cJ4_putCharsAt.data.toList.drop 47 = dktJ4_putCharsAt_2 := dk_seg dksJ4_putCharsAt_1 24 rfl rfl
theorem dksJ4_putCharsAt_3 : cJ4_putCharsAt.data.toList.drop 70 = dktJ4_putCharsAt_3 := dk_seg dksJ4_putCharsAt_2 23 rfl rfl
theorem dJ4_putCharsAt_0 : decode cJ4_putCharsAt 0 = .ok (.iload_n 1, 1) := dk_27 (dk_at dksJ4_putCharsAt_0 0 rfl rfl)
theorem dJ4_putCharsAt_1 : decode cJ4_putCharsAt 1 = .ok (.iconst 4, 1) := dk_7 (dk_at dksJ4_putCharsAt_0 1 rfl rfl)
theorem dJ4_putCharsAt_2 : decode cJ4_putCharsAt 2 = .ok (.iadd, 1) := dk_96 (dk_at dksJ4_putCharsAt_0 2 rfl rfl)
theorem dJ4_putCharsAt_3 : decode cJ4_putCharsAt 3 = .ok (.istore 6, 2) := dk_54 6 (dk_at dksJ4_putCharsAt_0 3 rfl rfl)
theorem dJ4_putCharsAt_5 : decode cJ4_putCharsAt 5 = .ok (.iload_n 1, 1) := dk_27 (dk_at dksJ4_putCharsAt_0 5 rfl rfl)
theorem dJ4_putCharsAt_6 : decode cJ4_putCharsAt 6 = .ok (.iload 6, 2) := dk_21 6 (dk_at dksJ4_putCharsAt_0 6 rfl rfl)
theorem dJ4_putCharsAt_8 : decode cJ4_putCharsAt 8 = .ok (.aload_n 0, 1) := dk_42 (dk_at dksJ4_putCharsAt_0 8 rfl rfl)
theorem dJ4_putCharsAt_9 : decode cJ4_putCharsAt 9 = .ok (.invokestatic 96, 3) := dk_184 0 96 (dk_at dksJ4_putCharsAt_0 9 rfl rfl)
theorem dJ4_putCharsAt_12 : decode cJ4_putCharsAt 12 = .ok (.aload_n 0, 1) := dk_42 (dk_at dksJ4_putCharsAt_0 12 rfl rfl)
theorem dJ4_putCharsAt_13 : decode cJ4_putCharsAt 13 = .ok (.iload_n 1, 1) := dk_27 (dk_at dksJ4_putCharsAt_0 13 rfl rfl)
theorem dJ4_putCharsAt_14 : decode cJ4_putCharsAt 14 = .ok (.iinc 1 1, 3) := dk_132 1 1 (dk_at dksJ4_putCharsAt_0 14 rfl rfl)
theorem dJ4_putCharsAt_17 : decode cJ4_putCharsAt 17 = .ok (.iload_n 2, 1) := dk_28 (dk_at dksJ4_putCharsAt_0 17 rfl rfl)
theorem dJ4_putCharsAt_18 : decode cJ4_putCharsAt 18 = .ok (.invokestatic 111, 3) := dk_184 0 111 (dk_at dksJ4_putCharsAt_0 18 rfl rfl)
theorem dJ4_putCharsAt_21 : decode cJ4_putCharsAt 21 = .ok (.aload_n 0, 1) := dk_42 (dk_at dksJ4_putCharsAt_0 21 rfl rfl)
theorem dJ4_putCharsAt_22 : decode cJ4_putCharsAt 22 = .ok (.iload_n 1, 1) := dk_27 (dk_at dksJ4_putCharsAt_0 22 rfl rfl)
theorem dJ4_putCharsAt_23 : decode cJ4_putCharsAt 23 = .ok (.iinc 1 1, 3) := dk_132 1 1 (dk_at dksJ4_putCharsAt_1 0 rfl rfl)
theorem dJ4_putCharsAt_26 : decode cJ4_putCharsAt 26 = .ok (.iload_n 3, 1) := dk_29 (dk_at dksJ4_putCharsAt_1 3 rfl rfl)
theorem dJ4_putCharsAt_27 : decode cJ4_putCharsAt 27 = .ok (.invokestatic 111, 3) := dk_184 0 111 (dk_at dksJ4_putCharsAt_1 4 rfl rfl)
theorem dJ4_putCharsAt_30 : decode cJ4_putCharsAt 30 = .ok (.aload_n 0, 1) := dk_42 (dk_at dksJ4_putCharsAt_1 7 rfl rfl)
theorem dJ4_putCharsAt_31 : decode cJ4_putCharsAt 31 = .ok (.iload_n 1, 1) := dk_27 (dk_at dksJ4_putCharsAt_1 8 rfl rfl)
theorem dJ4_putCharsAt_32 : decode cJ4_putCharsAt 32 = .ok (.iinc 1 1, 3) := dk_132 1 1 (dk_at dksJ4_putCharsAt_1 9 rfl rfl)
theorem dJ4_putCharsAt_35 : decode cJ4_putCharsAt 35 = .ok (.iload 4, 2) := dk_21 4 (dk_at dksJ4_putCharsAt_1 12 rfl rfl)
theorem dJ4_putCharsAt_37 : decode cJ4_putCharsAt 37 = .ok (.invokestatic 111, 3) := dk_184 0 111 (dk_at dksJ4_putCharsAt_1 14 rfl rfl)
theorem dJ4_putCharsAt_40 : decode cJ4_putCharsAt 40 = .ok (.aload_n 0, 1) := dk_42 (dk_at dksJ4_putCharsAt_1 17 rfl rfl)
theorem dJ4_putCharsAt_41 : decode cJ4_putCharsAt 41 = .ok (.iload_n 1, 1) := dk_27 (dk_at dksJ4_putCharsAt_1 18 rfl rfl)
theorem dJ4_putCharsAt_42 : decode cJ4_putCharsAt 42 = .ok (.iinc 1 1, 3) := dk_132 1 1 (dk_at dksJ4_putCharsAt_1 19 rfl rfl)
theorem dJ4_putCharsAt_45 : decode cJ4_putCharsAt 45 = .ok (.iload 5, 2) := dk_21 5 (dk_at dksJ4_putCharsAt_1 22 rfl rfl)
theorem dJ4_putCharsAt_47 : decode cJ4_putCharsAt 47 = .ok (.invokestatic 111, 3) := dk_184 0 111 (dk_at dksJ4_putCharsAt_2 0 rfl rfl)
theorem dJ4_putCharsAt_50 : decode cJ4_putCharsAt 50 = .ok (.getstatic 44, 3) := dk_178 0 44 (dk_at dksJ4_putCharsAt_2 3 rfl rfl)
theorem dJ4_putCharsAt_53 : decode cJ4_putCharsAt 53 = .ok (.ifCond .ne 17, 3) := dk_154 0 17 (dk_at dksJ4_putCharsAt_2 6 rfl rfl)
theorem dJ4_putCharsAt_56 : decode cJ4_putCharsAt 56 = .ok (.iload_n 1, 1) := dk_27 (dk_at dksJ4_putCharsAt_2 9 rfl rfl)
theorem dJ4_putCharsAt_57 : decode cJ4_putCharsAt 57 = .ok (.iload 6, 2) := dk_21 6 (dk_at dksJ4_putCharsAt_2 10 rfl rfl)
theorem dJ4_putCharsAt_59 : decode cJ4_putCharsAt 59 = .ok (.if_icmp .eq 11, 3) := dk_159 0 11 (dk_at dksJ4_putCharsAt_2 12 rfl rfl)
theorem dJ4_putCharsAt_62 : decode cJ4_putCharsAt 62 = .ok (.new 52, 3) := dk_187 0 52 (dk_at dksJ4_putCharsAt_2 15 rfl rfl)
theorem dJ4_putCharsAt_65 : decode cJ4_putCharsAt 65 = .ok (.dup, 1) := dk_89 (dk_at dksJ4_putCharsAt_2 18 rfl rfl)
theorem dJ4_putCharsAt_66 : decode cJ4_putCharsAt 66 = .ok (.invokespecial 66, 3) := dk_183 0 66 (dk_at dksJ4_putCharsAt_2 19 rfl rfl)
theorem dJ4_putCharsAt_69 : decode cJ4_putCharsAt 69 = .ok (.athrow, 1) := dk_191 (dk_at dksJ4_putCharsAt_2 22 rfl rfl)
theorem dJ4_putCharsAt_70 : decode cJ4_putCharsAt 70 = .ok (.iload 6, 2) := dk_21 6 (dk_at dksJ4_putCharsAt_3 0 rfl rfl)
theorem dJ4_putCharsAt_72 : decode cJ4_putCharsAt 72 = .ok (.ireturn, 1) := dk_172 (dk_at dksJ4_putCharsAt_3 2 rfl rfl)
abbrev cJ4_checkBoundsBeginEnd : ByteArray := prog_40_method_93_code
def yJ4_checkBoundsBeginEnd : MethodName := ⟨RJ4, "checkBoundsBeginEnd", "(II[B)V"⟩
def dkwJ4_checkBoundsBeginEnd_0 : List UInt8 := [26, 27, 44, 184, 0, 48, 184, 0, 241, 177]
abbrev dktJ4_checkBoundsBeginEnd_0 : List UInt8 := dkwJ4_checkBoundsBeginEnd_0 ++ []
theorem dksJ4_checkBoundsBeginEnd_0 : cJ4_checkBoundsBeginEnd.data.toList.drop 0 = dktJ4_checkBoundsBeginEnd_0 := by decide +kernel
theorem dJ4_checkBoundsBeginEnd_0 : decode cJ4_checkBoundsBeginEnd 0 = .ok (.iload_n 0, 1) := dk_26 (dk_at dksJ4_checkBoundsBeginEnd_0 0 rfl rfl)
theorem dJ4_checkBoundsBeginEnd_1 : decode cJ4_checkBoundsBeginEnd 1 = .ok (.iload_n 1, 1) := dk_27 (dk_at dksJ4_checkBoundsBeginEnd_0 1 rfl rfl)
theorem dJ4_checkBoundsBeginEnd_2 : decode cJ4_checkBoundsBeginEnd 2 = .ok (.aload_n 2, 1) := dk_44 (dk_at dksJ4_checkBoundsBeginEnd_0 2 rfl rfl)
theorem dJ4_checkBoundsBeginEnd_3 : decode cJ4_checkBoundsBeginEnd 3 = .ok (.invokestatic 48, 3) := dk_184 0 48 (dk_at dksJ4_checkBoundsBeginEnd_0 3 rfl rfl)
theorem dJ4_checkBoundsBeginEnd_6 : decode cJ4_checkBoundsBeginEnd 6 = .ok (.invokestatic 241, 3) := dk_184 0 241 (dk_at dksJ4_checkBoundsBeginEnd_0 6 rfl rfl)
theorem dJ4_checkBoundsBeginEnd_9 : decode cJ4_checkBoundsBeginEnd 9 = .ok (.return_, 1) := dk_177 (dk_at dksJ4_checkBoundsBeginEnd_0 9 rfl rfl)
abbrev cJ4_getChars : ByteArray := prog_40_method_77_code
def yJ4_getChars : MethodName := ⟨RJ4, "getChars", "(III[B)I"⟩
def dkwJ4_getChars_1 : List UInt8 := [159, 0, 11, 187, 0, 52, 89, 183, 0, 66, 191, 21, 4, 172]
abbrev dktJ4_getChars_1 : List UInt8 := dkwJ4_getChars_1 ++ []
def dkwJ4_getChars_0 : List UInt8 := [27, 28, 45, 184, 0, 96, 26, 28, 45, 184, 1, 137, 54, 4, 178, 0, 44, 154, 0, 17, 27, 21, 4]
abbrev dktJ4_getChars_0 : List UInt8 := dkwJ4_getChars_0 ++ dktJ4_getChars_1
theorem dksJ4_getChars_0 : cJ4_getChars.data.toList.drop 0 = dktJ4_getChars_0 := by decide +kernel
theorem dksJ4_getChars_1 : cJ4_getChars.data.toList.drop 23 = dktJ4_getChars_1 := dk_seg dksJ4_getChars_0 23 rfl rfl
theorem dJ4_getChars_0 : decode cJ4_getChars 0 = .ok (.iload_n 1, 1) := dk_27 (dk_at dksJ4_getChars_0 0 rfl rfl)
theorem dJ4_getChars_1 : decode cJ4_getChars 1 = .ok (.iload_n 2, 1) := dk_28 (dk_at dksJ4_getChars_0 1 rfl rfl)
theorem dJ4_getChars_2 : decode cJ4_getChars 2 = .ok (.aload_n 3, 1) := dk_45 (dk_at dksJ4_getChars_0 2 rfl rfl)
theorem dJ4_getChars_3 : decode cJ4_getChars 3 = .ok (.invokestatic 96, 3) := dk_184 0 96 (dk_at dksJ4_getChars_0 3 rfl rfl)
theorem dJ4_getChars_6 : decode cJ4_getChars 6 = .ok (.iload_n 0, 1) := dk_26 (dk_at dksJ4_getChars_0 6 rfl rfl)
theorem dJ4_getChars_7 : decode cJ4_getChars 7 = .ok (.iload_n 2, 1) := dk_28 (dk_at dksJ4_getChars_0 7 rfl rfl)
theorem dJ4_getChars_8 : decode cJ4_getChars 8 = .ok (.aload_n 3, 1) := dk_45 (dk_at dksJ4_getChars_0 8 rfl rfl)
theorem dJ4_getChars_9 : decode cJ4_getChars 9 = .ok (.invokestatic 393, 3) := dk_184 1 137 (dk_at dksJ4_getChars_0 9 rfl rfl)
theorem dJ4_getChars_12 : decode cJ4_getChars 12 = .ok (.istore 4, 2) := dk_54 4 (dk_at dksJ4_getChars_0 12 rfl rfl)
theorem dJ4_getChars_14 : decode cJ4_getChars 14 = .ok (.getstatic 44, 3) := dk_178 0 44 (dk_at dksJ4_getChars_0 14 rfl rfl)
theorem dJ4_getChars_17 : decode cJ4_getChars 17 = .ok (.ifCond .ne 17, 3) := dk_154 0 17 (dk_at dksJ4_getChars_0 17 rfl rfl)
theorem dJ4_getChars_20 : decode cJ4_getChars 20 = .ok (.iload_n 1, 1) := dk_27 (dk_at dksJ4_getChars_0 20 rfl rfl)
theorem dJ4_getChars_21 : decode cJ4_getChars 21 = .ok (.iload 4, 2) := dk_21 4 (dk_at dksJ4_getChars_0 21 rfl rfl)
theorem dJ4_getChars_23 : decode cJ4_getChars 23 = .ok (.if_icmp .eq 11, 3) := dk_159 0 11 (dk_at dksJ4_getChars_1 0 rfl rfl)
theorem dJ4_getChars_26 : decode cJ4_getChars 26 = .ok (.new 52, 3) := dk_187 0 52 (dk_at dksJ4_getChars_1 3 rfl rfl)
theorem dJ4_getChars_29 : decode cJ4_getChars 29 = .ok (.dup, 1) := dk_89 (dk_at dksJ4_getChars_1 6 rfl rfl)
theorem dJ4_getChars_30 : decode cJ4_getChars 30 = .ok (.invokespecial 66, 3) := dk_183 0 66 (dk_at dksJ4_getChars_1 7 rfl rfl)
theorem dJ4_getChars_33 : decode cJ4_getChars 33 = .ok (.athrow, 1) := dk_191 (dk_at dksJ4_getChars_1 10 rfl rfl)
theorem dJ4_getChars_34 : decode cJ4_getChars 34 = .ok (.iload 4, 2) := dk_21 4 (dk_at dksJ4_getChars_1 11 rfl rfl)
theorem dJ4_getChars_36 : decode cJ4_getChars 36 = .ok (.ireturn, 1) := dk_172 (dk_at dksJ4_getChars_1 13 rfl rfl)
abbrev cJ4_getChars_2 : ByteArray := prog_40_method_89_code
def yJ4_getChars_2 : MethodName := ⟨RJ4, "getChars", "(II[B)I"⟩
def dkwJ4_getChars_2_5 : List UInt8 := [132, 5, 255, 21, 5, 16, 45, 184, 0, 111, 21, 5, 172]
abbrev dktJ4_getChars_2_5 : List UInt8 := dkwJ4_getChars_2_5 ++ []
def dkwJ4_getChars_2_4 : List UInt8 := [162, 0, 18, 44, 132, 5, 255, 21, 5, 178, 1, 151, 26, 116, 51, 184, 0, 111, 21, 6, 153, 0, 14, 44]
abbrev dktJ4_getChars_2_4 : List UInt8 := dkwJ4_getChars_2_4 ++ dktJ4_getChars_2_5
def dkwJ4_getChars_2_3 : List UInt8 := [184, 0, 111, 167, 255, 205, 44, 132, 5, 255, 21, 5, 178, 1, 147, 26, 116, 51, 184, 0, 111, 26, 16, 247]
abbrev dktJ4_getChars_2_3 : List UInt8 := dkwJ4_getChars_2_3 ++ dktJ4_getChars_2_4
def dkwJ4_getChars_2_2 : List UInt8 := [21, 5, 178, 1, 147, 21, 4, 51, 184, 0, 111, 44, 132, 5, 255, 21, 5, 178, 1, 151, 21, 4, 51]
abbrev dktJ4_getChars_2_2 : List UInt8 := dkwJ4_getChars_2_2 ++ dktJ4_getChars_2_3
def dkwJ4_getChars_2_1 : List UInt8 := [16, 156, 163, 0, 51, 26, 16, 100, 108, 62, 29, 16, 100, 104, 26, 100, 54, 4, 29, 59, 44, 132, 5, 255]
abbrev dktJ4_getChars_2_1 : List UInt8 := dkwJ4_getChars_2_1 ++ dktJ4_getChars_2_2
def dkwJ4_getChars_2_0 : List UInt8 := [27, 54, 5, 26, 156, 0, 7, 4, 167, 0, 4, 3, 54, 6, 21, 6, 154, 0, 6, 26, 116, 59, 26]
abbrev dktJ4_getChars_2_0 : List UInt8 := dkwJ4_getChars_2_0 ++ dktJ4_getChars_2_1
theorem dksJ4_getChars_2_0 : cJ4_getChars_2.data.toList.drop 0 = dktJ4_getChars_2_0 := by decide +kernel
theorem dksJ4_getChars_2_1 : cJ4_getChars_2.data.toList.drop 23 = dktJ4_getChars_2_1 := dk_seg dksJ4_getChars_2_0 23 rfl rfl
theorem dksJ4_getChars_2_2 : cJ4_getChars_2.data.toList.drop 47 = dktJ4_getChars_2_2 := dk_seg dksJ4_getChars_2_1 24 rfl rfl
theorem dksJ4_getChars_2_3 : cJ4_getChars_2.data.toList.drop 70 = dktJ4_getChars_2_3 := dk_seg dksJ4_getChars_2_2 23 rfl rfl
theorem dksJ4_getChars_2_4 : cJ4_getChars_2.data.toList.drop 94 = dktJ4_getChars_2_4 := dk_seg dksJ4_getChars_2_3 24 rfl rfl
theorem dksJ4_getChars_2_5 : cJ4_getChars_2.data.toList.drop 118 = dktJ4_getChars_2_5 := dk_seg dksJ4_getChars_2_4 24 rfl rfl
theorem dJ4_getChars_2_0 : decode cJ4_getChars_2 0 = .ok (.iload_n 1, 1) := dk_27 (dk_at dksJ4_getChars_2_0 0 rfl rfl)
theorem dJ4_getChars_2_1 : decode cJ4_getChars_2 1 = .ok (.istore 5, 2) := dk_54 5 (dk_at dksJ4_getChars_2_0 1 rfl rfl)
theorem dJ4_getChars_2_3 : decode cJ4_getChars_2 3 = .ok (.iload_n 0, 1) := dk_26 (dk_at dksJ4_getChars_2_0 3 rfl rfl)
theorem dJ4_getChars_2_4 : decode cJ4_getChars_2 4 = .ok (.ifCond .ge 7, 3) := dk_156 0 7 (dk_at dksJ4_getChars_2_0 4 rfl rfl)
theorem dJ4_getChars_2_7 : decode cJ4_getChars_2 7 = .ok (.iconst 1, 1) := dk_4 (dk_at dksJ4_getChars_2_0 7 rfl rfl)
theorem dJ4_getChars_2_8 : decode cJ4_getChars_2 8 = .ok (.goto 4, 3) := dk_167 0 4 (dk_at dksJ4_getChars_2_0 8 rfl rfl)
theorem dJ4_getChars_2_11 : decode cJ4_getChars_2 11 = .ok (.iconst 0, 1) := dk_3 (dk_at dksJ4_getChars_2_0 11 rfl rfl)
theorem dJ4_getChars_2_12 : decode cJ4_getChars_2 12 = .ok (.istore 6, 2) := dk_54 6 (dk_at dksJ4_getChars_2_0 12 rfl rfl)
theorem dJ4_getChars_2_14 : decode cJ4_getChars_2 14 = .ok (.iload 6, 2) := dk_21 6 (dk_at dksJ4_getChars_2_0 14 rfl rfl)
theorem dJ4_getChars_2_16 : decode cJ4_getChars_2 16 = .ok (.ifCond .ne 6, 3) := dk_154 0 6 (dk_at dksJ4_getChars_2_0 16 rfl rfl)
theorem dJ4_getChars_2_19 : decode cJ4_getChars_2 19 = .ok (.iload_n 0, 1) := dk_26 (dk_at dksJ4_getChars_2_0 19 rfl rfl)
theorem dJ4_getChars_2_20 : decode cJ4_getChars_2 20 = .ok (.ineg, 1) := dk_116 (dk_at dksJ4_getChars_2_0 20 rfl rfl)
theorem dJ4_getChars_2_21 : decode cJ4_getChars_2 21 = .ok (.istore_n 0, 1) := dk_59 (dk_at dksJ4_getChars_2_0 21 rfl rfl)
theorem dJ4_getChars_2_22 : decode cJ4_getChars_2 22 = .ok (.iload_n 0, 1) := dk_26 (dk_at dksJ4_getChars_2_0 22 rfl rfl)
theorem dJ4_getChars_2_23 : decode cJ4_getChars_2 23 = .ok (.bipush (-100), 2) := dk_16 156 (dk_at dksJ4_getChars_2_1 0 rfl rfl)
theorem dJ4_getChars_2_25 : decode cJ4_getChars_2 25 = .ok (.if_icmp .gt 51, 3) := dk_163 0 51 (dk_at dksJ4_getChars_2_1 2 rfl rfl)
theorem dJ4_getChars_2_28 : decode cJ4_getChars_2 28 = .ok (.iload_n 0, 1) := dk_26 (dk_at dksJ4_getChars_2_1 5 rfl rfl)
theorem dJ4_getChars_2_29 : decode cJ4_getChars_2 29 = .ok (.bipush 100, 2) := dk_16 100 (dk_at dksJ4_getChars_2_1 6 rfl rfl)
theorem dJ4_getChars_2_31 : decode cJ4_getChars_2 31 = .ok (.idiv, 1) := dk_108 (dk_at dksJ4_getChars_2_1 8 rfl rfl)
theorem dJ4_getChars_2_32 : decode cJ4_getChars_2 32 = .ok (.istore_n 3, 1) := dk_62 (dk_at dksJ4_getChars_2_1 9 rfl rfl)
theorem dJ4_getChars_2_33 : decode cJ4_getChars_2 33 = .ok (.iload_n 3, 1) := dk_29 (dk_at dksJ4_getChars_2_1 10 rfl rfl)
theorem dJ4_getChars_2_34 : decode cJ4_getChars_2 34 = .ok (.bipush 100, 2) := dk_16 100 (dk_at dksJ4_getChars_2_1 11 rfl rfl)
theorem dJ4_getChars_2_36 : decode cJ4_getChars_2 36 = .ok (.imul, 1) := dk_104 (dk_at dksJ4_getChars_2_1 13 rfl rfl)
theorem dJ4_getChars_2_37 : decode cJ4_getChars_2 37 = .ok (.iload_n 0, 1) := dk_26 (dk_at dksJ4_getChars_2_1 14 rfl rfl)
theorem dJ4_getChars_2_38 : decode cJ4_getChars_2 38 = .ok (.isub, 1) := dk_100 (dk_at dksJ4_getChars_2_1 15 rfl rfl)
theorem dJ4_getChars_2_39 : decode cJ4_getChars_2 39 = .ok (.istore 4, 2) := dk_54 4 (dk_at dksJ4_getChars_2_1 16 rfl rfl)
theorem dJ4_getChars_2_41 : decode cJ4_getChars_2 41 = .ok (.iload_n 3, 1) := dk_29 (dk_at dksJ4_getChars_2_1 18 rfl rfl)
theorem dJ4_getChars_2_42 : decode cJ4_getChars_2 42 = .ok (.istore_n 0, 1) := dk_59 (dk_at dksJ4_getChars_2_1 19 rfl rfl)
theorem dJ4_getChars_2_43 : decode cJ4_getChars_2 43 = .ok (.aload_n 2, 1) := dk_44 (dk_at dksJ4_getChars_2_1 20 rfl rfl)
theorem dJ4_getChars_2_44 : decode cJ4_getChars_2 44 = .ok (.iinc 5 (-1), 3) := dk_132 5 255 (dk_at dksJ4_getChars_2_1 21 rfl rfl)
theorem dJ4_getChars_2_47 : decode cJ4_getChars_2 47 = .ok (.iload 5, 2) := dk_21 5 (dk_at dksJ4_getChars_2_2 0 rfl rfl)
theorem dJ4_getChars_2_49 : decode cJ4_getChars_2 49 = .ok (.getstatic 403, 3) := dk_178 1 147 (dk_at dksJ4_getChars_2_2 2 rfl rfl)
theorem dJ4_getChars_2_52 : decode cJ4_getChars_2 52 = .ok (.iload 4, 2) := dk_21 4 (dk_at dksJ4_getChars_2_2 5 rfl rfl)
theorem dJ4_getChars_2_54 : decode cJ4_getChars_2 54 = .ok (.baload, 1) := dk_51 (dk_at dksJ4_getChars_2_2 7 rfl rfl)
theorem dJ4_getChars_2_55 : decode cJ4_getChars_2 55 = .ok (.invokestatic 111, 3) := dk_184 0 111 (dk_at dksJ4_getChars_2_2 8 rfl rfl)
theorem dJ4_getChars_2_58 : decode cJ4_getChars_2 58 = .ok (.aload_n 2, 1) := dk_44 (dk_at dksJ4_getChars_2_2 11 rfl rfl)
theorem dJ4_getChars_2_59 : decode cJ4_getChars_2 59 = .ok (.iinc 5 (-1), 3) := dk_132 5 255 (dk_at dksJ4_getChars_2_2 12 rfl rfl)
theorem dJ4_getChars_2_62 : decode cJ4_getChars_2 62 = .ok (.iload 5, 2) := dk_21 5 (dk_at dksJ4_getChars_2_2 15 rfl rfl)
theorem dJ4_getChars_2_64 : decode cJ4_getChars_2 64 = .ok (.getstatic 407, 3) := dk_178 1 151 (dk_at dksJ4_getChars_2_2 17 rfl rfl)
theorem dJ4_getChars_2_67 : decode cJ4_getChars_2 67 = .ok (.iload 4, 2) := dk_21 4 (dk_at dksJ4_getChars_2_2 20 rfl rfl)
theorem dJ4_getChars_2_69 : decode cJ4_getChars_2 69 = .ok (.baload, 1) := dk_51 (dk_at dksJ4_getChars_2_2 22 rfl rfl)
theorem dJ4_getChars_2_70 : decode cJ4_getChars_2 70 = .ok (.invokestatic 111, 3) := dk_184 0 111 (dk_at dksJ4_getChars_2_3 0 rfl rfl)
theorem dJ4_getChars_2_73 : decode cJ4_getChars_2 73 = .ok (.goto (-51), 3) := dk_167 255 205 (dk_at dksJ4_getChars_2_3 3 rfl rfl)
theorem dJ4_getChars_2_76 : decode cJ4_getChars_2 76 = .ok (.aload_n 2, 1) := dk_44 (dk_at dksJ4_getChars_2_3 6 rfl rfl)
theorem dJ4_getChars_2_77 : decode cJ4_getChars_2 77 = .ok (.iinc 5 (-1), 3) := dk_132 5 255 (dk_at dksJ4_getChars_2_3 7 rfl rfl)
theorem dJ4_getChars_2_80 : decode cJ4_getChars_2 80 = .ok (.iload 5, 2) := dk_21 5 (dk_at dksJ4_getChars_2_3 10 rfl rfl)
theorem dJ4_getChars_2_82 : decode cJ4_getChars_2 82 = .ok (.getstatic 403, 3) := dk_178 1 147 (dk_at dksJ4_getChars_2_3 12 rfl rfl)
theorem dJ4_getChars_2_85 : decode cJ4_getChars_2 85 = .ok (.iload_n 0, 1) := dk_26 (dk_at dksJ4_getChars_2_3 15 rfl rfl)
theorem dJ4_getChars_2_86 : decode cJ4_getChars_2 86 = .ok (.ineg, 1) := dk_116 (dk_at dksJ4_getChars_2_3 16 rfl rfl)
theorem dJ4_getChars_2_87 : decode cJ4_getChars_2 87 = .ok (.baload, 1) := dk_51 (dk_at dksJ4_getChars_2_3 17 rfl rfl)
theorem dJ4_getChars_2_88 : decode cJ4_getChars_2 88 = .ok (.invokestatic 111, 3) := dk_184 0 111 (dk_at dksJ4_getChars_2_3 18 rfl rfl)
theorem dJ4_getChars_2_91 : decode cJ4_getChars_2 91 = .ok (.iload_n 0, 1) := dk_26 (dk_at dksJ4_getChars_2_3 21 rfl rfl)
theorem dJ4_getChars_2_92 : decode cJ4_getChars_2 92 = .ok (.bipush (-9), 2) := dk_16 247 (dk_at dksJ4_getChars_2_3 22 rfl rfl)
theorem dJ4_getChars_2_94 : decode cJ4_getChars_2 94 = .ok (.if_icmp .ge 18, 3) := dk_162 0 18 (dk_at dksJ4_getChars_2_4 0 rfl rfl)
theorem dJ4_getChars_2_97 : decode cJ4_getChars_2 97 = .ok (.aload_n 2, 1) := dk_44 (dk_at dksJ4_getChars_2_4 3 rfl rfl)
theorem dJ4_getChars_2_98 : decode cJ4_getChars_2 98 = .ok (.iinc 5 (-1), 3) := dk_132 5 255 (dk_at dksJ4_getChars_2_4 4 rfl rfl)
theorem dJ4_getChars_2_101 : decode cJ4_getChars_2 101 = .ok (.iload 5, 2) := dk_21 5 (dk_at dksJ4_getChars_2_4 7 rfl rfl)
theorem dJ4_getChars_2_103 : decode cJ4_getChars_2 103 = .ok (.getstatic 407, 3) := dk_178 1 151 (dk_at dksJ4_getChars_2_4 9 rfl rfl)
theorem dJ4_getChars_2_106 : decode cJ4_getChars_2 106 = .ok (.iload_n 0, 1) := dk_26 (dk_at dksJ4_getChars_2_4 12 rfl rfl)
theorem dJ4_getChars_2_107 : decode cJ4_getChars_2 107 = .ok (.ineg, 1) := dk_116 (dk_at dksJ4_getChars_2_4 13 rfl rfl)
theorem dJ4_getChars_2_108 : decode cJ4_getChars_2 108 = .ok (.baload, 1) := dk_51 (dk_at dksJ4_getChars_2_4 14 rfl rfl)
theorem dJ4_getChars_2_109 : decode cJ4_getChars_2 109 = .ok (.invokestatic 111, 3) := dk_184 0 111 (dk_at dksJ4_getChars_2_4 15 rfl rfl)
theorem dJ4_getChars_2_112 : decode cJ4_getChars_2 112 = .ok (.iload 6, 2) := dk_21 6 (dk_at dksJ4_getChars_2_4 18 rfl rfl)
theorem dJ4_getChars_2_114 : decode cJ4_getChars_2 114 = .ok (.ifCond .eq 14, 3) := dk_153 0 14 (dk_at dksJ4_getChars_2_4 20 rfl rfl)
theorem dJ4_getChars_2_117 : decode cJ4_getChars_2 117 = .ok (.aload_n 2, 1) := dk_44 (dk_at dksJ4_getChars_2_4 23 rfl rfl)
theorem dJ4_getChars_2_118 : decode cJ4_getChars_2 118 = .ok (.iinc 5 (-1), 3) := dk_132 5 255 (dk_at dksJ4_getChars_2_5 0 rfl rfl)
theorem dJ4_getChars_2_121 : decode cJ4_getChars_2 121 = .ok (.iload 5, 2) := dk_21 5 (dk_at dksJ4_getChars_2_5 3 rfl rfl)
theorem dJ4_getChars_2_123 : decode cJ4_getChars_2 123 = .ok (.bipush 45, 2) := dk_16 45 (dk_at dksJ4_getChars_2_5 5 rfl rfl)
theorem dJ4_getChars_2_125 : decode cJ4_getChars_2 125 = .ok (.invokestatic 111, 3) := dk_184 0 111 (dk_at dksJ4_getChars_2_5 7 rfl rfl)
theorem dJ4_getChars_2_128 : decode cJ4_getChars_2 128 = .ok (.iload 5, 2) := dk_21 5 (dk_at dksJ4_getChars_2_5 10 rfl rfl)
theorem dJ4_getChars_2_130 : decode cJ4_getChars_2 130 = .ok (.ireturn, 1) := dk_172 (dk_at dksJ4_getChars_2_5 12 rfl rfl)
theorem q97 : (Jvm.Cond.initialized "java/lang/StringUTF16") ∈ lw_all := lw_g (lw_at lw_m1 10 rfl) rfl
theorem q389 : (Jvm.Cond.static ({ cls := "java/lang/StringUTF16", name := "newBytesFor", desc := "(I)[B" } : Jvm.MethodName)) ∈ lw_all := lw_g (lw_at lw_m2 62 rfl) rfl
theorem q390 : (Jvm.Cond.code ({ cls := "java/lang/StringUTF16", name := "newBytesFor", desc := "(I)[B" } : Jvm.MethodName) prog_40_method_2_code (1 : Nat) (Option.some (Jvm.ClassFile.FieldType.array Jvm.ClassFile.FieldType.byte))) ∈ lw_all := lw_g (lw_at lw_m2 63 rfl) rfl
theorem q391 : (Jvm.Cond.methodLink "java/lang/StringUTF16" (11 : Nat) ({ cls := "java/lang/StringUTF16", name := "newBytesLength", desc := "(I)I" } : Jvm.MethodName)) ∈ lw_all := lw_g (lw_at lw_m2 64 rfl) rfl
theorem q392 : (Jvm.Cond.static ({ cls := "java/lang/StringUTF16", name := "newBytesLength", desc := "(I)I" } : Jvm.MethodName)) ∈ lw_all := lw_g (lw_at lw_m2 65 rfl) rfl
theorem q393 : (Jvm.Cond.code ({ cls := "java/lang/StringUTF16", name := "newBytesLength", desc := "(I)I" } : Jvm.MethodName) prog_40_method_3_code (1 : Nat) (Option.some Jvm.ClassFile.FieldType.int)) ∈ lw_all := lw_g (lw_at lw_m2 66 rfl) rfl
theorem q394 : (Jvm.Cond.classLink "java/lang/StringUTF16" (17 : Nat) "java/lang/NegativeArraySizeException") ∈ lw_all := lw_g (lw_at lw_m2 67 rfl) rfl
theorem q452 : (Jvm.Cond.methodLink "java/lang/StringUTF16" (19 : Nat) ({ cls := "java/lang/NegativeArraySizeException", name := "<init>", desc := "()V" } : Jvm.MethodName)) ∈ lw_all := lw_g (lw_at lw_m2 125 rfl) rfl
theorem q475 : (Jvm.Cond.constant "java/lang/StringUTF16" (20 : Nat) (1073741823 : Int32)) ∈ lw_all := lw_g (lw_at lw_m2 148 rfl) rfl
theorem q543 : (Jvm.Cond.static ({ cls := "java/lang/StringUTF16", name := "inflate", desc := "([BI[BII)V" } : Jvm.MethodName)) ∈ lw_all := lw_g (lw_at lw_m2 216 rfl) rfl
theorem q544 : (Jvm.Cond.code ({ cls := "java/lang/StringUTF16", name := "inflate", desc := "([BI[BII)V" } : Jvm.MethodName) prog_40_method_86_code (6 : Nat) (Option.none : Option Jvm.ClassFile.FieldType)) ∈ lw_all := lw_g (lw_at lw_m2 217 rfl) rfl
theorem q545 : (Jvm.Cond.methodLink "java/lang/StringUTF16" (173 : Nat) ({ cls := "java/lang/StringUTF16", name := "checkBoundsOffCount", desc := "(II[B)V" } : Jvm.MethodName)) ∈ lw_all := lw_g (lw_at lw_m2 218 rfl) rfl
theorem q546 : (Jvm.Cond.static ({ cls := "java/lang/StringUTF16", name := "checkBoundsOffCount", desc := "(II[B)V" } : Jvm.MethodName)) ∈ lw_all := lw_g (lw_at lw_m2 219 rfl) rfl
theorem q547 : (Jvm.Cond.code ({ cls := "java/lang/StringUTF16", name := "checkBoundsOffCount", desc := "(II[B)V" } : Jvm.MethodName) prog_40_method_94_code (3 : Nat) (Option.none : Option Jvm.ClassFile.FieldType)) ∈ lw_all := lw_g (lw_at lw_m2 220 rfl) rfl
theorem q548 : (Jvm.Cond.methodLink "java/lang/StringUTF16" (48 : Nat) ({ cls := "java/lang/StringUTF16", name := "length", desc := "([B)I" } : Jvm.MethodName)) ∈ lw_all := lw_g (lw_at lw_m2 221 rfl) rfl
theorem q549 : (Jvm.Cond.static ({ cls := "java/lang/StringUTF16", name := "length", desc := "([B)I" } : Jvm.MethodName)) ∈ lw_all := lw_g (lw_at lw_m2 222 rfl) rfl
theorem q550 : (Jvm.Cond.code ({ cls := "java/lang/StringUTF16", name := "length", desc := "([B)I" } : Jvm.MethodName) prog_40_method_6_code (1 : Nat) (Option.some Jvm.ClassFile.FieldType.int)) ∈ lw_all := lw_g (lw_at lw_m2 223 rfl) rfl
theorem q551 : (Jvm.Cond.methodLink "java/lang/StringUTF16" (419 : Nat) ({ cls := "java/lang/String", name := "checkBoundsOffCount", desc := "(III)I" } : Jvm.MethodName)) ∈ lw_all := lw_g (lw_at lw_m2 224 rfl) rfl
theorem q559 : (Jvm.Cond.methodLink "java/lang/StringUTF16" (111 : Nat) ({ cls := "java/lang/StringUTF16", name := "putChar", desc := "([BII)V" } : Jvm.MethodName)) ∈ lw_all := lw_g (lw_at lw_m2 232 rfl) rfl
theorem q560 : (Jvm.Cond.static ({ cls := "java/lang/StringUTF16", name := "putChar", desc := "([BII)V" } : Jvm.MethodName)) ∈ lw_all := lw_g (lw_at lw_m2 233 rfl) rfl
theorem q561 : (Jvm.Cond.code ({ cls := "java/lang/StringUTF16", name := "putChar", desc := "([BII)V" } : Jvm.MethodName) prog_40_method_4_code (3 : Nat) (Option.none : Option Jvm.ClassFile.FieldType)) ∈ lw_all := lw_g (lw_at lw_m2 234 rfl) rfl
theorem q562 : (Jvm.Cond.fieldLink "java/lang/StringUTF16" (44 : Nat) "java/lang/StringUTF16" "$assertionsDisabled" "Z") ∈ lw_all := lw_g (lw_at lw_m2 235 rfl) rfl
theorem q563 : (Jvm.Cond.laysStatic "java/lang/StringUTF16" "$assertionsDisabled" "Z") ∈ lw_tbl := lw_at lw_m2 236 rfl
theorem q564 : (Jvm.Cond.fieldLink "java/lang/StringUTF16" (59 : Nat) "java/lang/StringUTF16" "HI_BYTE_SHIFT" "I") ∈ lw_all := lw_g (lw_at lw_m2 237 rfl) rfl
theorem q565 : (Jvm.Cond.laysStatic "java/lang/StringUTF16" "HI_BYTE_SHIFT" "I") ∈ lw_tbl := lw_at lw_m2 238 rfl
theorem q566 : (Jvm.Cond.fieldLink "java/lang/StringUTF16" (63 : Nat) "java/lang/StringUTF16" "LO_BYTE_SHIFT" "I") ∈ lw_all := lw_g (lw_at lw_m2 239 rfl) rfl
theorem q567 : (Jvm.Cond.laysStatic "java/lang/StringUTF16" "LO_BYTE_SHIFT" "I") ∈ lw_tbl := lw_at lw_m3 0 rfl
theorem q569 : (Jvm.Cond.static ({ cls := "java/lang/StringUTF16", name := "putCharSB", desc := "([BII)V" } : Jvm.MethodName)) ∈ lw_all := lw_g (lw_at lw_m3 2 rfl) rfl
theorem q570 : (Jvm.Cond.code ({ cls := "java/lang/StringUTF16", name := "putCharSB", desc := "([BII)V" } : Jvm.MethodName) prog_40_method_71_code (3 : Nat) (Option.none : Option Jvm.ClassFile.FieldType)) ∈ lw_all := lw_g (lw_at lw_m3 3 rfl) rfl
theorem q571 : (Jvm.Cond.methodLink "java/lang/StringUTF16" (67 : Nat) ({ cls := "java/lang/StringUTF16", name := "checkIndex", desc := "(I[B)V" } : Jvm.MethodName)) ∈ lw_all := lw_g (lw_at lw_m3 4 rfl) rfl
theorem q572 : (Jvm.Cond.static ({ cls := "java/lang/StringUTF16", name := "checkIndex", desc := "(I[B)V" } : Jvm.MethodName)) ∈ lw_all := lw_g (lw_at lw_m3 5 rfl) rfl
theorem q573 : (Jvm.Cond.code ({ cls := "java/lang/StringUTF16", name := "checkIndex", desc := "(I[B)V" } : Jvm.MethodName) prog_40_method_91_code (2 : Nat) (Option.none : Option Jvm.ClassFile.FieldType)) ∈ lw_all := lw_g (lw_at lw_m3 6 rfl) rfl
theorem q574 : (Jvm.Cond.methodLink "java/lang/StringUTF16" (414 : Nat) ({ cls := "java/lang/String", name := "checkIndex", desc := "(II)V" } : Jvm.MethodName)) ∈ lw_all := lw_g (lw_at lw_m3 7 rfl) rfl
theorem q618 : (Jvm.Cond.static ({ cls := "java/lang/StringUTF16", name := "compress", desc := "([BII)[B" } : Jvm.MethodName)) ∈ lw_all := lw_g (lw_at lw_m3 51 rfl) rfl
theorem q619 : (Jvm.Cond.code ({ cls := "java/lang/StringUTF16", name := "compress", desc := "([BII)[B" } : Jvm.MethodName) prog_40_method_17_code (6 : Nat) (Option.some (Jvm.ClassFile.FieldType.array Jvm.ClassFile.FieldType.byte))) ∈ lw_all := lw_g (lw_at lw_m3 52 rfl) rfl
theorem q620 : (Jvm.Cond.methodLink "java/lang/StringUTF16" (123 : Nat) ({ cls := "java/lang/StringUTF16", name := "compress", desc := "([BI[BII)I" } : Jvm.MethodName)) ∈ lw_all := lw_g (lw_at lw_m3 53 rfl) rfl
theorem q621 : (Jvm.Cond.static ({ cls := "java/lang/StringUTF16", name := "compress", desc := "([BI[BII)I" } : Jvm.MethodName)) ∈ lw_all := lw_g (lw_at lw_m3 54 rfl) rfl
theorem q622 : (Jvm.Cond.code ({ cls := "java/lang/StringUTF16", name := "compress", desc := "([BI[BII)I" } : Jvm.MethodName) prog_40_method_22_code (7 : Nat) (Option.some Jvm.ClassFile.FieldType.int)) ∈ lw_all := lw_g (lw_at lw_m3 55 rfl) rfl
theorem q623 : (Jvm.Cond.methodLink "java/lang/StringUTF16" (71 : Nat) ({ cls := "java/lang/StringUTF16", name := "getChar", desc := "([BI)C" } : Jvm.MethodName)) ∈ lw_all := lw_g (lw_at lw_m3 56 rfl) rfl
theorem q624 : (Jvm.Cond.static ({ cls := "java/lang/StringUTF16", name := "getChar", desc := "([BI)C" } : Jvm.MethodName)) ∈ lw_all := lw_g (lw_at lw_m3 57 rfl) rfl
theorem q625 : (Jvm.Cond.code ({ cls := "java/lang/StringUTF16", name := "getChar", desc := "([BI)C" } : Jvm.MethodName) prog_40_method_5_code (2 : Nat) (Option.some Jvm.ClassFile.FieldType.char)) ∈ lw_all := lw_g (lw_at lw_m3 58 rfl) rfl
theorem q626 : (Jvm.Cond.methodLink "java/lang/StringUTF16" (126 : Nat) ({ cls := "java/util/Arrays", name := "copyOfRange", desc := "([BII)[B" } : Jvm.MethodName)) ∈ lw_all := lw_g (lw_at lw_m3 59 rfl) rfl
theorem q628 : (Jvm.Cond.static ({ cls := "java/lang/StringUTF16", name := "coderFromArrayLen", desc := "([BI)B" } : Jvm.MethodName)) ∈ lw_all := lw_g (lw_at lw_m3 61 rfl) rfl
theorem q629 : (Jvm.Cond.code ({ cls := "java/lang/StringUTF16", name := "coderFromArrayLen", desc := "([BI)B" } : Jvm.MethodName) prog_40_method_15_code (2 : Nat) (Option.some Jvm.ClassFile.FieldType.byte)) ∈ lw_all := lw_g (lw_at lw_m3 62 rfl) rfl
theorem q799 : (Jvm.Cond.static ({ cls := "java/lang/StringUTF16", name := "charAt", desc := "([BI)C" } : Jvm.MethodName)) ∈ lw_all := lw_g (lw_at lw_m3 232 rfl) rfl
theorem q800 : (Jvm.Cond.code ({ cls := "java/lang/StringUTF16", name := "charAt", desc := "([BI)C" } : Jvm.MethodName) prog_40_method_83_code (2 : Nat) (Option.some Jvm.ClassFile.FieldType.char)) ∈ lw_all := lw_g (lw_at lw_m3 233 rfl) rfl
theorem q1052 : (Jvm.Cond.static ({ cls := "java/lang/StringUTF16", name := "putCharsAt", desc := "([BICCCC)I" } : Jvm.MethodName)) ∈ lw_all := lw_g (lw_at lw_m5 5 rfl) rfl
theorem q1053 : (Jvm.Cond.code ({ cls := "java/lang/StringUTF16", name := "putCharsAt", desc := "([BICCCC)I" } : Jvm.MethodName) prog_40_method_81_code (7 : Nat) (Option.some Jvm.ClassFile.FieldType.int)) ∈ lw_all := lw_g (lw_at lw_m5 6 rfl) rfl
theorem q1054 : (Jvm.Cond.methodLink "java/lang/StringUTF16" (96 : Nat) ({ cls := "java/lang/StringUTF16", name := "checkBoundsBeginEnd", desc := "(II[B)V" } : Jvm.MethodName)) ∈ lw_all := lw_g (lw_at lw_m5 7 rfl) rfl
theorem q1055 : (Jvm.Cond.static ({ cls := "java/lang/StringUTF16", name := "checkBoundsBeginEnd", desc := "(II[B)V" } : Jvm.MethodName)) ∈ lw_all := lw_g (lw_at lw_m5 8 rfl) rfl
theorem q1056 : (Jvm.Cond.code ({ cls := "java/lang/StringUTF16", name := "checkBoundsBeginEnd", desc := "(II[B)V" } : Jvm.MethodName) prog_40_method_93_code (3 : Nat) (Option.none : Option Jvm.ClassFile.FieldType)) ∈ lw_all := lw_g (lw_at lw_m5 9 rfl) rfl
theorem q1057 : (Jvm.Cond.methodLink "java/lang/StringUTF16" (241 : Nat) ({ cls := "java/lang/String", name := "checkBoundsBeginEnd", desc := "(III)V" } : Jvm.MethodName)) ∈ lw_all := lw_g (lw_at lw_m5 10 rfl) rfl
theorem q1097 : (Jvm.Cond.static ({ cls := "java/lang/StringUTF16", name := "getChars", desc := "(III[B)I" } : Jvm.MethodName)) ∈ lw_all := lw_g (lw_at lw_m5 50 rfl) rfl
theorem q1098 : (Jvm.Cond.code ({ cls := "java/lang/StringUTF16", name := "getChars", desc := "(III[B)I" } : Jvm.MethodName) prog_40_method_77_code (5 : Nat) (Option.some Jvm.ClassFile.FieldType.int)) ∈ lw_all := lw_g (lw_at lw_m5 51 rfl) rfl
theorem q1099 : (Jvm.Cond.methodLink "java/lang/StringUTF16" (393 : Nat) ({ cls := "java/lang/StringUTF16", name := "getChars", desc := "(II[B)I" } : Jvm.MethodName)) ∈ lw_all := lw_g (lw_at lw_m5 52 rfl) rfl
theorem q1100 : (Jvm.Cond.static ({ cls := "java/lang/StringUTF16", name := "getChars", desc := "(II[B)I" } : Jvm.MethodName)) ∈ lw_all := lw_g (lw_at lw_m5 53 rfl) rfl
theorem q1101 : (Jvm.Cond.code ({ cls := "java/lang/StringUTF16", name := "getChars", desc := "(II[B)I" } : Jvm.MethodName) prog_40_method_89_code (7 : Nat) (Option.some Jvm.ClassFile.FieldType.int)) ∈ lw_all := lw_g (lw_at lw_m5 54 rfl) rfl
theorem q1102 : (Jvm.Cond.fieldLink "java/lang/StringUTF16" (403 : Nat) "java/lang/Integer" "DigitOnes" "[B") ∈ lw_all := lw_g (lw_at lw_m5 55 rfl) rfl
theorem q1103 : (Jvm.Cond.fieldLink "java/lang/StringUTF16" (407 : Nat) "java/lang/Integer" "DigitTens" "[B") ∈ lw_all := lw_g (lw_at lw_m5 56 rfl) rfl

/-! java/lang/Throwable -/
set_option maxRecDepth 100000
def RJ5 : String := "java/lang/Throwable"
def TJ5 : u_T := fun k => match k with
  | 0 => ("java/lang/Throwable", "cause", "Ljava/lang/Throwable;", false)
  | 1 => ("java/lang/Throwable", "stackTrace", "[Ljava/lang/StackTraceElement;", false)
  | 2 => ("java/lang/Throwable", "suppressedExceptions", "Ljava/util/List;", false)
  | 3 => ("java/lang/Throwable", "detailMessage", "Ljava/lang/String;", false)
  | _ => ("java/lang/Throwable", "backtrace", "Ljava/lang/Object;", false)
def tyJ5 : Nat → FieldType := fun k => match k with
  | 0 => .object "java/lang/Throwable"
  | 1 => .array (.object "java/lang/StackTraceElement")
  | 2 => .object "java/util/List"
  | 3 => .object "java/lang/String"
  | _ => .object "java/lang/Object"
abbrev wsJ50 : List Cond := u_ws RJ5 TJ5 5
theorem nmJ5 : ∀ a, a < 5 → ∀ b, b < 5 → a ≠ b → (TJ5 a).2.1 ≠ (TJ5 b).2.1 := by decide +kernel
theorem tyJ5_ok : ∀ k, k < 5 → parseFieldDescriptor (TJ5 k).2.2.1 = some (tyJ5 k) := by decide +kernel
abbrev cJ5_init : ByteArray := prog_42_method_1_code
def yJ5_init : MethodName := ⟨RJ5, "<init>", "()V"⟩
def dkwJ5_init_1 : List UInt8 := [182, 0, 27, 87, 177]
abbrev dktJ5_init_1 : List UInt8 := dkwJ5_init_1 ++ []
def dkwJ5_init_0 : List UInt8 := [42, 183, 0, 1, 42, 42, 181, 0, 7, 42, 178, 0, 13, 181, 0, 17, 42, 178, 0, 20, 181, 0, 24, 42]
abbrev dktJ5_init_0 : List UInt8 := dkwJ5_init_0 ++ dktJ5_init_1
theorem dksJ5_init_0 : cJ5_init.data.toList.drop 0 = dktJ5_init_0 := by decide +kernel
theorem dksJ5_init_1 : cJ5_init.data.toList.drop 24 = dktJ5_init_1 := dk_seg dksJ5_init_0 24 rfl rfl
theorem dJ5_init_0 : decode cJ5_init 0 = .ok (.aload_n 0, 1) := dk_42 (dk_at dksJ5_init_0 0 rfl rfl)
theorem dJ5_init_1 : decode cJ5_init 1 = .ok (.invokespecial 1, 3) := dk_183 0 1 (dk_at dksJ5_init_0 1 rfl rfl)
theorem dJ5_init_4 : decode cJ5_init 4 = .ok (.aload_n 0, 1) := dk_42 (dk_at dksJ5_init_0 4 rfl rfl)
theorem dJ5_init_5 : decode cJ5_init 5 = .ok (.aload_n 0, 1) := dk_42 (dk_at dksJ5_init_0 5 rfl rfl)
theorem dJ5_init_6 : decode cJ5_init 6 = .ok (.putfield 7, 3) := dk_181 0 7 (dk_at dksJ5_init_0 6 rfl rfl)
theorem dJ5_init_9 : decode cJ5_init 9 = .ok (.aload_n 0, 1) := dk_42 (dk_at dksJ5_init_0 9 rfl rfl)
theorem dJ5_init_10 : decode cJ5_init 10 = .ok (.getstatic 13, 3) := dk_178 0 13 (dk_at dksJ5_init_0 10 rfl rfl)
theorem dJ5_init_13 : decode cJ5_init 13 = .ok (.putfield 17, 3) := dk_181 0 17 (dk_at dksJ5_init_0 13 rfl rfl)
theorem dJ5_init_16 : decode cJ5_init 16 = .ok (.aload_n 0, 1) := dk_42 (dk_at dksJ5_init_0 16 rfl rfl)
theorem dJ5_init_17 : decode cJ5_init 17 = .ok (.getstatic 20, 3) := dk_178 0 20 (dk_at dksJ5_init_0 17 rfl rfl)
theorem dJ5_init_20 : decode cJ5_init 20 = .ok (.putfield 24, 3) := dk_181 0 24 (dk_at dksJ5_init_0 20 rfl rfl)
theorem dJ5_init_23 : decode cJ5_init 23 = .ok (.aload_n 0, 1) := dk_42 (dk_at dksJ5_init_0 23 rfl rfl)
theorem dJ5_init_24 : decode cJ5_init 24 = .ok (.invokevirtual 27, 3) := dk_182 0 27 (dk_at dksJ5_init_1 0 rfl rfl)
theorem dJ5_init_27 : decode cJ5_init 27 = .ok (.pop, 1) := dk_87 (dk_at dksJ5_init_1 3 rfl rfl)
theorem dJ5_init_28 : decode cJ5_init 28 = .ok (.return_, 1) := dk_177 (dk_at dksJ5_init_1 4 rfl rfl)
abbrev cJ5_init_2 : ByteArray := prog_42_method_5_code
def yJ5_init_2 : MethodName := ⟨RJ5, "<init>", "(Ljava/lang/String;Ljava/lang/Throwable;ZZ)V"⟩
def dkwJ5_init_2_2 : List UInt8 := [44, 181, 0, 7, 29, 154, 0, 8, 42, 1, 181, 0, 24, 177]
abbrev dktJ5_init_2_2 : List UInt8 := dkwJ5_init_2_2 ++ []
def dkwJ5_init_2_1 : List UInt8 := [21, 4, 153, 0, 11, 42, 182, 0, 27, 87, 167, 0, 8, 42, 1, 181, 0, 17, 42, 43, 181, 0, 31, 42]
abbrev dktJ5_init_2_1 : List UInt8 := dkwJ5_init_2_1 ++ dktJ5_init_2_2
def dkwJ5_init_2_0 : List UInt8 := [42, 183, 0, 1, 42, 42, 181, 0, 7, 42, 178, 0, 13, 181, 0, 17, 42, 178, 0, 20, 181, 0, 24]
abbrev dktJ5_init_2_0 : List UInt8 := dkwJ5_init_2_0 ++ dktJ5_init_2_1
theorem dksJ5_init_2_0 : cJ5_init_2.data.toList.drop 0 = dktJ5_init_2_0 := by decide +kernel
theorem dksJ5_init_2_1 : cJ5_init_2.data.toList.drop 23 = dktJ5_init_2_1 := dk_seg dksJ5_init_2_0 23 rfl rfl
theorem dksJ5_init_2_2 : cJ5_init_2.data.toList.drop 47 = dktJ5_init_2_2 := dk_seg dksJ5_init_2_1 24 rfl rfl
theorem dJ5_init_2_0 : decode cJ5_init_2 0 = .ok (.aload_n 0, 1) := dk_42 (dk_at dksJ5_init_2_0 0 rfl rfl)
theorem dJ5_init_2_1 : decode cJ5_init_2 1 = .ok (.invokespecial 1, 3) := dk_183 0 1 (dk_at dksJ5_init_2_0 1 rfl rfl)
theorem dJ5_init_2_4 : decode cJ5_init_2 4 = .ok (.aload_n 0, 1) := dk_42 (dk_at dksJ5_init_2_0 4 rfl rfl)
theorem dJ5_init_2_5 : decode cJ5_init_2 5 = .ok (.aload_n 0, 1) := dk_42 (dk_at dksJ5_init_2_0 5 rfl rfl)
theorem dJ5_init_2_6 : decode cJ5_init_2 6 = .ok (.putfield 7, 3) := dk_181 0 7 (dk_at dksJ5_init_2_0 6 rfl rfl)
theorem dJ5_init_2_9 : decode cJ5_init_2 9 = .ok (.aload_n 0, 1) := dk_42 (dk_at dksJ5_init_2_0 9 rfl rfl)
theorem dJ5_init_2_10 : decode cJ5_init_2 10 = .ok (.getstatic 13, 3) := dk_178 0 13 (dk_at dksJ5_init_2_0 10 rfl rfl)
theorem dJ5_init_2_13 : decode cJ5_init_2 13 = .ok (.putfield 17, 3) := dk_181 0 17 (dk_at dksJ5_init_2_0 13 rfl rfl)
theorem dJ5_init_2_16 : decode cJ5_init_2 16 = .ok (.aload_n 0, 1) := dk_42 (dk_at dksJ5_init_2_0 16 rfl rfl)
theorem dJ5_init_2_17 : decode cJ5_init_2 17 = .ok (.getstatic 20, 3) := dk_178 0 20 (dk_at dksJ5_init_2_0 17 rfl rfl)
theorem dJ5_init_2_20 : decode cJ5_init_2 20 = .ok (.putfield 24, 3) := dk_181 0 24 (dk_at dksJ5_init_2_0 20 rfl rfl)
theorem dJ5_init_2_23 : decode cJ5_init_2 23 = .ok (.iload 4, 2) := dk_21 4 (dk_at dksJ5_init_2_1 0 rfl rfl)
theorem dJ5_init_2_25 : decode cJ5_init_2 25 = .ok (.ifCond .eq 11, 3) := dk_153 0 11 (dk_at dksJ5_init_2_1 2 rfl rfl)
theorem dJ5_init_2_28 : decode cJ5_init_2 28 = .ok (.aload_n 0, 1) := dk_42 (dk_at dksJ5_init_2_1 5 rfl rfl)
theorem dJ5_init_2_29 : decode cJ5_init_2 29 = .ok (.invokevirtual 27, 3) := dk_182 0 27 (dk_at dksJ5_init_2_1 6 rfl rfl)
theorem dJ5_init_2_32 : decode cJ5_init_2 32 = .ok (.pop, 1) := dk_87 (dk_at dksJ5_init_2_1 9 rfl rfl)
theorem dJ5_init_2_33 : decode cJ5_init_2 33 = .ok (.goto 8, 3) := dk_167 0 8 (dk_at dksJ5_init_2_1 10 rfl rfl)
theorem dJ5_init_2_36 : decode cJ5_init_2 36 = .ok (.aload_n 0, 1) := dk_42 (dk_at dksJ5_init_2_1 13 rfl rfl)
theorem dJ5_init_2_37 : decode cJ5_init_2 37 = .ok (.aconst_null, 1) := dk_1 (dk_at dksJ5_init_2_1 14 rfl rfl)
theorem dJ5_init_2_38 : decode cJ5_init_2 38 = .ok (.putfield 17, 3) := dk_181 0 17 (dk_at dksJ5_init_2_1 15 rfl rfl)
theorem dJ5_init_2_41 : decode cJ5_init_2 41 = .ok (.aload_n 0, 1) := dk_42 (dk_at dksJ5_init_2_1 18 rfl rfl)
theorem dJ5_init_2_42 : decode cJ5_init_2 42 = .ok (.aload_n 1, 1) := dk_43 (dk_at dksJ5_init_2_1 19 rfl rfl)
theorem dJ5_init_2_43 : decode cJ5_init_2 43 = .ok (.putfield 31, 3) := dk_181 0 31 (dk_at dksJ5_init_2_1 20 rfl rfl)
theorem dJ5_init_2_46 : decode cJ5_init_2 46 = .ok (.aload_n 0, 1) := dk_42 (dk_at dksJ5_init_2_1 23 rfl rfl)
theorem dJ5_init_2_47 : decode cJ5_init_2 47 = .ok (.aload_n 2, 1) := dk_44 (dk_at dksJ5_init_2_2 0 rfl rfl)
theorem dJ5_init_2_48 : decode cJ5_init_2 48 = .ok (.putfield 7, 3) := dk_181 0 7 (dk_at dksJ5_init_2_2 1 rfl rfl)
theorem dJ5_init_2_51 : decode cJ5_init_2 51 = .ok (.iload_n 3, 1) := dk_29 (dk_at dksJ5_init_2_2 4 rfl rfl)
theorem dJ5_init_2_52 : decode cJ5_init_2 52 = .ok (.ifCond .ne 8, 3) := dk_154 0 8 (dk_at dksJ5_init_2_2 5 rfl rfl)
theorem dJ5_init_2_55 : decode cJ5_init_2 55 = .ok (.aload_n 0, 1) := dk_42 (dk_at dksJ5_init_2_2 8 rfl rfl)
theorem dJ5_init_2_56 : decode cJ5_init_2 56 = .ok (.aconst_null, 1) := dk_1 (dk_at dksJ5_init_2_2 9 rfl rfl)
theorem dJ5_init_2_57 : decode cJ5_init_2 57 = .ok (.putfield 24, 3) := dk_181 0 24 (dk_at dksJ5_init_2_2 10 rfl rfl)
theorem dJ5_init_2_60 : decode cJ5_init_2 60 = .ok (.return_, 1) := dk_177 (dk_at dksJ5_init_2_2 13 rfl rfl)
abbrev cJ5_init_3 : ByteArray := prog_42_method_2_code
def yJ5_init_3 : MethodName := ⟨RJ5, "<init>", "(Ljava/lang/String;)V"⟩
def dkwJ5_init_3_1 : List UInt8 := [182, 0, 27, 87, 42, 43, 181, 0, 31, 177]
abbrev dktJ5_init_3_1 : List UInt8 := dkwJ5_init_3_1 ++ []
def dkwJ5_init_3_0 : List UInt8 := [42, 183, 0, 1, 42, 42, 181, 0, 7, 42, 178, 0, 13, 181, 0, 17, 42, 178, 0, 20, 181, 0, 24, 42]
abbrev dktJ5_init_3_0 : List UInt8 := dkwJ5_init_3_0 ++ dktJ5_init_3_1
theorem dksJ5_init_3_0 : cJ5_init_3.data.toList.drop 0 = dktJ5_init_3_0 := by decide +kernel
theorem dksJ5_init_3_1 : cJ5_init_3.data.toList.drop 24 = dktJ5_init_3_1 := dk_seg dksJ5_init_3_0 24 rfl rfl
theorem dJ5_init_3_0 : decode cJ5_init_3 0 = .ok (.aload_n 0, 1) := dk_42 (dk_at dksJ5_init_3_0 0 rfl rfl)
theorem dJ5_init_3_1 : decode cJ5_init_3 1 = .ok (.invokespecial 1, 3) := dk_183 0 1 (dk_at dksJ5_init_3_0 1 rfl rfl)
theorem dJ5_init_3_4 : decode cJ5_init_3 4 = .ok (.aload_n 0, 1) := dk_42 (dk_at dksJ5_init_3_0 4 rfl rfl)
theorem dJ5_init_3_5 : decode cJ5_init_3 5 = .ok (.aload_n 0, 1) := dk_42 (dk_at dksJ5_init_3_0 5 rfl rfl)
theorem dJ5_init_3_6 : decode cJ5_init_3 6 = .ok (.putfield 7, 3) := dk_181 0 7 (dk_at dksJ5_init_3_0 6 rfl rfl)
theorem dJ5_init_3_9 : decode cJ5_init_3 9 = .ok (.aload_n 0, 1) := dk_42 (dk_at dksJ5_init_3_0 9 rfl rfl)
theorem dJ5_init_3_10 : decode cJ5_init_3 10 = .ok (.getstatic 13, 3) := dk_178 0 13 (dk_at dksJ5_init_3_0 10 rfl rfl)
theorem dJ5_init_3_13 : decode cJ5_init_3 13 = .ok (.putfield 17, 3) := dk_181 0 17 (dk_at dksJ5_init_3_0 13 rfl rfl)
theorem dJ5_init_3_16 : decode cJ5_init_3 16 = .ok (.aload_n 0, 1) := dk_42 (dk_at dksJ5_init_3_0 16 rfl rfl)
theorem dJ5_init_3_17 : decode cJ5_init_3 17 = .ok (.getstatic 20, 3) := dk_178 0 20 (dk_at dksJ5_init_3_0 17 rfl rfl)
theorem dJ5_init_3_20 : decode cJ5_init_3 20 = .ok (.putfield 24, 3) := dk_181 0 24 (dk_at dksJ5_init_3_0 20 rfl rfl)
theorem dJ5_init_3_23 : decode cJ5_init_3 23 = .ok (.aload_n 0, 1) := dk_42 (dk_at dksJ5_init_3_0 23 rfl rfl)
theorem dJ5_init_3_24 : decode cJ5_init_3 24 = .ok (.invokevirtual 27, 3) := dk_182 0 27 (dk_at dksJ5_init_3_1 0 rfl rfl)
theorem dJ5_init_3_27 : decode cJ5_init_3 27 = .ok (.pop, 1) := dk_87 (dk_at dksJ5_init_3_1 3 rfl rfl)
theorem dJ5_init_3_28 : decode cJ5_init_3 28 = .ok (.aload_n 0, 1) := dk_42 (dk_at dksJ5_init_3_1 4 rfl rfl)
theorem dJ5_init_3_29 : decode cJ5_init_3 29 = .ok (.aload_n 1, 1) := dk_43 (dk_at dksJ5_init_3_1 5 rfl rfl)
theorem dJ5_init_3_30 : decode cJ5_init_3 30 = .ok (.putfield 31, 3) := dk_181 0 31 (dk_at dksJ5_init_3_1 6 rfl rfl)
theorem dJ5_init_3_33 : decode cJ5_init_3 33 = .ok (.return_, 1) := dk_177 (dk_at dksJ5_init_3_1 9 rfl rfl)
theorem q98 : (Jvm.Cond.initialized "java/lang/Throwable") ∈ lw_all := lw_g (lw_at lw_m1 11 rfl) rfl
theorem q401 : (Jvm.Cond.declares ({ cls := "java/lang/Throwable", name := "<init>", desc := "()V" } : Jvm.MethodName)) ∈ lw_tbl := lw_at lw_m2 74 rfl
theorem q402 : (Jvm.Cond.declares ({ cls := "java/lang/Throwable", name := "<init>", desc := "(Ljava/lang/String;)V" } : Jvm.MethodName)) ∈ lw_tbl := lw_at lw_m2 75 rfl
theorem q406 : (Jvm.Cond.lays "java/lang/Throwable" "java/lang/Throwable" "cause" "Ljava/lang/Throwable;") ∈ lw_all := lw_g (lw_at lw_m2 79 rfl) rfl
theorem q408 : (Jvm.Cond.lays "java/lang/Throwable" "java/lang/Throwable" "stackTrace" "[Ljava/lang/StackTraceElement;") ∈ lw_all := lw_g (lw_at lw_m2 81 rfl) rfl
theorem q410 : (Jvm.Cond.lays "java/lang/Throwable" "java/lang/Throwable" "suppressedExceptions" "Ljava/util/List;") ∈ lw_all := lw_g (lw_at lw_m2 83 rfl) rfl
theorem q412 : (Jvm.Cond.lays "java/lang/Throwable" "java/lang/Throwable" "detailMessage" "Ljava/lang/String;") ∈ lw_all := lw_g (lw_at lw_m2 85 rfl) rfl
theorem q414 : (Jvm.Cond.lays "java/lang/Throwable" "java/lang/Throwable" "backtrace" "Ljava/lang/Object;") ∈ lw_all := lw_g (lw_at lw_m2 87 rfl) rfl
theorem q415 : (Jvm.Cond.fieldLink "java/lang/Throwable" (198 : Nat) "java/lang/Throwable" "backtrace" "Ljava/lang/Object;") ∈ lw_all := lw_g (lw_at lw_m2 88 rfl) rfl
theorem q416 : (Jvm.Cond.superclass "java/lang/Throwable" "java/lang/Object") ∈ lw_all := lw_g (lw_at lw_m2 89 rfl) rfl
theorem q417 : (Jvm.Cond.instanceMethod ({ cls := "java/lang/Throwable", name := "<init>", desc := "()V" } : Jvm.MethodName)) ∈ lw_all := lw_g (lw_at lw_m2 90 rfl) rfl
theorem q418 : (Jvm.Cond.code ({ cls := "java/lang/Throwable", name := "<init>", desc := "()V" } : Jvm.MethodName) prog_42_method_1_code (1 : Nat) (Option.none : Option Jvm.ClassFile.FieldType)) ∈ lw_all := lw_g (lw_at lw_m2 91 rfl) rfl
theorem q419 : (Jvm.Cond.methodLink "java/lang/Throwable" (1 : Nat) ({ cls := "java/lang/Object", name := "<init>", desc := "()V" } : Jvm.MethodName)) ∈ lw_all := lw_g (lw_at lw_m2 92 rfl) rfl
theorem q420 : (Jvm.Cond.fieldLink "java/lang/Throwable" (13 : Nat) "java/lang/Throwable" "UNASSIGNED_STACK" "[Ljava/lang/StackTraceElement;") ∈ lw_all := lw_g (lw_at lw_m2 93 rfl) rfl
theorem q421 : (Jvm.Cond.laysStatic "java/lang/Throwable" "UNASSIGNED_STACK" "[Ljava/lang/StackTraceElement;") ∈ lw_tbl := lw_at lw_m2 94 rfl
theorem q422 : (Jvm.Cond.fieldLink "java/lang/Throwable" (20 : Nat) "java/lang/Throwable" "SUPPRESSED_SENTINEL" "Ljava/util/List;") ∈ lw_all := lw_g (lw_at lw_m2 95 rfl) rfl
theorem q423 : (Jvm.Cond.laysStatic "java/lang/Throwable" "SUPPRESSED_SENTINEL" "Ljava/util/List;") ∈ lw_tbl := lw_at lw_m2 96 rfl
theorem q424 : (Jvm.Cond.methodLink "java/lang/Throwable" (27 : Nat) ({ cls := "java/lang/Throwable", name := "fillInStackTrace", desc := "()Ljava/lang/Throwable;" } : Jvm.MethodName)) ∈ lw_all := lw_g (lw_at lw_m2 97 rfl) rfl
theorem q425 : (Jvm.Cond.instanceMethod ({ cls := "java/lang/Throwable", name := "fillInStackTrace", desc := "()Ljava/lang/Throwable;" } : Jvm.MethodName)) ∈ lw_all := lw_g (lw_at lw_m2 98 rfl) rfl
theorem q426 : (Jvm.Cond.sameMethod "java/lang/Throwable" "java/lang/Throwable" "fillInStackTrace" "()Ljava/lang/Throwable;") ∈ lw_all := lw_g (lw_at lw_m2 99 rfl) rfl
theorem q442 : (Jvm.Cond.declares ({ cls := "java/lang/Throwable", name := "fillInStackTrace", desc := "()Ljava/lang/Throwable;" } : Jvm.MethodName)) ∈ lw_tbl := lw_at lw_m2 115 rfl
theorem q446 : (Jvm.Cond.codeSync ({ cls := "java/lang/Throwable", name := "fillInStackTrace", desc := "()Ljava/lang/Throwable;" } : Jvm.MethodName) prog_42_method_18_code (1 : Nat) (Option.some (Jvm.ClassFile.FieldType.object "java/lang/Throwable"))) ∈ lw_all := lw_g (lw_at lw_m2 119 rfl) rfl
theorem q447 : (Jvm.Cond.methodLink "java/lang/Throwable" (202 : Nat) ({ cls := "java/lang/Throwable", name := "fillInStackTrace", desc := "(I)Ljava/lang/Throwable;" } : Jvm.MethodName)) ∈ lw_all := lw_g (lw_at lw_m2 120 rfl) rfl
theorem q448 : (Jvm.Cond.privateMethod ({ cls := "java/lang/Throwable", name := "fillInStackTrace", desc := "(I)Ljava/lang/Throwable;" } : Jvm.MethodName)) ∈ lw_tbl := lw_at lw_m2 121 rfl
theorem q449 : (Jvm.Cond.instanceMethod ({ cls := "java/lang/Throwable", name := "fillInStackTrace", desc := "(I)Ljava/lang/Throwable;" } : Jvm.MethodName)) ∈ lw_all := lw_g (lw_at lw_m2 122 rfl) rfl
theorem q450 : (Jvm.Cond.instantiable "java/lang/Throwable" (6 : Nat)) ∈ lw_all := lw_g (lw_at lw_m2 123 rfl) rfl
theorem q451 : (Jvm.Cond.native ({ cls := "java/lang/Throwable", name := "fillInStackTrace", desc := "(I)Ljava/lang/Throwable;" } : Jvm.MethodName)) ∈ lw_all := lw_g (lw_at lw_m2 124 rfl) rfl
theorem q462 : (Jvm.Cond.fieldLink "java/lang/Throwable" (198 : Nat) "java/lang/Throwable" "backtrace" "Ljava/lang/Object;") ∈ lw_all := lw_g (lw_at lw_m2 135 rfl) rfl
theorem q463 : (Jvm.Cond.fieldLink "java/lang/Throwable" (31 : Nat) "java/lang/Throwable" "detailMessage" "Ljava/lang/String;") ∈ lw_all := lw_g (lw_at lw_m2 136 rfl) rfl
theorem q464 : (Jvm.Cond.fieldLink "java/lang/Throwable" (7 : Nat) "java/lang/Throwable" "cause" "Ljava/lang/Throwable;") ∈ lw_all := lw_g (lw_at lw_m2 137 rfl) rfl
theorem q465 : (Jvm.Cond.fieldLink "java/lang/Throwable" (17 : Nat) "java/lang/Throwable" "stackTrace" "[Ljava/lang/StackTraceElement;") ∈ lw_all := lw_g (lw_at lw_m2 138 rfl) rfl
theorem q466 : (Jvm.Cond.fieldLink "java/lang/Throwable" (24 : Nat) "java/lang/Throwable" "suppressedExceptions" "Ljava/util/List;") ∈ lw_all := lw_g (lw_at lw_m2 139 rfl) rfl
theorem q467 : (Jvm.Cond.soleField "java/lang/Throwable" "backtrace") ∈ lw_all := lw_g (lw_at lw_m2 140 rfl) rfl
theorem q468 : (Jvm.Cond.soleField "java/lang/Throwable" "detailMessage") ∈ lw_all := lw_g (lw_at lw_m2 141 rfl) rfl
theorem q469 : (Jvm.Cond.soleField "java/lang/Throwable" "cause") ∈ lw_all := lw_g (lw_at lw_m2 142 rfl) rfl
theorem q470 : (Jvm.Cond.soleField "java/lang/Throwable" "stackTrace") ∈ lw_all := lw_g (lw_at lw_m2 143 rfl) rfl
theorem q472 : (Jvm.Cond.soleField "java/lang/Throwable" "depth") ∈ lw_all := lw_g (lw_at lw_m2 145 rfl) rfl
theorem q473 : (Jvm.Cond.soleField "java/lang/Throwable" "suppressedExceptions") ∈ lw_all := lw_g (lw_at lw_m2 146 rfl) rfl
theorem q765 : (Jvm.Cond.instanceMethod ({ cls := "java/lang/Throwable", name := "<init>", desc := "(Ljava/lang/String;Ljava/lang/Throwable;ZZ)V" } : Jvm.MethodName)) ∈ lw_all := lw_g (lw_at lw_m3 198 rfl) rfl
theorem q766 : (Jvm.Cond.code ({ cls := "java/lang/Throwable", name := "<init>", desc := "(Ljava/lang/String;Ljava/lang/Throwable;ZZ)V" } : Jvm.MethodName) prog_42_method_5_code (5 : Nat) (Option.none : Option Jvm.ClassFile.FieldType)) ∈ lw_all := lw_g (lw_at lw_m3 199 rfl) rfl
theorem q1116 : (Jvm.Cond.instanceMethod ({ cls := "java/lang/Throwable", name := "<init>", desc := "(Ljava/lang/String;)V" } : Jvm.MethodName)) ∈ lw_all := lw_g (lw_at lw_m5 69 rfl) rfl
theorem q1117 : (Jvm.Cond.code ({ cls := "java/lang/Throwable", name := "<init>", desc := "(Ljava/lang/String;)V" } : Jvm.MethodName) prog_42_method_2_code (2 : Nat) (Option.none : Option Jvm.ClassFile.FieldType)) ∈ lw_all := lw_g (lw_at lw_m5 70 rfl) rfl
theorem q2240 : (Jvm.Cond.sameMethod "java/lang/Throwable" "java/lang/Throwable" "fillInStackTrace" "(I)Ljava/lang/Throwable;") ∈ lw_all := lw_g (lw_at lw_m9 233 rfl) rfl
theorem q2297 : (Jvm.Cond.castable "java/lang/Throwable" "java/lang/Object") ∈ lw_tbl := lw_at lw_m10 50 rfl
theorem in_J5 : ∀ w ∈ wsJ50, w ∈ lw_all := lw_in wsJ50 [406, 408, 410, 412, 414] (by decide +kernel) (by decide +kernel)

/-! java/lang/Exception -/
set_option maxRecDepth 100000
def RJ6 : String := "java/lang/Exception"
abbrev cJ6_init : ByteArray := prog_28_method_1_code
def yJ6_init : MethodName := ⟨RJ6, "<init>", "()V"⟩
theorem dJ6_init_0 : decode cJ6_init 0 = .ok (.aload_n 0, 1) := by decide +kernel
theorem dJ6_init_1 : decode cJ6_init 1 = .ok (.invokespecial 1, 3) := by decide +kernel
theorem dJ6_init_4 : decode cJ6_init 4 = .ok (.return_, 1) := by decide +kernel
abbrev cJ6_init_2 : ByteArray := prog_28_method_5_code
def yJ6_init_2 : MethodName := ⟨RJ6, "<init>", "(Ljava/lang/String;Ljava/lang/Throwable;ZZ)V"⟩
def dkwJ6_init_2_0 : List UInt8 := [42, 43, 44, 29, 21, 4, 183, 0, 16, 177]
abbrev dktJ6_init_2_0 : List UInt8 := dkwJ6_init_2_0 ++ []
theorem dksJ6_init_2_0 : cJ6_init_2.data.toList.drop 0 = dktJ6_init_2_0 := by decide +kernel
theorem dJ6_init_2_0 : decode cJ6_init_2 0 = .ok (.aload_n 0, 1) := dk_42 (dk_at dksJ6_init_2_0 0 rfl rfl)
theorem dJ6_init_2_1 : decode cJ6_init_2 1 = .ok (.aload_n 1, 1) := dk_43 (dk_at dksJ6_init_2_0 1 rfl rfl)
theorem dJ6_init_2_2 : decode cJ6_init_2 2 = .ok (.aload_n 2, 1) := dk_44 (dk_at dksJ6_init_2_0 2 rfl rfl)
theorem dJ6_init_2_3 : decode cJ6_init_2 3 = .ok (.iload_n 3, 1) := dk_29 (dk_at dksJ6_init_2_0 3 rfl rfl)
theorem dJ6_init_2_4 : decode cJ6_init_2 4 = .ok (.iload 4, 2) := dk_21 4 (dk_at dksJ6_init_2_0 4 rfl rfl)
theorem dJ6_init_2_6 : decode cJ6_init_2 6 = .ok (.invokespecial 16, 3) := dk_183 0 16 (dk_at dksJ6_init_2_0 6 rfl rfl)
theorem dJ6_init_2_9 : decode cJ6_init_2 9 = .ok (.return_, 1) := dk_177 (dk_at dksJ6_init_2_0 9 rfl rfl)
abbrev cJ6_init_3 : ByteArray := prog_28_method_2_code
def yJ6_init_3 : MethodName := ⟨RJ6, "<init>", "(Ljava/lang/String;)V"⟩
def dkwJ6_init_3_0 : List UInt8 := [42, 43, 183, 0, 7, 177]
abbrev dktJ6_init_3_0 : List UInt8 := dkwJ6_init_3_0 ++ []
theorem dksJ6_init_3_0 : cJ6_init_3.data.toList.drop 0 = dktJ6_init_3_0 := by decide +kernel
theorem dJ6_init_3_0 : decode cJ6_init_3 0 = .ok (.aload_n 0, 1) := dk_42 (dk_at dksJ6_init_3_0 0 rfl rfl)
theorem dJ6_init_3_1 : decode cJ6_init_3 1 = .ok (.aload_n 1, 1) := dk_43 (dk_at dksJ6_init_3_0 1 rfl rfl)
theorem dJ6_init_3_2 : decode cJ6_init_3 2 = .ok (.invokespecial 7, 3) := dk_183 0 7 (dk_at dksJ6_init_3_0 2 rfl rfl)
theorem dJ6_init_3_5 : decode cJ6_init_3 5 = .ok (.return_, 1) := dk_177 (dk_at dksJ6_init_3_0 5 rfl rfl)
theorem q99 : (Jvm.Cond.initialized "java/lang/Exception") ∈ lw_all := lw_g (lw_at lw_m1 12 rfl) rfl
theorem q399 : (Jvm.Cond.declares ({ cls := "java/lang/Exception", name := "<init>", desc := "()V" } : Jvm.MethodName)) ∈ lw_tbl := lw_at lw_m2 72 rfl
theorem q400 : (Jvm.Cond.declares ({ cls := "java/lang/Exception", name := "<init>", desc := "(Ljava/lang/String;)V" } : Jvm.MethodName)) ∈ lw_tbl := lw_at lw_m2 73 rfl
theorem q445 : (Jvm.Cond.superclass "java/lang/Exception" "java/lang/Throwable") ∈ lw_all := lw_g (lw_at lw_m2 118 rfl) rfl
theorem q459 : (Jvm.Cond.instanceMethod ({ cls := "java/lang/Exception", name := "<init>", desc := "()V" } : Jvm.MethodName)) ∈ lw_all := lw_g (lw_at lw_m2 132 rfl) rfl
theorem q460 : (Jvm.Cond.code ({ cls := "java/lang/Exception", name := "<init>", desc := "()V" } : Jvm.MethodName) prog_28_method_1_code (1 : Nat) (Option.none : Option Jvm.ClassFile.FieldType)) ∈ lw_all := lw_g (lw_at lw_m2 133 rfl) rfl
theorem q461 : (Jvm.Cond.methodLink "java/lang/Exception" (1 : Nat) ({ cls := "java/lang/Throwable", name := "<init>", desc := "()V" } : Jvm.MethodName)) ∈ lw_all := lw_g (lw_at lw_m2 134 rfl) rfl
theorem q762 : (Jvm.Cond.instanceMethod ({ cls := "java/lang/Exception", name := "<init>", desc := "(Ljava/lang/String;Ljava/lang/Throwable;ZZ)V" } : Jvm.MethodName)) ∈ lw_all := lw_g (lw_at lw_m3 195 rfl) rfl
theorem q763 : (Jvm.Cond.code ({ cls := "java/lang/Exception", name := "<init>", desc := "(Ljava/lang/String;Ljava/lang/Throwable;ZZ)V" } : Jvm.MethodName) prog_28_method_5_code (5 : Nat) (Option.none : Option Jvm.ClassFile.FieldType)) ∈ lw_all := lw_g (lw_at lw_m3 196 rfl) rfl
theorem q764 : (Jvm.Cond.methodLink "java/lang/Exception" (16 : Nat) ({ cls := "java/lang/Throwable", name := "<init>", desc := "(Ljava/lang/String;Ljava/lang/Throwable;ZZ)V" } : Jvm.MethodName)) ∈ lw_all := lw_g (lw_at lw_m3 197 rfl) rfl
theorem q1113 : (Jvm.Cond.instanceMethod ({ cls := "java/lang/Exception", name := "<init>", desc := "(Ljava/lang/String;)V" } : Jvm.MethodName)) ∈ lw_all := lw_g (lw_at lw_m5 66 rfl) rfl
theorem q1114 : (Jvm.Cond.code ({ cls := "java/lang/Exception", name := "<init>", desc := "(Ljava/lang/String;)V" } : Jvm.MethodName) prog_28_method_2_code (2 : Nat) (Option.none : Option Jvm.ClassFile.FieldType)) ∈ lw_all := lw_g (lw_at lw_m5 67 rfl) rfl
theorem q1115 : (Jvm.Cond.methodLink "java/lang/Exception" (7 : Nat) ({ cls := "java/lang/Throwable", name := "<init>", desc := "(Ljava/lang/String;)V" } : Jvm.MethodName)) ∈ lw_all := lw_g (lw_at lw_m5 68 rfl) rfl

/-! java/lang/RuntimeException -/
set_option maxRecDepth 100000
def RJ7 : String := "java/lang/RuntimeException"
abbrev cJ7_init : ByteArray := prog_36_method_1_code
def yJ7_init : MethodName := ⟨RJ7, "<init>", "()V"⟩
theorem dJ7_init_0 : decode cJ7_init 0 = .ok (.aload_n 0, 1) := by decide +kernel
theorem dJ7_init_1 : decode cJ7_init 1 = .ok (.invokespecial 1, 3) := by decide +kernel
theorem dJ7_init_4 : decode cJ7_init 4 = .ok (.return_, 1) := by decide +kernel
abbrev cJ7_init_2 : ByteArray := prog_36_method_2_code
def yJ7_init_2 : MethodName := ⟨RJ7, "<init>", "(Ljava/lang/String;)V"⟩
def dkwJ7_init_2_0 : List UInt8 := [42, 43, 183, 0, 7, 177]
abbrev dktJ7_init_2_0 : List UInt8 := dkwJ7_init_2_0 ++ []
theorem dksJ7_init_2_0 : cJ7_init_2.data.toList.drop 0 = dktJ7_init_2_0 := by decide +kernel
theorem dJ7_init_2_0 : decode cJ7_init_2 0 = .ok (.aload_n 0, 1) := dk_42 (dk_at dksJ7_init_2_0 0 rfl rfl)
theorem dJ7_init_2_1 : decode cJ7_init_2 1 = .ok (.aload_n 1, 1) := dk_43 (dk_at dksJ7_init_2_0 1 rfl rfl)
theorem dJ7_init_2_2 : decode cJ7_init_2 2 = .ok (.invokespecial 7, 3) := dk_183 0 7 (dk_at dksJ7_init_2_0 2 rfl rfl)
theorem dJ7_init_2_5 : decode cJ7_init_2 5 = .ok (.return_, 1) := dk_177 (dk_at dksJ7_init_2_0 5 rfl rfl)
theorem q100 : (Jvm.Cond.initialized "java/lang/RuntimeException") ∈ lw_all := lw_g (lw_at lw_m1 13 rfl) rfl
theorem q397 : (Jvm.Cond.declares ({ cls := "java/lang/RuntimeException", name := "<init>", desc := "()V" } : Jvm.MethodName)) ∈ lw_tbl := lw_at lw_m2 70 rfl
theorem q398 : (Jvm.Cond.declares ({ cls := "java/lang/RuntimeException", name := "<init>", desc := "(Ljava/lang/String;)V" } : Jvm.MethodName)) ∈ lw_tbl := lw_at lw_m2 71 rfl
theorem q441 : (Jvm.Cond.sameMethod "java/lang/RuntimeException" "java/lang/Throwable" "fillInStackTrace" "()Ljava/lang/Throwable;") ∈ lw_all := lw_g (lw_at lw_m2 114 rfl) rfl
theorem q444 : (Jvm.Cond.superclass "java/lang/RuntimeException" "java/lang/Exception") ∈ lw_all := lw_g (lw_at lw_m2 117 rfl) rfl
theorem q456 : (Jvm.Cond.instanceMethod ({ cls := "java/lang/RuntimeException", name := "<init>", desc := "()V" } : Jvm.MethodName)) ∈ lw_all := lw_g (lw_at lw_m2 129 rfl) rfl
theorem q457 : (Jvm.Cond.code ({ cls := "java/lang/RuntimeException", name := "<init>", desc := "()V" } : Jvm.MethodName) prog_36_method_1_code (1 : Nat) (Option.none : Option Jvm.ClassFile.FieldType)) ∈ lw_all := lw_g (lw_at lw_m2 130 rfl) rfl
theorem q458 : (Jvm.Cond.methodLink "java/lang/RuntimeException" (1 : Nat) ({ cls := "java/lang/Exception", name := "<init>", desc := "()V" } : Jvm.MethodName)) ∈ lw_all := lw_g (lw_at lw_m2 131 rfl) rfl
theorem q1110 : (Jvm.Cond.instanceMethod ({ cls := "java/lang/RuntimeException", name := "<init>", desc := "(Ljava/lang/String;)V" } : Jvm.MethodName)) ∈ lw_all := lw_g (lw_at lw_m5 63 rfl) rfl
theorem q1111 : (Jvm.Cond.code ({ cls := "java/lang/RuntimeException", name := "<init>", desc := "(Ljava/lang/String;)V" } : Jvm.MethodName) prog_36_method_2_code (2 : Nat) (Option.none : Option Jvm.ClassFile.FieldType)) ∈ lw_all := lw_g (lw_at lw_m5 64 rfl) rfl
theorem q1112 : (Jvm.Cond.methodLink "java/lang/RuntimeException" (7 : Nat) ({ cls := "java/lang/Exception", name := "<init>", desc := "(Ljava/lang/String;)V" } : Jvm.MethodName)) ∈ lw_all := lw_g (lw_at lw_m5 65 rfl) rfl
theorem q1456 : (Jvm.Cond.castable "java/lang/RuntimeException" "java/lang/Throwable") ∈ lw_tbl := lw_at lw_m6 169 rfl

/-! java/lang/NegativeArraySizeException -/
set_option maxRecDepth 100000
def RJ8 : String := "java/lang/NegativeArraySizeException"
def TJ8 : u_T := fun k => match k with
  | 0 => ("java/lang/Throwable", "cause", "Ljava/lang/Throwable;", false)
  | 1 => ("java/lang/Throwable", "stackTrace", "[Ljava/lang/StackTraceElement;", false)
  | 2 => ("java/lang/Throwable", "suppressedExceptions", "Ljava/util/List;", false)
  | 3 => ("java/lang/Throwable", "detailMessage", "Ljava/lang/String;", false)
  | 4 => ("java/lang/Throwable", "backtrace", "Ljava/lang/Object;", false)
  | _ => ("java/lang/Throwable", "depth", "I", false)
def tyJ8 : Nat → FieldType := fun k => match k with
  | 0 => .object "java/lang/Throwable"
  | 1 => .array (.object "java/lang/StackTraceElement")
  | 2 => .object "java/util/List"
  | 3 => .object "java/lang/String"
  | 4 => .object "java/lang/Object"
  | _ => .int
abbrev wsJ80 : List Cond := u_ws RJ8 TJ8 6
theorem nmJ8 : ∀ a, a < 6 → ∀ b, b < 6 → a ≠ b → (TJ8 a).2.1 ≠ (TJ8 b).2.1 := by decide +kernel
theorem tyJ8_ok : ∀ k, k < 6 → parseFieldDescriptor (TJ8 k).2.2.1 = some (tyJ8 k) := by decide +kernel
abbrev cJ8_init : ByteArray := prog_33_method_1_code
def yJ8_init : MethodName := ⟨RJ8, "<init>", "()V"⟩
theorem dJ8_init_0 : decode cJ8_init 0 = .ok (.aload_n 0, 1) := by decide +kernel
theorem dJ8_init_1 : decode cJ8_init 1 = .ok (.invokespecial 1, 3) := by decide +kernel
theorem dJ8_init_4 : decode cJ8_init 4 = .ok (.return_, 1) := by decide +kernel
abbrev cJ8_init_2 : ByteArray := prog_33_method_2_code
def yJ8_init_2 : MethodName := ⟨RJ8, "<init>", "(Ljava/lang/String;)V"⟩
def dkwJ8_init_2_0 : List UInt8 := [42, 43, 183, 0, 7, 177]
abbrev dktJ8_init_2_0 : List UInt8 := dkwJ8_init_2_0 ++ []
theorem dksJ8_init_2_0 : cJ8_init_2.data.toList.drop 0 = dktJ8_init_2_0 := by decide +kernel
theorem dJ8_init_2_0 : decode cJ8_init_2 0 = .ok (.aload_n 0, 1) := dk_42 (dk_at dksJ8_init_2_0 0 rfl rfl)
theorem dJ8_init_2_1 : decode cJ8_init_2 1 = .ok (.aload_n 1, 1) := dk_43 (dk_at dksJ8_init_2_0 1 rfl rfl)
theorem dJ8_init_2_2 : decode cJ8_init_2 2 = .ok (.invokespecial 7, 3) := dk_183 0 7 (dk_at dksJ8_init_2_0 2 rfl rfl)
theorem dJ8_init_2_5 : decode cJ8_init_2 5 = .ok (.return_, 1) := dk_177 (dk_at dksJ8_init_2_0 5 rfl rfl)
theorem q101 : (Jvm.Cond.initialized "java/lang/NegativeArraySizeException") ∈ lw_all := lw_g (lw_at lw_m1 14 rfl) rfl
theorem q395 : (Jvm.Cond.instantiable "java/lang/NegativeArraySizeException" (6 : Nat)) ∈ lw_all := lw_g (lw_at lw_m2 68 rfl) rfl
theorem q396 : (Jvm.Cond.castable "java/lang/NegativeArraySizeException" "java/lang/NegativeArraySizeException") ∈ lw_tbl := lw_at lw_m2 69 rfl
theorem q403 : (Jvm.Cond.selects "java/lang/NegativeArraySizeException" ({ cls := "java/lang/Throwable", name := "fillInStackTrace", desc := "(I)Ljava/lang/Throwable;" } : Jvm.MethodName) ({ cls := "java/lang/Throwable", name := "fillInStackTrace", desc := "(I)Ljava/lang/Throwable;" } : Jvm.MethodName)) ∈ lw_all := lw_g (lw_at lw_m2 76 rfl) rfl
theorem q404 : (Jvm.Cond.selects "java/lang/NegativeArraySizeException" ({ cls := "java/lang/Throwable", name := "fillInStackTrace", desc := "()Ljava/lang/Throwable;" } : Jvm.MethodName) ({ cls := "java/lang/Throwable", name := "fillInStackTrace", desc := "()Ljava/lang/Throwable;" } : Jvm.MethodName)) ∈ lw_all := lw_g (lw_at lw_m2 77 rfl) rfl
theorem q405 : (Jvm.Cond.lays "java/lang/NegativeArraySizeException" "java/lang/Throwable" "cause" "Ljava/lang/Throwable;") ∈ lw_all := lw_g (lw_at lw_m2 78 rfl) rfl
theorem q407 : (Jvm.Cond.lays "java/lang/NegativeArraySizeException" "java/lang/Throwable" "stackTrace" "[Ljava/lang/StackTraceElement;") ∈ lw_all := lw_g (lw_at lw_m2 80 rfl) rfl
theorem q409 : (Jvm.Cond.lays "java/lang/NegativeArraySizeException" "java/lang/Throwable" "suppressedExceptions" "Ljava/util/List;") ∈ lw_all := lw_g (lw_at lw_m2 82 rfl) rfl
theorem q411 : (Jvm.Cond.lays "java/lang/NegativeArraySizeException" "java/lang/Throwable" "detailMessage" "Ljava/lang/String;") ∈ lw_all := lw_g (lw_at lw_m2 84 rfl) rfl
theorem q413 : (Jvm.Cond.lays "java/lang/NegativeArraySizeException" "java/lang/Throwable" "backtrace" "Ljava/lang/Object;") ∈ lw_all := lw_g (lw_at lw_m2 86 rfl) rfl
theorem q453 : (Jvm.Cond.instanceMethod ({ cls := "java/lang/NegativeArraySizeException", name := "<init>", desc := "()V" } : Jvm.MethodName)) ∈ lw_all := lw_g (lw_at lw_m2 126 rfl) rfl
theorem q454 : (Jvm.Cond.code ({ cls := "java/lang/NegativeArraySizeException", name := "<init>", desc := "()V" } : Jvm.MethodName) prog_33_method_1_code (1 : Nat) (Option.none : Option Jvm.ClassFile.FieldType)) ∈ lw_all := lw_g (lw_at lw_m2 127 rfl) rfl
theorem q455 : (Jvm.Cond.methodLink "java/lang/NegativeArraySizeException" (1 : Nat) ({ cls := "java/lang/RuntimeException", name := "<init>", desc := "()V" } : Jvm.MethodName)) ∈ lw_all := lw_g (lw_at lw_m2 128 rfl) rfl
theorem q471 : (Jvm.Cond.lays "java/lang/NegativeArraySizeException" "java/lang/Throwable" "depth" "I") ∈ lw_all := lw_g (lw_at lw_m2 144 rfl) rfl
theorem q474 : (Jvm.Cond.superclass "java/lang/NegativeArraySizeException" "java/lang/RuntimeException") ∈ lw_all := lw_g (lw_at lw_m2 147 rfl) rfl
theorem q727 : (Jvm.Cond.selects "java/lang/NegativeArraySizeException" ({ cls := "java/lang/Object", name := "equals", desc := "(Ljava/lang/Object;)Z" } : Jvm.MethodName) ({ cls := "java/lang/Object", name := "equals", desc := "(Ljava/lang/Object;)Z" } : Jvm.MethodName)) ∈ lw_all := lw_g (lw_at lw_m3 160 rfl) rfl
theorem q984 : (Jvm.Cond.selects "java/lang/NegativeArraySizeException" ({ cls := "java/lang/Object", name := "getClass", desc := "()Ljava/lang/Class;" } : Jvm.MethodName) ({ cls := "java/lang/Object", name := "getClass", desc := "()Ljava/lang/Class;" } : Jvm.MethodName)) ∈ lw_all := lw_g (lw_at lw_m4 177 rfl) rfl
theorem q1637 : (Jvm.Cond.instanceMethod ({ cls := "java/lang/NegativeArraySizeException", name := "<init>", desc := "(Ljava/lang/String;)V" } : Jvm.MethodName)) ∈ lw_all := lw_g (lw_at lw_m7 110 rfl) rfl
theorem q1638 : (Jvm.Cond.code ({ cls := "java/lang/NegativeArraySizeException", name := "<init>", desc := "(Ljava/lang/String;)V" } : Jvm.MethodName) prog_33_method_2_code (2 : Nat) (Option.none : Option Jvm.ClassFile.FieldType)) ∈ lw_all := lw_g (lw_at lw_m7 111 rfl) rfl
theorem q1639 : (Jvm.Cond.methodLink "java/lang/NegativeArraySizeException" (7 : Nat) ({ cls := "java/lang/RuntimeException", name := "<init>", desc := "(Ljava/lang/String;)V" } : Jvm.MethodName)) ∈ lw_all := lw_g (lw_at lw_m7 112 rfl) rfl
theorem q2277 : (Jvm.Cond.castable "java/lang/NegativeArraySizeException" "java/lang/Object") ∈ lw_tbl := lw_at lw_m10 30 rfl
theorem in_J8 : ∀ w ∈ wsJ80, w ∈ lw_all := lw_in wsJ80 [405, 407, 409, 411, 413, 471] (by decide +kernel) (by decide +kernel)

/-! jdk/internal/util/ArraysSupport -/
set_option maxRecDepth 100000
def RJ9 : String := "jdk/internal/util/ArraysSupport"
abbrev cJ9_newLength : ByteArray := prog_58_method_27_code
def yJ9_newLength : MethodName := ⟨RJ9, "newLength", "(III)I"⟩
def dkwJ9_newLength_1 : List UInt8 := [184, 0, 201, 172]
abbrev dktJ9_newLength_1 : List UInt8 := dkwJ9_newLength_1 ++ []
def dkwJ9_newLength_0 : List UInt8 := [26, 27, 28, 184, 0, 194, 96, 62, 3, 29, 162, 0, 11, 29, 18, 200, 163, 0, 5, 29, 172, 26, 27]
abbrev dktJ9_newLength_0 : List UInt8 := dkwJ9_newLength_0 ++ dktJ9_newLength_1
theorem dksJ9_newLength_0 : cJ9_newLength.data.toList.drop 0 = dktJ9_newLength_0 := by decide +kernel
theorem dksJ9_newLength_1 : cJ9_newLength.data.toList.drop 23 = dktJ9_newLength_1 := dk_seg dksJ9_newLength_0 23 rfl rfl
theorem dJ9_newLength_0 : decode cJ9_newLength 0 = .ok (.iload_n 0, 1) := dk_26 (dk_at dksJ9_newLength_0 0 rfl rfl)
theorem dJ9_newLength_1 : decode cJ9_newLength 1 = .ok (.iload_n 1, 1) := dk_27 (dk_at dksJ9_newLength_0 1 rfl rfl)
theorem dJ9_newLength_2 : decode cJ9_newLength 2 = .ok (.iload_n 2, 1) := dk_28 (dk_at dksJ9_newLength_0 2 rfl rfl)
theorem dJ9_newLength_3 : decode cJ9_newLength 3 = .ok (.invokestatic 194, 3) := dk_184 0 194 (dk_at dksJ9_newLength_0 3 rfl rfl)
theorem dJ9_newLength_6 : decode cJ9_newLength 6 = .ok (.iadd, 1) := dk_96 (dk_at dksJ9_newLength_0 6 rfl rfl)
theorem dJ9_newLength_7 : decode cJ9_newLength 7 = .ok (.istore_n 3, 1) := dk_62 (dk_at dksJ9_newLength_0 7 rfl rfl)
theorem dJ9_newLength_8 : decode cJ9_newLength 8 = .ok (.iconst 0, 1) := dk_3 (dk_at dksJ9_newLength_0 8 rfl rfl)
theorem dJ9_newLength_9 : decode cJ9_newLength 9 = .ok (.iload_n 3, 1) := dk_29 (dk_at dksJ9_newLength_0 9 rfl rfl)
theorem dJ9_newLength_10 : decode cJ9_newLength 10 = .ok (.if_icmp .ge 11, 3) := dk_162 0 11 (dk_at dksJ9_newLength_0 10 rfl rfl)
theorem dJ9_newLength_13 : decode cJ9_newLength 13 = .ok (.iload_n 3, 1) := dk_29 (dk_at dksJ9_newLength_0 13 rfl rfl)
theorem dJ9_newLength_14 : decode cJ9_newLength 14 = .ok (.ldc 200, 2) := dk_18 200 (dk_at dksJ9_newLength_0 14 rfl rfl)
theorem dJ9_newLength_16 : decode cJ9_newLength 16 = .ok (.if_icmp .gt 5, 3) := dk_163 0 5 (dk_at dksJ9_newLength_0 16 rfl rfl)
theorem dJ9_newLength_19 : decode cJ9_newLength 19 = .ok (.iload_n 3, 1) := dk_29 (dk_at dksJ9_newLength_0 19 rfl rfl)
theorem dJ9_newLength_20 : decode cJ9_newLength 20 = .ok (.ireturn, 1) := dk_172 (dk_at dksJ9_newLength_0 20 rfl rfl)
theorem dJ9_newLength_21 : decode cJ9_newLength 21 = .ok (.iload_n 0, 1) := dk_26 (dk_at dksJ9_newLength_0 21 rfl rfl)
theorem dJ9_newLength_22 : decode cJ9_newLength 22 = .ok (.iload_n 1, 1) := dk_27 (dk_at dksJ9_newLength_0 22 rfl rfl)
theorem dJ9_newLength_23 : decode cJ9_newLength 23 = .ok (.invokestatic 201, 3) := dk_184 0 201 (dk_at dksJ9_newLength_1 0 rfl rfl)
theorem dJ9_newLength_26 : decode cJ9_newLength 26 = .ok (.ireturn, 1) := dk_172 (dk_at dksJ9_newLength_1 3 rfl rfl)
abbrev cJ9_hugeLength : ByteArray := prog_58_method_28_code
def yJ9_hugeLength : MethodName := ⟨RJ9, "hugeLength", "(II)I"⟩
def dkwJ9_hugeLength_2 : List UInt8 := [191, 28, 18, 200, 163, 0, 6, 18, 200, 172, 28, 172]
abbrev dktJ9_hugeLength_2 : List UInt8 := dkwJ9_hugeLength_2 ++ []
def dkwJ9_hugeLength_1 : List UInt8 := [26, 182, 0, 98, 18, 208, 182, 0, 94, 27, 182, 0, 98, 18, 210, 182, 0, 94, 182, 0, 101, 183, 0, 212]
abbrev dktJ9_hugeLength_1 : List UInt8 := dkwJ9_hugeLength_1 ++ dktJ9_hugeLength_2
def dkwJ9_hugeLength_0 : List UInt8 := [26, 27, 96, 61, 28, 156, 0, 44, 187, 0, 204, 89, 187, 0, 89, 89, 183, 0, 91, 18, 206, 182, 0, 94]
abbrev dktJ9_hugeLength_0 : List UInt8 := dkwJ9_hugeLength_0 ++ dktJ9_hugeLength_1
theorem dksJ9_hugeLength_0 : cJ9_hugeLength.data.toList.drop 0 = dktJ9_hugeLength_0 := by decide +kernel
theorem dksJ9_hugeLength_1 : cJ9_hugeLength.data.toList.drop 24 = dktJ9_hugeLength_1 := dk_seg dksJ9_hugeLength_0 24 rfl rfl
theorem dksJ9_hugeLength_2 : cJ9_hugeLength.data.toList.drop 48 = dktJ9_hugeLength_2 := dk_seg dksJ9_hugeLength_1 24 rfl rfl
theorem dJ9_hugeLength_0 : decode cJ9_hugeLength 0 = .ok (.iload_n 0, 1) := dk_26 (dk_at dksJ9_hugeLength_0 0 rfl rfl)
theorem dJ9_hugeLength_1 : decode cJ9_hugeLength 1 = .ok (.iload_n 1, 1) := dk_27 (dk_at dksJ9_hugeLength_0 1 rfl rfl)
theorem dJ9_hugeLength_2 : decode cJ9_hugeLength 2 = .ok (.iadd, 1) := dk_96 (dk_at dksJ9_hugeLength_0 2 rfl rfl)
theorem dJ9_hugeLength_3 : decode cJ9_hugeLength 3 = .ok (.istore_n 2, 1) := dk_61 (dk_at dksJ9_hugeLength_0 3 rfl rfl)
theorem dJ9_hugeLength_4 : decode cJ9_hugeLength 4 = .ok (.iload_n 2, 1) := dk_28 (dk_at dksJ9_hugeLength_0 4 rfl rfl)
theorem dJ9_hugeLength_5 : decode cJ9_hugeLength 5 = .ok (.ifCond .ge 44, 3) := dk_156 0 44 (dk_at dksJ9_hugeLength_0 5 rfl rfl)
theorem dJ9_hugeLength_8 : decode cJ9_hugeLength 8 = .ok (.new 204, 3) := dk_187 0 204 (dk_at dksJ9_hugeLength_0 8 rfl rfl)
theorem dJ9_hugeLength_11 : decode cJ9_hugeLength 11 = .ok (.dup, 1) := dk_89 (dk_at dksJ9_hugeLength_0 11 rfl rfl)
theorem dJ9_hugeLength_12 : decode cJ9_hugeLength 12 = .ok (.new 89, 3) := dk_187 0 89 (dk_at dksJ9_hugeLength_0 12 rfl rfl)
theorem dJ9_hugeLength_15 : decode cJ9_hugeLength 15 = .ok (.dup, 1) := dk_89 (dk_at dksJ9_hugeLength_0 15 rfl rfl)
theorem dJ9_hugeLength_16 : decode cJ9_hugeLength 16 = .ok (.invokespecial 91, 3) := dk_183 0 91 (dk_at dksJ9_hugeLength_0 16 rfl rfl)
theorem dJ9_hugeLength_19 : decode cJ9_hugeLength 19 = .ok (.ldc 206, 2) := dk_18 206 (dk_at dksJ9_hugeLength_0 19 rfl rfl)
theorem dJ9_hugeLength_21 : decode cJ9_hugeLength 21 = .ok (.invokevirtual 94, 3) := dk_182 0 94 (dk_at dksJ9_hugeLength_0 21 rfl rfl)
theorem dJ9_hugeLength_24 : decode cJ9_hugeLength 24 = .ok (.iload_n 0, 1) := dk_26 (dk_at dksJ9_hugeLength_1 0 rfl rfl)
theorem dJ9_hugeLength_25 : decode cJ9_hugeLength 25 = .ok (.invokevirtual 98, 3) := dk_182 0 98 (dk_at dksJ9_hugeLength_1 1 rfl rfl)
theorem dJ9_hugeLength_28 : decode cJ9_hugeLength 28 = .ok (.ldc 208, 2) := dk_18 208 (dk_at dksJ9_hugeLength_1 4 rfl rfl)
theorem dJ9_hugeLength_30 : decode cJ9_hugeLength 30 = .ok (.invokevirtual 94, 3) := dk_182 0 94 (dk_at dksJ9_hugeLength_1 6 rfl rfl)
theorem dJ9_hugeLength_33 : decode cJ9_hugeLength 33 = .ok (.iload_n 1, 1) := dk_27 (dk_at dksJ9_hugeLength_1 9 rfl rfl)
theorem dJ9_hugeLength_34 : decode cJ9_hugeLength 34 = .ok (.invokevirtual 98, 3) := dk_182 0 98 (dk_at dksJ9_hugeLength_1 10 rfl rfl)
theorem dJ9_hugeLength_37 : decode cJ9_hugeLength 37 = .ok (.ldc 210, 2) := dk_18 210 (dk_at dksJ9_hugeLength_1 13 rfl rfl)
theorem dJ9_hugeLength_39 : decode cJ9_hugeLength 39 = .ok (.invokevirtual 94, 3) := dk_182 0 94 (dk_at dksJ9_hugeLength_1 15 rfl rfl)
theorem dJ9_hugeLength_42 : decode cJ9_hugeLength 42 = .ok (.invokevirtual 101, 3) := dk_182 0 101 (dk_at dksJ9_hugeLength_1 18 rfl rfl)
theorem dJ9_hugeLength_45 : decode cJ9_hugeLength 45 = .ok (.invokespecial 212, 3) := dk_183 0 212 (dk_at dksJ9_hugeLength_1 21 rfl rfl)
theorem dJ9_hugeLength_48 : decode cJ9_hugeLength 48 = .ok (.athrow, 1) := dk_191 (dk_at dksJ9_hugeLength_2 0 rfl rfl)
theorem dJ9_hugeLength_49 : decode cJ9_hugeLength 49 = .ok (.iload_n 2, 1) := dk_28 (dk_at dksJ9_hugeLength_2 1 rfl rfl)
theorem dJ9_hugeLength_50 : decode cJ9_hugeLength 50 = .ok (.ldc 200, 2) := dk_18 200 (dk_at dksJ9_hugeLength_2 2 rfl rfl)
theorem dJ9_hugeLength_52 : decode cJ9_hugeLength 52 = .ok (.if_icmp .gt 6, 3) := dk_163 0 6 (dk_at dksJ9_hugeLength_2 4 rfl rfl)
theorem dJ9_hugeLength_55 : decode cJ9_hugeLength 55 = .ok (.ldc 200, 2) := dk_18 200 (dk_at dksJ9_hugeLength_2 7 rfl rfl)
theorem dJ9_hugeLength_57 : decode cJ9_hugeLength 57 = .ok (.ireturn, 1) := dk_172 (dk_at dksJ9_hugeLength_2 9 rfl rfl)
theorem dJ9_hugeLength_58 : decode cJ9_hugeLength 58 = .ok (.iload_n 2, 1) := dk_28 (dk_at dksJ9_hugeLength_2 10 rfl rfl)
theorem dJ9_hugeLength_59 : decode cJ9_hugeLength 59 = .ok (.ireturn, 1) := dk_172 (dk_at dksJ9_hugeLength_2 11 rfl rfl)
theorem q102 : (Jvm.Cond.initialized "jdk/internal/util/ArraysSupport") ∈ lw_all := lw_g (lw_at lw_m1 15 rfl) rfl
theorem q505 : (Jvm.Cond.static ({ cls := "jdk/internal/util/ArraysSupport", name := "newLength", desc := "(III)I" } : Jvm.MethodName)) ∈ lw_all := lw_g (lw_at lw_m2 178 rfl) rfl
theorem q506 : (Jvm.Cond.code ({ cls := "jdk/internal/util/ArraysSupport", name := "newLength", desc := "(III)I" } : Jvm.MethodName) prog_58_method_27_code (4 : Nat) (Option.some Jvm.ClassFile.FieldType.int)) ∈ lw_all := lw_g (lw_at lw_m2 179 rfl) rfl
theorem q507 : (Jvm.Cond.methodLink "jdk/internal/util/ArraysSupport" (194 : Nat) ({ cls := "java/lang/Math", name := "max", desc := "(II)I" } : Jvm.MethodName)) ∈ lw_all := lw_g (lw_at lw_m2 180 rfl) rfl
theorem q510 : (Jvm.Cond.constant "jdk/internal/util/ArraysSupport" (200 : Nat) (2147483639 : Int32)) ∈ lw_all := lw_g (lw_at lw_m2 183 rfl) rfl
theorem q511 : (Jvm.Cond.methodLink "jdk/internal/util/ArraysSupport" (201 : Nat) ({ cls := "jdk/internal/util/ArraysSupport", name := "hugeLength", desc := "(II)I" } : Jvm.MethodName)) ∈ lw_all := lw_g (lw_at lw_m2 184 rfl) rfl
theorem q512 : (Jvm.Cond.static ({ cls := "jdk/internal/util/ArraysSupport", name := "hugeLength", desc := "(II)I" } : Jvm.MethodName)) ∈ lw_all := lw_g (lw_at lw_m2 185 rfl) rfl
theorem q513 : (Jvm.Cond.code ({ cls := "jdk/internal/util/ArraysSupport", name := "hugeLength", desc := "(II)I" } : Jvm.MethodName) prog_58_method_28_code (3 : Nat) (Option.some Jvm.ClassFile.FieldType.int)) ∈ lw_all := lw_g (lw_at lw_m2 186 rfl) rfl
