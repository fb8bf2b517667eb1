/-! ParrotSpeech -/
set_option maxRecDepth 100000
def RX0 : String := "ParrotSpeech"
def TX0 : u_T := fun k => match k with
  | 0 => ("ParrotSpeech", "birds", "[Ljava/lang/Object;", true)
  | 1 => ("ParrotSpeech", "many", "I", false)
  | 2 => ("ParrotSpeech", "menMany", "I", false)
  | 3 => ("ParrotSpeech", "said", "[I", true)
  | 4 => ("ParrotSpeech", "saidMany", "I", false)
  | 5 => ("ParrotSpeech", "listened", "I", false)
  | 6 => ("ParrotSpeech", "told", "LParrotSpeech$State;", true)
  | 7 => ("ParrotSpeech", "now", "LParrotSpeech$State;", true)
  | 8 => ("ParrotSpeech", "tried", "LParrotSpeech$State;", true)
  | 9 => ("ParrotSpeech", "kept", "[LParrotSpeech$State;", true)
  | 10 => ("ParrotSpeech", "backs", "[LParrotSpeech$State;", true)
  | 11 => ("ParrotSpeech", "backMany", "I", false)
  | 12 => ("ParrotSpeech", "sights", "[[I", true)
  | 13 => ("ParrotSpeech", "sightMany", "I", false)
  | 14 => ("ParrotSpeech", "tongue", "LParrotSpeech$Part;", false)
  | 15 => ("ParrotSpeech", "text", "[B", true)
  | 16 => ("ParrotSpeech", "letters", "I", false)
  | 17 => ("ParrotSpeech", "keep", "[[I", true)
  | 18 => ("ParrotSpeech", "row", "[I", true)
  | 19 => ("ParrotSpeech", "bestRow", "[I", true)
  | 20 => ("ParrotSpeech", "bestSum", "I", false)
  | _ => ("ParrotSpeech", "reels", "[Ljava/lang/Object;", true)
def tyX0 : Nat → FieldType := fun k => match k with
  | 0 => .array (.object "java/lang/Object")
  | 1 => .int
  | 2 => .int
  | 3 => .array .int
  | 4 => .int
  | 5 => .int
  | 6 => .object "ParrotSpeech$State"
  | 7 => .object "ParrotSpeech$State"
  | 8 => .object "ParrotSpeech$State"
  | 9 => .array (.object "ParrotSpeech$State")
  | 10 => .array (.object "ParrotSpeech$State")
  | 11 => .int
  | 12 => .array (.array .int)
  | 13 => .int
  | 14 => .object "ParrotSpeech$Part"
  | 15 => .array .byte
  | 16 => .int
  | 17 => .array (.array .int)
  | 18 => .array .int
  | 19 => .array .int
  | 20 => .int
  | _ => .array (.object "java/lang/Object")
abbrev wsX00 : List Cond := u_ws RX0 TX0 22
set_option maxRecDepth 100000 in
theorem nmX0 : ∀ a, a < 22 → ∀ b, b < 22 → a ≠ b → (TX0 a).2.1 ≠ (TX0 b).2.1 := by decide +kernel
set_option maxRecDepth 100000 in
theorem tyX0_ok : ∀ k, k < 22 → parseFieldDescriptor (TX0 k).2.2.1 = some (tyX0 k) := by decide +kernel
abbrev cX0_init : ByteArray := prog_1_method_11_code
def yX0_init : MethodName := ⟨RX0, "<init>", "()V"⟩
def dkwX0_init_5 : List UInt8 := [188, 10, 181, 0, 139, 42, 6, 189, 0, 111, 181, 0, 142, 42, 182, 0, 85, 42, 182, 0, 145, 177]
abbrev dktX0_init_5 : List UInt8 := dkwX0_init_5 ++ []
def dkwX0_init_4 : List UInt8 := [181, 0, 128, 42, 7, 16, 8, 197, 0, 132, 2, 181, 0, 133, 42, 7, 188, 10, 181, 0, 136, 42, 7]
abbrev dktX0_init_4 : List UInt8 := dkwX0_init_4 ++ dktX0_init_5
def dkwX0_init_3 : List UInt8 := [16, 8, 189, 0, 35, 181, 0, 57, 42, 16, 6, 189, 0, 123, 181, 0, 124, 42, 17, 0, 200, 188, 8]
abbrev dktX0_init_3 : List UInt8 := dkwX0_init_3 ++ dktX0_init_4
def dkwX0_init_2 : List UInt8 := [181, 0, 27, 42, 187, 0, 35, 89, 42, 183, 0, 66, 181, 0, 120, 42, 5, 189, 0, 35, 181, 0, 47, 42]
abbrev dktX0_init_2 : List UInt8 := dkwX0_init_2 ++ dktX0_init_3
def dkwX0_init_1 : List UInt8 := [181, 0, 117, 42, 187, 0, 35, 89, 42, 183, 0, 66, 181, 0, 31, 42, 187, 0, 35, 89, 42, 183, 0, 66]
abbrev dktX0_init_1 : List UInt8 := dkwX0_init_1 ++ dktX0_init_2
def dkwX0_init_0 : List UInt8 := [42, 183, 0, 110, 42, 16, 8, 189, 0, 111, 181, 0, 21, 42, 16, 16, 188, 10, 181, 0, 114, 42, 2]
abbrev dktX0_init_0 : List UInt8 := dkwX0_init_0 ++ dktX0_init_1
theorem dksX0_init_0 : cX0_init.data.toList.drop 0 = dktX0_init_0 := by decide +kernel
theorem dksX0_init_1 : cX0_init.data.toList.drop 23 = dktX0_init_1 := dk_seg dksX0_init_0 23 rfl rfl
theorem dksX0_init_2 : cX0_init.data.toList.drop 47 = dktX0_init_2 := dk_seg dksX0_init_1 24 rfl rfl
theorem dksX0_init_3 : cX0_init.data.toList.drop 71 = dktX0_init_3 := dk_seg dksX0_init_2 24 rfl rfl
theorem dksX0_init_4 : cX0_init.data.toList.drop 94 = dktX0_init_4 := dk_seg dksX0_init_3 23 rfl rfl
theorem dksX0_init_5 : cX0_init.data.toList.drop 117 = dktX0_init_5 := dk_seg dksX0_init_4 23 rfl rfl
theorem dX0_init_0 : decode cX0_init 0 = .ok (.aload_n 0, 1) := dk_42 (dk_at dksX0_init_0 0 rfl rfl)
theorem dX0_init_1 : decode cX0_init 1 = .ok (.invokespecial 110, 3) := dk_183 0 110 (dk_at dksX0_init_0 1 rfl rfl)
theorem dX0_init_4 : decode cX0_init 4 = .ok (.aload_n 0, 1) := dk_42 (dk_at dksX0_init_0 4 rfl rfl)
theorem dX0_init_5 : decode cX0_init 5 = .ok (.bipush 8, 2) := dk_16 8 (dk_at dksX0_init_0 5 rfl rfl)
theorem dX0_init_7 : decode cX0_init 7 = .ok (.anewarray 111, 3) := dk_189 0 111 (dk_at dksX0_init_0 7 rfl rfl)
theorem dX0_init_10 : decode cX0_init 10 = .ok (.putfield 21, 3) := dk_181 0 21 (dk_at dksX0_init_0 10 rfl rfl)
theorem dX0_init_13 : decode cX0_init 13 = .ok (.aload_n 0, 1) := dk_42 (dk_at dksX0_init_0 13 rfl rfl)
theorem dX0_init_14 : decode cX0_init 14 = .ok (.bipush 16, 2) := dk_16 16 (dk_at dksX0_init_0 14 rfl rfl)
theorem dX0_init_16 : decode cX0_init 16 = .ok (.newarray .int, 2) := dk_188_10 (dk_at dksX0_init_0 16 rfl rfl)
theorem dX0_init_18 : decode cX0_init 18 = .ok (.putfield 114, 3) := dk_181 0 114 (dk_at dksX0_init_0 18 rfl rfl)
theorem dX0_init_21 : decode cX0_init 21 = .ok (.aload_n 0, 1) := dk_42 (dk_at dksX0_init_0 21 rfl rfl)
theorem dX0_init_22 : decode cX0_init 22 = .ok (.iconst (-1), 1) := dk_2 (dk_at dksX0_init_0 22 rfl rfl)
theorem dX0_init_23 : decode cX0_init 23 = .ok (.putfield 117, 3) := dk_181 0 117 (dk_at dksX0_init_1 0 rfl rfl)
theorem dX0_init_26 : decode cX0_init 26 = .ok (.aload_n 0, 1) := dk_42 (dk_at dksX0_init_1 3 rfl rfl)
theorem dX0_init_27 : decode cX0_init 27 = .ok (.new 35, 3) := dk_187 0 35 (dk_at dksX0_init_1 4 rfl rfl)
theorem dX0_init_30 : decode cX0_init 30 = .ok (.dup, 1) := dk_89 (dk_at dksX0_init_1 7 rfl rfl)
theorem dX0_init_31 : decode cX0_init 31 = .ok (.aload_n 0, 1) := dk_42 (dk_at dksX0_init_1 8 rfl rfl)
theorem dX0_init_32 : decode cX0_init 32 = .ok (.invokespecial 66, 3) := dk_183 0 66 (dk_at dksX0_init_1 9 rfl rfl)
theorem dX0_init_35 : decode cX0_init 35 = .ok (.putfield 31, 3) := dk_181 0 31 (dk_at dksX0_init_1 12 rfl rfl)
theorem dX0_init_38 : decode cX0_init 38 = .ok (.aload_n 0, 1) := dk_42 (dk_at dksX0_init_1 15 rfl rfl)
theorem dX0_init_39 : decode cX0_init 39 = .ok (.new 35, 3) := dk_187 0 35 (dk_at dksX0_init_1 16 rfl rfl)
theorem dX0_init_42 : decode cX0_init 42 = .ok (.dup, 1) := dk_89 (dk_at dksX0_init_1 19 rfl rfl)
theorem dX0_init_43 : decode cX0_init 43 = .ok (.aload_n 0, 1) := dk_42 (dk_at dksX0_init_1 20 rfl rfl)
theorem dX0_init_44 : decode cX0_init 44 = .ok (.invokespecial 66, 3) := dk_183 0 66 (dk_at dksX0_init_1 21 rfl rfl)
theorem dX0_init_47 : decode cX0_init 47 = .ok (.putfield 27, 3) := dk_181 0 27 (dk_at dksX0_init_2 0 rfl rfl)
theorem dX0_init_50 : decode cX0_init 50 = .ok (.aload_n 0, 1) := dk_42 (dk_at dksX0_init_2 3 rfl rfl)
theorem dX0_init_51 : decode cX0_init 51 = .ok (.new 35, 3) := dk_187 0 35 (dk_at dksX0_init_2 4 rfl rfl)
theorem dX0_init_54 : decode cX0_init 54 = .ok (.dup, 1) := dk_89 (dk_at dksX0_init_2 7 rfl rfl)
theorem dX0_init_55 : decode cX0_init 55 = .ok (.aload_n 0, 1) := dk_42 (dk_at dksX0_init_2 8 rfl rfl)
theorem dX0_init_56 : decode cX0_init 56 = .ok (.invokespecial 66, 3) := dk_183 0 66 (dk_at dksX0_init_2 9 rfl rfl)
theorem dX0_init_59 : decode cX0_init 59 = .ok (.putfield 120, 3) := dk_181 0 120 (dk_at dksX0_init_2 12 rfl rfl)
theorem dX0_init_62 : decode cX0_init 62 = .ok (.aload_n 0, 1) := dk_42 (dk_at dksX0_init_2 15 rfl rfl)
theorem dX0_init_63 : decode cX0_init 63 = .ok (.iconst 2, 1) := dk_5 (dk_at dksX0_init_2 16 rfl rfl)
theorem dX0_init_64 : decode cX0_init 64 = .ok (.anewarray 35, 3) := dk_189 0 35 (dk_at dksX0_init_2 17 rfl rfl)
theorem dX0_init_67 : decode cX0_init 67 = .ok (.putfield 47, 3) := dk_181 0 47 (dk_at dksX0_init_2 20 rfl rfl)
theorem dX0_init_70 : decode cX0_init 70 = .ok (.aload_n 0, 1) := dk_42 (dk_at dksX0_init_2 23 rfl rfl)
theorem dX0_init_71 : decode cX0_init 71 = .ok (.bipush 8, 2) := dk_16 8 (dk_at dksX0_init_3 0 rfl rfl)
theorem dX0_init_73 : decode cX0_init 73 = .ok (.anewarray 35, 3) := dk_189 0 35 (dk_at dksX0_init_3 2 rfl rfl)
theorem dX0_init_76 : decode cX0_init 76 = .ok (.putfield 57, 3) := dk_181 0 57 (dk_at dksX0_init_3 5 rfl rfl)
theorem dX0_init_79 : decode cX0_init 79 = .ok (.aload_n 0, 1) := dk_42 (dk_at dksX0_init_3 8 rfl rfl)
theorem dX0_init_80 : decode cX0_init 80 = .ok (.bipush 6, 2) := dk_16 6 (dk_at dksX0_init_3 9 rfl rfl)
theorem dX0_init_82 : decode cX0_init 82 = .ok (.anewarray 123, 3) := dk_189 0 123 (dk_at dksX0_init_3 11 rfl rfl)
theorem dX0_init_85 : decode cX0_init 85 = .ok (.putfield 124, 3) := dk_181 0 124 (dk_at dksX0_init_3 14 rfl rfl)
theorem dX0_init_88 : decode cX0_init 88 = .ok (.aload_n 0, 1) := dk_42 (dk_at dksX0_init_3 17 rfl rfl)
theorem dX0_init_89 : decode cX0_init 89 = .ok (.sipush 200, 3) := dk_17 0 200 (dk_at dksX0_init_3 18 rfl rfl)
theorem dX0_init_92 : decode cX0_init 92 = .ok (.newarray .byte, 2) := dk_188_8 (dk_at dksX0_init_3 21 rfl rfl)
theorem dX0_init_94 : decode cX0_init 94 = .ok (.putfield 128, 3) := dk_181 0 128 (dk_at dksX0_init_4 0 rfl rfl)
theorem dX0_init_97 : decode cX0_init 97 = .ok (.aload_n 0, 1) := dk_42 (dk_at dksX0_init_4 3 rfl rfl)
theorem dX0_init_98 : decode cX0_init 98 = .ok (.iconst 4, 1) := dk_7 (dk_at dksX0_init_4 4 rfl rfl)
theorem dX0_init_99 : decode cX0_init 99 = .ok (.bipush 8, 2) := dk_16 8 (dk_at dksX0_init_4 5 rfl rfl)
theorem dX0_init_101 : decode cX0_init 101 = .ok (.multianewarray 132 2, 4) := by decide +kernel
theorem dX0_init_105 : decode cX0_init 105 = .ok (.putfield 133, 3) := dk_181 0 133 (dk_at dksX0_init_4 11 rfl rfl)
theorem dX0_init_108 : decode cX0_init 108 = .ok (.aload_n 0, 1) := dk_42 (dk_at dksX0_init_4 14 rfl rfl)
theorem dX0_init_109 : decode cX0_init 109 = .ok (.iconst 4, 1) := dk_7 (dk_at dksX0_init_4 15 rfl rfl)
theorem dX0_init_110 : decode cX0_init 110 = .ok (.newarray .int, 2) := dk_188_10 (dk_at dksX0_init_4 16 rfl rfl)
theorem dX0_init_112 : decode cX0_init 112 = .ok (.putfield 136, 3) := dk_181 0 136 (dk_at dksX0_init_4 18 rfl rfl)
theorem dX0_init_115 : decode cX0_init 115 = .ok (.aload_n 0, 1) := dk_42 (dk_at dksX0_init_4 21 rfl rfl)
theorem dX0_init_116 : decode cX0_init 116 = .ok (.iconst 4, 1) := dk_7 (dk_at dksX0_init_4 22 rfl rfl)
theorem dX0_init_117 : decode cX0_init 117 = .ok (.newarray .int, 2) := dk_188_10 (dk_at dksX0_init_5 0 rfl rfl)
theorem dX0_init_119 : decode cX0_init 119 = .ok (.putfield 139, 3) := dk_181 0 139 (dk_at dksX0_init_5 2 rfl rfl)
theorem dX0_init_122 : decode cX0_init 122 = .ok (.aload_n 0, 1) := dk_42 (dk_at dksX0_init_5 5 rfl rfl)
theorem dX0_init_123 : decode cX0_init 123 = .ok (.iconst 3, 1) := dk_6 (dk_at dksX0_init_5 6 rfl rfl)
theorem dX0_init_124 : decode cX0_init 124 = .ok (.anewarray 111, 3) := dk_189 0 111 (dk_at dksX0_init_5 7 rfl rfl)
theorem dX0_init_127 : decode cX0_init 127 = .ok (.putfield 142, 3) := dk_181 0 142 (dk_at dksX0_init_5 10 rfl rfl)
theorem dX0_init_130 : decode cX0_init 130 = .ok (.aload_n 0, 1) := dk_42 (dk_at dksX0_init_5 13 rfl rfl)
theorem dX0_init_131 : decode cX0_init 131 = .ok (.invokevirtual 85, 3) := dk_182 0 85 (dk_at dksX0_init_5 14 rfl rfl)
theorem dX0_init_134 : decode cX0_init 134 = .ok (.aload_n 0, 1) := dk_42 (dk_at dksX0_init_5 17 rfl rfl)
theorem dX0_init_135 : decode cX0_init 135 = .ok (.invokevirtual 145, 3) := dk_182 0 145 (dk_at dksX0_init_5 18 rfl rfl)
theorem dX0_init_138 : decode cX0_init 138 = .ok (.return_, 1) := dk_177 (dk_at dksX0_init_5 21 rfl rfl)
abbrev cX0_empty : ByteArray := prog_1_method_8_code
def yX0_empty : MethodName := ⟨RX0, "empty", "()V"⟩
def dkwX0_empty_1 : List UInt8 := [180, 0, 78, 2, 184, 0, 82, 177]
abbrev dktX0_empty_1 : List UInt8 := dkwX0_empty_1 ++ []
def dkwX0_empty_0 : List UInt8 := [42, 3, 181, 0, 69, 42, 3, 181, 0, 72, 42, 180, 0, 31, 3, 181, 0, 75, 42, 180, 0, 31]
abbrev dktX0_empty_0 : List UInt8 := dkwX0_empty_0 ++ dktX0_empty_1
theorem dksX0_empty_0 : cX0_empty.data.toList.drop 0 = dktX0_empty_0 := by decide +kernel
theorem dksX0_empty_1 : cX0_empty.data.toList.drop 22 = dktX0_empty_1 := dk_seg dksX0_empty_0 22 rfl rfl
theorem dX0_empty_0 : decode cX0_empty 0 = .ok (.aload_n 0, 1) := dk_42 (dk_at dksX0_empty_0 0 rfl rfl)
theorem dX0_empty_1 : decode cX0_empty 1 = .ok (.iconst 0, 1) := dk_3 (dk_at dksX0_empty_0 1 rfl rfl)
theorem dX0_empty_2 : decode cX0_empty 2 = .ok (.putfield 69, 3) := dk_181 0 69 (dk_at dksX0_empty_0 2 rfl rfl)
theorem dX0_empty_5 : decode cX0_empty 5 = .ok (.aload_n 0, 1) := dk_42 (dk_at dksX0_empty_0 5 rfl rfl)
theorem dX0_empty_6 : decode cX0_empty 6 = .ok (.iconst 0, 1) := dk_3 (dk_at dksX0_empty_0 6 rfl rfl)
theorem dX0_empty_7 : decode cX0_empty 7 = .ok (.putfield 72, 3) := dk_181 0 72 (dk_at dksX0_empty_0 7 rfl rfl)
theorem dX0_empty_10 : decode cX0_empty 10 = .ok (.aload_n 0, 1) := dk_42 (dk_at dksX0_empty_0 10 rfl rfl)
theorem dX0_empty_11 : decode cX0_empty 11 = .ok (.getfield 31, 3) := dk_180 0 31 (dk_at dksX0_empty_0 11 rfl rfl)
theorem dX0_empty_14 : decode cX0_empty 14 = .ok (.iconst 0, 1) := dk_3 (dk_at dksX0_empty_0 14 rfl rfl)
theorem dX0_empty_15 : decode cX0_empty 15 = .ok (.putfield 75, 3) := dk_181 0 75 (dk_at dksX0_empty_0 15 rfl rfl)
theorem dX0_empty_18 : decode cX0_empty 18 = .ok (.aload_n 0, 1) := dk_42 (dk_at dksX0_empty_0 18 rfl rfl)
theorem dX0_empty_19 : decode cX0_empty 19 = .ok (.getfield 31, 3) := dk_180 0 31 (dk_at dksX0_empty_0 19 rfl rfl)
theorem dX0_empty_22 : decode cX0_empty 22 = .ok (.getfield 78, 3) := dk_180 0 78 (dk_at dksX0_empty_1 0 rfl rfl)
theorem dX0_empty_25 : decode cX0_empty 25 = .ok (.iconst (-1), 1) := dk_2 (dk_at dksX0_empty_1 3 rfl rfl)
theorem dX0_empty_26 : decode cX0_empty 26 = .ok (.invokestatic 82, 3) := dk_184 0 82 (dk_at dksX0_empty_1 4 rfl rfl)
theorem dX0_empty_29 : decode cX0_empty 29 = .ok (.return_, 1) := dk_177 (dk_at dksX0_empty_1 7 rfl rfl)
abbrev cX0_begin : ByteArray := prog_1_method_6_code
def yX0_begin : MethodName := ⟨RX0, "begin", "()V"⟩
def dkwX0_begin_1 : List UInt8 := [180, 0, 47, 1, 184, 0, 51, 177]
abbrev dktX0_begin_1 : List UInt8 := dkwX0_begin_1 ++ []
def dkwX0_begin_0 : List UInt8 := [42, 180, 0, 27, 42, 180, 0, 31, 182, 0, 34, 87, 42, 3, 181, 0, 40, 42, 3, 181, 0, 44, 42]
abbrev dktX0_begin_0 : List UInt8 := dkwX0_begin_0 ++ dktX0_begin_1
theorem dksX0_begin_0 : cX0_begin.data.toList.drop 0 = dktX0_begin_0 := by decide +kernel
theorem dksX0_begin_1 : cX0_begin.data.toList.drop 23 = dktX0_begin_1 := dk_seg dksX0_begin_0 23 rfl rfl
theorem dX0_begin_0 : decode cX0_begin 0 = .ok (.aload_n 0, 1) := dk_42 (dk_at dksX0_begin_0 0 rfl rfl)
theorem dX0_begin_1 : decode cX0_begin 1 = .ok (.getfield 27, 3) := dk_180 0 27 (dk_at dksX0_begin_0 1 rfl rfl)
theorem dX0_begin_4 : decode cX0_begin 4 = .ok (.aload_n 0, 1) := dk_42 (dk_at dksX0_begin_0 4 rfl rfl)
theorem dX0_begin_5 : decode cX0_begin 5 = .ok (.getfield 31, 3) := dk_180 0 31 (dk_at dksX0_begin_0 5 rfl rfl)
theorem dX0_begin_8 : decode cX0_begin 8 = .ok (.invokevirtual 34, 3) := dk_182 0 34 (dk_at dksX0_begin_0 8 rfl rfl)
theorem dX0_begin_11 : decode cX0_begin 11 = .ok (.pop, 1) := dk_87 (dk_at dksX0_begin_0 11 rfl rfl)
theorem dX0_begin_12 : decode cX0_begin 12 = .ok (.aload_n 0, 1) := dk_42 (dk_at dksX0_begin_0 12 rfl rfl)
theorem dX0_begin_13 : decode cX0_begin 13 = .ok (.iconst 0, 1) := dk_3 (dk_at dksX0_begin_0 13 rfl rfl)
theorem dX0_begin_14 : decode cX0_begin 14 = .ok (.putfield 40, 3) := dk_181 0 40 (dk_at dksX0_begin_0 14 rfl rfl)
theorem dX0_begin_17 : decode cX0_begin 17 = .ok (.aload_n 0, 1) := dk_42 (dk_at dksX0_begin_0 17 rfl rfl)
theorem dX0_begin_18 : decode cX0_begin 18 = .ok (.iconst 0, 1) := dk_3 (dk_at dksX0_begin_0 18 rfl rfl)
theorem dX0_begin_19 : decode cX0_begin 19 = .ok (.putfield 44, 3) := dk_181 0 44 (dk_at dksX0_begin_0 19 rfl rfl)
theorem dX0_begin_22 : decode cX0_begin 22 = .ok (.aload_n 0, 1) := dk_42 (dk_at dksX0_begin_0 22 rfl rfl)
theorem dX0_begin_23 : decode cX0_begin 23 = .ok (.getfield 47, 3) := dk_180 0 47 (dk_at dksX0_begin_1 0 rfl rfl)
theorem dX0_begin_26 : decode cX0_begin 26 = .ok (.aconst_null, 1) := dk_1 (dk_at dksX0_begin_1 3 rfl rfl)
theorem dX0_begin_27 : decode cX0_begin 27 = .ok (.invokestatic 51, 3) := dk_184 0 51 (dk_at dksX0_begin_1 4 rfl rfl)
theorem dX0_begin_30 : decode cX0_begin 30 = .ok (.return_, 1) := dk_177 (dk_at dksX0_begin_1 7 rfl rfl)
abbrev cX0_write : ByteArray := prog_1_method_16_code
def yX0_write : MethodName := ⟨RX0, "write", "(I)I"⟩
def dkwX0_write_2 : List UInt8 := [42, 180, 0, 158, 172]
abbrev dktX0_write_2 : List UInt8 := dkwX0_write_2 ++ []
def dkwX0_write_1 : List UInt8 := [160, 0, 6, 16, 251, 172, 42, 180, 0, 128, 42, 89, 180, 0, 158, 90, 4, 96, 181, 0, 158, 27, 145, 84]
abbrev dktX0_write_1 : List UInt8 := dkwX0_write_1 ++ dktX0_write_2
def dkwX0_write_0 : List UInt8 := [27, 133, 9, 20, 0, 156, 184, 0, 148, 154, 0, 6, 16, 253, 172, 42, 180, 0, 158, 42, 180, 0, 128, 190]
abbrev dktX0_write_0 : List UInt8 := dkwX0_write_0 ++ dktX0_write_1
theorem dksX0_write_0 : cX0_write.data.toList.drop 0 = dktX0_write_0 := by decide +kernel
theorem dksX0_write_1 : cX0_write.data.toList.drop 24 = dktX0_write_1 := dk_seg dksX0_write_0 24 rfl rfl
theorem dksX0_write_2 : cX0_write.data.toList.drop 48 = dktX0_write_2 := dk_seg dksX0_write_1 24 rfl rfl
theorem dX0_write_0 : decode cX0_write 0 = .ok (.iload_n 1, 1) := dk_27 (dk_at dksX0_write_0 0 rfl rfl)
theorem dX0_write_1 : decode cX0_write 1 = .ok (.i2l, 1) := dk_133 (dk_at dksX0_write_0 1 rfl rfl)
theorem dX0_write_2 : decode cX0_write 2 = .ok (.lconst 0, 1) := dk_9 (dk_at dksX0_write_0 2 rfl rfl)
theorem dX0_write_3 : decode cX0_write 3 = .ok (.ldc2_w 156, 3) := dk_20 0 156 (dk_at dksX0_write_0 3 rfl rfl)
theorem dX0_write_6 : decode cX0_write 6 = .ok (.invokestatic 148, 3) := dk_184 0 148 (dk_at dksX0_write_0 6 rfl rfl)
theorem dX0_write_9 : decode cX0_write 9 = .ok (.ifCond .ne 6, 3) := dk_154 0 6 (dk_at dksX0_write_0 9 rfl rfl)
theorem dX0_write_12 : decode cX0_write 12 = .ok (.bipush (-3), 2) := dk_16 253 (dk_at dksX0_write_0 12 rfl rfl)
theorem dX0_write_14 : decode cX0_write 14 = .ok (.ireturn, 1) := dk_172 (dk_at dksX0_write_0 14 rfl rfl)
theorem dX0_write_15 : decode cX0_write 15 = .ok (.aload_n 0, 1) := dk_42 (dk_at dksX0_write_0 15 rfl rfl)
theorem dX0_write_16 : decode cX0_write 16 = .ok (.getfield 158, 3) := dk_180 0 158 (dk_at dksX0_write_0 16 rfl rfl)
theorem dX0_write_19 : decode cX0_write 19 = .ok (.aload_n 0, 1) := dk_42 (dk_at dksX0_write_0 19 rfl rfl)
theorem dX0_write_20 : decode cX0_write 20 = .ok (.getfield 128, 3) := dk_180 0 128 (dk_at dksX0_write_0 20 rfl rfl)
theorem dX0_write_23 : decode cX0_write 23 = .ok (.arraylength, 1) := dk_190 (dk_at dksX0_write_0 23 rfl rfl)
theorem dX0_write_24 : decode cX0_write 24 = .ok (.if_icmp .ne 6, 3) := dk_160 0 6 (dk_at dksX0_write_1 0 rfl rfl)
theorem dX0_write_27 : decode cX0_write 27 = .ok (.bipush (-5), 2) := dk_16 251 (dk_at dksX0_write_1 3 rfl rfl)
theorem dX0_write_29 : decode cX0_write 29 = .ok (.ireturn, 1) := dk_172 (dk_at dksX0_write_1 5 rfl rfl)
theorem dX0_write_30 : decode cX0_write 30 = .ok (.aload_n 0, 1) := dk_42 (dk_at dksX0_write_1 6 rfl rfl)
theorem dX0_write_31 : decode cX0_write 31 = .ok (.getfield 128, 3) := dk_180 0 128 (dk_at dksX0_write_1 7 rfl rfl)
theorem dX0_write_34 : decode cX0_write 34 = .ok (.aload_n 0, 1) := dk_42 (dk_at dksX0_write_1 10 rfl rfl)
theorem dX0_write_35 : decode cX0_write 35 = .ok (.dup, 1) := dk_89 (dk_at dksX0_write_1 11 rfl rfl)
theorem dX0_write_36 : decode cX0_write 36 = .ok (.getfield 158, 3) := dk_180 0 158 (dk_at dksX0_write_1 12 rfl rfl)
theorem dX0_write_39 : decode cX0_write 39 = .ok (.dup_x1, 1) := dk_90 (dk_at dksX0_write_1 15 rfl rfl)
theorem dX0_write_40 : decode cX0_write 40 = .ok (.iconst 1, 1) := dk_4 (dk_at dksX0_write_1 16 rfl rfl)
theorem dX0_write_41 : decode cX0_write 41 = .ok (.iadd, 1) := dk_96 (dk_at dksX0_write_1 17 rfl rfl)
theorem dX0_write_42 : decode cX0_write 42 = .ok (.putfield 158, 3) := dk_181 0 158 (dk_at dksX0_write_1 18 rfl rfl)
theorem dX0_write_45 : decode cX0_write 45 = .ok (.iload_n 1, 1) := dk_27 (dk_at dksX0_write_1 21 rfl rfl)
theorem dX0_write_46 : decode cX0_write 46 = .ok (.i2b, 1) := dk_145 (dk_at dksX0_write_1 22 rfl rfl)
theorem dX0_write_47 : decode cX0_write 47 = .ok (.bastore, 1) := dk_84 (dk_at dksX0_write_1 23 rfl rfl)
theorem dX0_write_48 : decode cX0_write 48 = .ok (.aload_n 0, 1) := dk_42 (dk_at dksX0_write_2 0 rfl rfl)
theorem dX0_write_49 : decode cX0_write 49 = .ok (.getfield 158, 3) := dk_180 0 158 (dk_at dksX0_write_2 1 rfl rfl)
theorem dX0_write_52 : decode cX0_write 52 = .ok (.ireturn, 1) := dk_172 (dk_at dksX0_write_2 4 rfl rfl)
abbrev cX0_in : ByteArray := prog_1_method_1_code
def yX0_in : MethodName := ⟨RX0, "in", "(JJJ)Z"⟩
def dkwX0_in_0 : List UInt8 := [30, 32, 148, 155, 0, 14, 30, 22, 4, 148, 157, 0, 7, 4, 167, 0, 4, 3, 172]
abbrev dktX0_in_0 : List UInt8 := dkwX0_in_0 ++ []
theorem dksX0_in_0 : cX0_in.data.toList.drop 0 = dktX0_in_0 := by decide +kernel
theorem dX0_in_0 : decode cX0_in 0 = .ok (.lload_n 0, 1) := dk_30 (dk_at dksX0_in_0 0 rfl rfl)
theorem dX0_in_1 : decode cX0_in 1 = .ok (.lload_n 2, 1) := dk_32 (dk_at dksX0_in_0 1 rfl rfl)
theorem dX0_in_2 : decode cX0_in 2 = .ok (.lcmp, 1) := dk_148 (dk_at dksX0_in_0 2 rfl rfl)
theorem dX0_in_3 : decode cX0_in 3 = .ok (.ifCond .lt 14, 3) := dk_155 0 14 (dk_at dksX0_in_0 3 rfl rfl)
theorem dX0_in_6 : decode cX0_in 6 = .ok (.lload_n 0, 1) := dk_30 (dk_at dksX0_in_0 6 rfl rfl)
theorem dX0_in_7 : decode cX0_in 7 = .ok (.lload 4, 2) := dk_22 4 (dk_at dksX0_in_0 7 rfl rfl)
theorem dX0_in_9 : decode cX0_in 9 = .ok (.lcmp, 1) := dk_148 (dk_at dksX0_in_0 9 rfl rfl)
theorem dX0_in_10 : decode cX0_in 10 = .ok (.ifCond .gt 7, 3) := dk_157 0 7 (dk_at dksX0_in_0 10 rfl rfl)
theorem dX0_in_13 : decode cX0_in 13 = .ok (.iconst 1, 1) := dk_4 (dk_at dksX0_in_0 13 rfl rfl)
theorem dX0_in_14 : decode cX0_in 14 = .ok (.goto 4, 3) := dk_167 0 4 (dk_at dksX0_in_0 14 rfl rfl)
theorem dX0_in_17 : decode cX0_in 17 = .ok (.iconst 0, 1) := dk_3 (dk_at dksX0_in_0 17 rfl rfl)
theorem dX0_in_18 : decode cX0_in 18 = .ok (.ireturn, 1) := dk_172 (dk_at dksX0_in_0 18 rfl rfl)
abbrev cX0_erase : ByteArray := prog_1_method_17_code
def yX0_erase : MethodName := ⟨RX0, "erase", "()I"⟩
def dkwX0_erase_0 : List UInt8 := [42, 180, 0, 158, 60, 42, 3, 181, 0, 158, 27, 172]
abbrev dktX0_erase_0 : List UInt8 := dkwX0_erase_0 ++ []
theorem dksX0_erase_0 : cX0_erase.data.toList.drop 0 = dktX0_erase_0 := by decide +kernel
theorem dX0_erase_0 : decode cX0_erase 0 = .ok (.aload_n 0, 1) := dk_42 (dk_at dksX0_erase_0 0 rfl rfl)
theorem dX0_erase_1 : decode cX0_erase 1 = .ok (.getfield 158, 3) := dk_180 0 158 (dk_at dksX0_erase_0 1 rfl rfl)
theorem dX0_erase_4 : decode cX0_erase 4 = .ok (.istore_n 1, 1) := dk_60 (dk_at dksX0_erase_0 4 rfl rfl)
theorem dX0_erase_5 : decode cX0_erase 5 = .ok (.aload_n 0, 1) := dk_42 (dk_at dksX0_erase_0 5 rfl rfl)
theorem dX0_erase_6 : decode cX0_erase 6 = .ok (.iconst 0, 1) := dk_3 (dk_at dksX0_erase_0 6 rfl rfl)
theorem dX0_erase_7 : decode cX0_erase 7 = .ok (.putfield 158, 3) := dk_181 0 158 (dk_at dksX0_erase_0 7 rfl rfl)
theorem dX0_erase_10 : decode cX0_erase 10 = .ok (.iload_n 1, 1) := dk_27 (dk_at dksX0_erase_0 10 rfl rfl)
theorem dX0_erase_11 : decode cX0_erase 11 = .ok (.ireturn, 1) := dk_172 (dk_at dksX0_erase_0 11 rfl rfl)
abbrev cX0_fault : ByteArray := prog_1_method_18_code
def yX0_fault : MethodName := ⟨RX0, "fault", "(I)I"⟩
def dkwX0_fault_2 : List UInt8 := [172, 77, 44, 180, 0, 176, 172]
abbrev dktX0_fault_2 : List UInt8 := dkwX0_fault_2 ++ []
def dkwX0_fault_1 : List UInt8 := [183, 0, 163, 182, 0, 166, 87, 167, 0, 16, 187, 0, 161, 89, 42, 4, 183, 0, 163, 182, 0, 170, 87, 2]
abbrev dktX0_fault_1 : List UInt8 := dkwX0_fault_1 ++ dktX0_fault_2
def dkwX0_fault_0 : List UInt8 := [27, 133, 9, 10, 184, 0, 148, 154, 0, 6, 16, 253, 172, 27, 154, 0, 19, 187, 0, 161, 89, 42, 3]
abbrev dktX0_fault_0 : List UInt8 := dkwX0_fault_0 ++ dktX0_fault_1
theorem dksX0_fault_0 : cX0_fault.data.toList.drop 0 = dktX0_fault_0 := by decide +kernel
theorem dksX0_fault_1 : cX0_fault.data.toList.drop 23 = dktX0_fault_1 := dk_seg dksX0_fault_0 23 rfl rfl
theorem dksX0_fault_2 : cX0_fault.data.toList.drop 47 = dktX0_fault_2 := dk_seg dksX0_fault_1 24 rfl rfl
theorem dX0_fault_0 : decode cX0_fault 0 = .ok (.iload_n 1, 1) := dk_27 (dk_at dksX0_fault_0 0 rfl rfl)
theorem dX0_fault_1 : decode cX0_fault 1 = .ok (.i2l, 1) := dk_133 (dk_at dksX0_fault_0 1 rfl rfl)
theorem dX0_fault_2 : decode cX0_fault 2 = .ok (.lconst 0, 1) := dk_9 (dk_at dksX0_fault_0 2 rfl rfl)
theorem dX0_fault_3 : decode cX0_fault 3 = .ok (.lconst 1, 1) := dk_10 (dk_at dksX0_fault_0 3 rfl rfl)
theorem dX0_fault_4 : decode cX0_fault 4 = .ok (.invokestatic 148, 3) := dk_184 0 148 (dk_at dksX0_fault_0 4 rfl rfl)
theorem dX0_fault_7 : decode cX0_fault 7 = .ok (.ifCond .ne 6, 3) := dk_154 0 6 (dk_at dksX0_fault_0 7 rfl rfl)
theorem dX0_fault_10 : decode cX0_fault 10 = .ok (.bipush (-3), 2) := dk_16 253 (dk_at dksX0_fault_0 10 rfl rfl)
theorem dX0_fault_12 : decode cX0_fault 12 = .ok (.ireturn, 1) := dk_172 (dk_at dksX0_fault_0 12 rfl rfl)
theorem dX0_fault_13 : decode cX0_fault 13 = .ok (.iload_n 1, 1) := dk_27 (dk_at dksX0_fault_0 13 rfl rfl)
theorem dX0_fault_14 : decode cX0_fault 14 = .ok (.ifCond .ne 19, 3) := dk_154 0 19 (dk_at dksX0_fault_0 14 rfl rfl)
theorem dX0_fault_17 : decode cX0_fault 17 = .ok (.new 161, 3) := dk_187 0 161 (dk_at dksX0_fault_0 17 rfl rfl)
theorem dX0_fault_20 : decode cX0_fault 20 = .ok (.dup, 1) := dk_89 (dk_at dksX0_fault_0 20 rfl rfl)
theorem dX0_fault_21 : decode cX0_fault 21 = .ok (.aload_n 0, 1) := dk_42 (dk_at dksX0_fault_0 21 rfl rfl)
theorem dX0_fault_22 : decode cX0_fault 22 = .ok (.iconst 0, 1) := dk_3 (dk_at dksX0_fault_0 22 rfl rfl)
theorem dX0_fault_23 : decode cX0_fault 23 = .ok (.invokespecial 163, 3) := dk_183 0 163 (dk_at dksX0_fault_1 0 rfl rfl)
theorem dX0_fault_26 : decode cX0_fault 26 = .ok (.invokevirtual 166, 3) := dk_182 0 166 (dk_at dksX0_fault_1 3 rfl rfl)
theorem dX0_fault_29 : decode cX0_fault 29 = .ok (.pop, 1) := dk_87 (dk_at dksX0_fault_1 6 rfl rfl)
theorem dX0_fault_30 : decode cX0_fault 30 = .ok (.goto 16, 3) := dk_167 0 16 (dk_at dksX0_fault_1 7 rfl rfl)
theorem dX0_fault_33 : decode cX0_fault 33 = .ok (.new 161, 3) := dk_187 0 161 (dk_at dksX0_fault_1 10 rfl rfl)
theorem dX0_fault_36 : decode cX0_fault 36 = .ok (.dup, 1) := dk_89 (dk_at dksX0_fault_1 13 rfl rfl)
theorem dX0_fault_37 : decode cX0_fault 37 = .ok (.aload_n 0, 1) := dk_42 (dk_at dksX0_fault_1 14 rfl rfl)
theorem dX0_fault_38 : decode cX0_fault 38 = .ok (.iconst 1, 1) := dk_4 (dk_at dksX0_fault_1 15 rfl rfl)
theorem dX0_fault_39 : decode cX0_fault 39 = .ok (.invokespecial 163, 3) := dk_183 0 163 (dk_at dksX0_fault_1 16 rfl rfl)
theorem dX0_fault_42 : decode cX0_fault 42 = .ok (.invokevirtual 170, 3) := dk_182 0 170 (dk_at dksX0_fault_1 19 rfl rfl)
theorem dX0_fault_45 : decode cX0_fault 45 = .ok (.pop, 1) := dk_87 (dk_at dksX0_fault_1 22 rfl rfl)
theorem dX0_fault_46 : decode cX0_fault 46 = .ok (.iconst (-1), 1) := dk_2 (dk_at dksX0_fault_1 23 rfl rfl)
theorem dX0_fault_47 : decode cX0_fault 47 = .ok (.ireturn, 1) := dk_172 (dk_at dksX0_fault_2 0 rfl rfl)
theorem dX0_fault_48 : decode cX0_fault 48 = .ok (.astore_n 2, 1) := dk_77 (dk_at dksX0_fault_2 1 rfl rfl)
theorem dX0_fault_49 : decode cX0_fault 49 = .ok (.aload_n 2, 1) := dk_44 (dk_at dksX0_fault_2 2 rfl rfl)
theorem dX0_fault_50 : decode cX0_fault 50 = .ok (.getfield 176, 3) := dk_180 0 176 (dk_at dksX0_fault_2 3 rfl rfl)
theorem dX0_fault_53 : decode cX0_fault 53 = .ok (.ireturn, 1) := dk_172 (dk_at dksX0_fault_2 6 rfl rfl)
abbrev cX0_harbour : ByteArray := prog_1_method_19_code
def yX0_harbour : MethodName := ⟨RX0, "harbour", "()I"⟩
def dkwX0_harbour_3 : List UInt8 := [182, 0, 145, 45, 191]
abbrev dktX0_harbour_3 : List UInt8 := dkwX0_harbour_3 ++ []
def dkwX0_harbour_2 : List UInt8 := [43, 180, 0, 179, 61, 42, 3, 181, 0, 158, 42, 182, 0, 145, 28, 172, 78, 42, 3, 181, 0, 158, 42]
abbrev dktX0_harbour_2 : List UInt8 := dkwX0_harbour_2 ++ dktX0_harbour_3
def dkwX0_harbour_1 : List UInt8 := [28, 43, 180, 0, 179, 162, 0, 19, 42, 43, 180, 0, 181, 28, 50, 182, 0, 184, 132, 2, 1, 167, 255, 235]
abbrev dktX0_harbour_1 : List UInt8 := dkwX0_harbour_1 ++ dktX0_harbour_2
def dkwX0_harbour_0 : List UInt8 := [187, 0, 161, 89, 42, 3, 183, 0, 163, 76, 43, 182, 0, 166, 87, 167, 0, 7, 77, 16, 252, 172, 3, 61]
abbrev dktX0_harbour_0 : List UInt8 := dkwX0_harbour_0 ++ dktX0_harbour_1
theorem dksX0_harbour_0 : cX0_harbour.data.toList.drop 0 = dktX0_harbour_0 := by decide +kernel
theorem dksX0_harbour_1 : cX0_harbour.data.toList.drop 24 = dktX0_harbour_1 := dk_seg dksX0_harbour_0 24 rfl rfl
theorem dksX0_harbour_2 : cX0_harbour.data.toList.drop 48 = dktX0_harbour_2 := dk_seg dksX0_harbour_1 24 rfl rfl
theorem dksX0_harbour_3 : cX0_harbour.data.toList.drop 71 = dktX0_harbour_3 := dk_seg dksX0_harbour_2 23 rfl rfl
theorem dX0_harbour_0 : decode cX0_harbour 0 = .ok (.new 161, 3) := dk_187 0 161 (dk_at dksX0_harbour_0 0 rfl rfl)
theorem dX0_harbour_3 : decode cX0_harbour 3 = .ok (.dup, 1) := dk_89 (dk_at dksX0_harbour_0 3 rfl rfl)
theorem dX0_harbour_4 : decode cX0_harbour 4 = .ok (.aload_n 0, 1) := dk_42 (dk_at dksX0_harbour_0 4 rfl rfl)
theorem dX0_harbour_5 : decode cX0_harbour 5 = .ok (.iconst 0, 1) := dk_3 (dk_at dksX0_harbour_0 5 rfl rfl)
theorem dX0_harbour_6 : decode cX0_harbour 6 = .ok (.invokespecial 163, 3) := dk_183 0 163 (dk_at dksX0_harbour_0 6 rfl rfl)
theorem dX0_harbour_9 : decode cX0_harbour 9 = .ok (.astore_n 1, 1) := dk_76 (dk_at dksX0_harbour_0 9 rfl rfl)
theorem dX0_harbour_10 : decode cX0_harbour 10 = .ok (.aload_n 1, 1) := dk_43 (dk_at dksX0_harbour_0 10 rfl rfl)
theorem dX0_harbour_11 : decode cX0_harbour 11 = .ok (.invokevirtual 166, 3) := dk_182 0 166 (dk_at dksX0_harbour_0 11 rfl rfl)
theorem dX0_harbour_14 : decode cX0_harbour 14 = .ok (.pop, 1) := dk_87 (dk_at dksX0_harbour_0 14 rfl rfl)
theorem dX0_harbour_15 : decode cX0_harbour 15 = .ok (.goto 7, 3) := dk_167 0 7 (dk_at dksX0_harbour_0 15 rfl rfl)
theorem dX0_harbour_18 : decode cX0_harbour 18 = .ok (.astore_n 2, 1) := dk_77 (dk_at dksX0_harbour_0 18 rfl rfl)
theorem dX0_harbour_19 : decode cX0_harbour 19 = .ok (.bipush (-4), 2) := dk_16 252 (dk_at dksX0_harbour_0 19 rfl rfl)
theorem dX0_harbour_21 : decode cX0_harbour 21 = .ok (.ireturn, 1) := dk_172 (dk_at dksX0_harbour_0 21 rfl rfl)
theorem dX0_harbour_22 : decode cX0_harbour 22 = .ok (.iconst 0, 1) := dk_3 (dk_at dksX0_harbour_0 22 rfl rfl)
theorem dX0_harbour_23 : decode cX0_harbour 23 = .ok (.istore_n 2, 1) := dk_61 (dk_at dksX0_harbour_0 23 rfl rfl)
theorem dX0_harbour_24 : decode cX0_harbour 24 = .ok (.iload_n 2, 1) := dk_28 (dk_at dksX0_harbour_1 0 rfl rfl)
theorem dX0_harbour_25 : decode cX0_harbour 25 = .ok (.aload_n 1, 1) := dk_43 (dk_at dksX0_harbour_1 1 rfl rfl)
theorem dX0_harbour_26 : decode cX0_harbour 26 = .ok (.getfield 179, 3) := dk_180 0 179 (dk_at dksX0_harbour_1 2 rfl rfl)
theorem dX0_harbour_29 : decode cX0_harbour 29 = .ok (.if_icmp .ge 19, 3) := dk_162 0 19 (dk_at dksX0_harbour_1 5 rfl rfl)
theorem dX0_harbour_32 : decode cX0_harbour 32 = .ok (.aload_n 0, 1) := dk_42 (dk_at dksX0_harbour_1 8 rfl rfl)
theorem dX0_harbour_33 : decode cX0_harbour 33 = .ok (.aload_n 1, 1) := dk_43 (dk_at dksX0_harbour_1 9 rfl rfl)
theorem dX0_harbour_34 : decode cX0_harbour 34 = .ok (.getfield 181, 3) := dk_180 0 181 (dk_at dksX0_harbour_1 10 rfl rfl)
theorem dX0_harbour_37 : decode cX0_harbour 37 = .ok (.iload_n 2, 1) := dk_28 (dk_at dksX0_harbour_1 13 rfl rfl)
theorem dX0_harbour_38 : decode cX0_harbour 38 = .ok (.aaload, 1) := dk_50 (dk_at dksX0_harbour_1 14 rfl rfl)
theorem dX0_harbour_39 : decode cX0_harbour 39 = .ok (.invokevirtual 184, 3) := dk_182 0 184 (dk_at dksX0_harbour_1 15 rfl rfl)
theorem dX0_harbour_42 : decode cX0_harbour 42 = .ok (.iinc 2 1, 3) := dk_132 2 1 (dk_at dksX0_harbour_1 18 rfl rfl)
theorem dX0_harbour_45 : decode cX0_harbour 45 = .ok (.goto (-21), 3) := dk_167 255 235 (dk_at dksX0_harbour_1 21 rfl rfl)
theorem dX0_harbour_48 : decode cX0_harbour 48 = .ok (.aload_n 1, 1) := dk_43 (dk_at dksX0_harbour_2 0 rfl rfl)
theorem dX0_harbour_49 : decode cX0_harbour 49 = .ok (.getfield 179, 3) := dk_180 0 179 (dk_at dksX0_harbour_2 1 rfl rfl)
theorem dX0_harbour_52 : decode cX0_harbour 52 = .ok (.istore_n 2, 1) := dk_61 (dk_at dksX0_harbour_2 4 rfl rfl)
theorem dX0_harbour_53 : decode cX0_harbour 53 = .ok (.aload_n 0, 1) := dk_42 (dk_at dksX0_harbour_2 5 rfl rfl)
theorem dX0_harbour_54 : decode cX0_harbour 54 = .ok (.iconst 0, 1) := dk_3 (dk_at dksX0_harbour_2 6 rfl rfl)
theorem dX0_harbour_55 : decode cX0_harbour 55 = .ok (.putfield 158, 3) := dk_181 0 158 (dk_at dksX0_harbour_2 7 rfl rfl)
theorem dX0_harbour_58 : decode cX0_harbour 58 = .ok (.aload_n 0, 1) := dk_42 (dk_at dksX0_harbour_2 10 rfl rfl)
theorem dX0_harbour_59 : decode cX0_harbour 59 = .ok (.invokevirtual 145, 3) := dk_182 0 145 (dk_at dksX0_harbour_2 11 rfl rfl)
theorem dX0_harbour_62 : decode cX0_harbour 62 = .ok (.iload_n 2, 1) := dk_28 (dk_at dksX0_harbour_2 14 rfl rfl)
theorem dX0_harbour_63 : decode cX0_harbour 63 = .ok (.ireturn, 1) := dk_172 (dk_at dksX0_harbour_2 15 rfl rfl)
theorem dX0_harbour_64 : decode cX0_harbour 64 = .ok (.astore_n 3, 1) := dk_78 (dk_at dksX0_harbour_2 16 rfl rfl)
theorem dX0_harbour_65 : decode cX0_harbour 65 = .ok (.aload_n 0, 1) := dk_42 (dk_at dksX0_harbour_2 17 rfl rfl)
theorem dX0_harbour_66 : decode cX0_harbour 66 = .ok (.iconst 0, 1) := dk_3 (dk_at dksX0_harbour_2 18 rfl rfl)
theorem dX0_harbour_67 : decode cX0_harbour 67 = .ok (.putfield 158, 3) := dk_181 0 158 (dk_at dksX0_harbour_2 19 rfl rfl)
theorem dX0_harbour_70 : decode cX0_harbour 70 = .ok (.aload_n 0, 1) := dk_42 (dk_at dksX0_harbour_2 22 rfl rfl)
theorem dX0_harbour_71 : decode cX0_harbour 71 = .ok (.invokevirtual 145, 3) := dk_182 0 145 (dk_at dksX0_harbour_3 0 rfl rfl)
theorem dX0_harbour_74 : decode cX0_harbour 74 = .ok (.aload_n 3, 1) := dk_45 (dk_at dksX0_harbour_3 3 rfl rfl)
theorem dX0_harbour_75 : decode cX0_harbour 75 = .ok (.athrow, 1) := dk_191 (dk_at dksX0_harbour_3 4 rfl rfl)
abbrev cX0_tell : ByteArray := prog_1_method_9_code
def yX0_tell : MethodName := ⟨RX0, "tell", "([I)V"⟩
def dkwX0_tell_9 : List UInt8 := [177]
abbrev dktX0_tell_9 : List UInt8 := dkwX0_tell_9 ++ []
def dkwX0_tell_8 : List UInt8 := [180, 0, 69, 43, 3, 46, 42, 180, 0, 69, 184, 0, 102, 83, 42, 89, 180, 0, 69, 4, 96, 181, 0, 69]
abbrev dktX0_tell_8 : List UInt8 := dkwX0_tell_8 ++ dktX0_tell_9
def dkwX0_tell_7 : List UInt8 := [3, 184, 0, 96, 42, 180, 0, 31, 180, 0, 99, 42, 180, 0, 69, 43, 4, 46, 79, 42, 180, 0, 21, 42]
abbrev dktX0_tell_7 : List UInt8 := dkwX0_tell_7 ++ dktX0_tell_8
def dkwX0_tell_6 : List UInt8 := [4, 43, 4, 46, 120, 128, 181, 0, 75, 167, 0, 63, 42, 180, 0, 31, 180, 0, 92, 42, 180, 0, 69, 50]
abbrev dktX0_tell_6 : List UInt8 := dkwX0_tell_6 ++ dktX0_tell_7
def dkwX0_tell_5 : List UInt8 := [180, 0, 31, 180, 0, 78, 43, 4, 46, 43, 5, 46, 79, 167, 0, 83, 42, 180, 0, 31, 89, 180, 0, 75]
abbrev dktX0_tell_5 : List UInt8 := dkwX0_tell_5 ++ dktX0_tell_6
def dkwX0_tell_4 : List UInt8 := [180, 0, 31, 180, 0, 92, 43, 4, 46, 50, 43, 5, 46, 43, 6, 46, 145, 84, 167, 0, 100, 42]
abbrev dktX0_tell_4 : List UInt8 := dkwX0_tell_4 ++ dktX0_tell_5
def dkwX0_tell_3 : List UInt8 := [180, 0, 89, 42, 89, 180, 0, 72, 90, 4, 96, 181, 0, 72, 43, 4, 46, 79, 167, 0, 122, 42]
abbrev dktX0_tell_3 : List UInt8 := dkwX0_tell_3 ++ dktX0_tell_4
def dkwX0_tell_2 : List UInt8 := [42, 182, 0, 85, 167, 0, 160, 42, 180, 0, 31, 180, 0, 78, 42, 180, 0, 72, 2, 79, 42, 180, 0, 31]
abbrev dktX0_tell_2 : List UInt8 := dkwX0_tell_2 ++ dktX0_tell_3
def dkwX0_tell_1 : List UInt8 := [170, 0, 0, 0, 137, 0, 0, 0, 5, 0, 0, 0, 9, 0, 0, 0, 33, 0, 0, 0, 40, 0, 0, 0, 78, 0, 0, 0, 100, 0, 0, 0, 117]
abbrev dktX0_tell_1 : List UInt8 := dkwX0_tell_1 ++ dktX0_tell_2
def dkwX0_tell_0 : List UInt8 := [43, 3, 46]
abbrev dktX0_tell_0 : List UInt8 := dkwX0_tell_0 ++ dktX0_tell_1
theorem dksX0_tell_0 : cX0_tell.data.toList.drop 0 = dktX0_tell_0 := by decide +kernel
theorem dksX0_tell_1 : cX0_tell.data.toList.drop 3 = dktX0_tell_1 := dk_seg dksX0_tell_0 3 rfl rfl
theorem dksX0_tell_2 : cX0_tell.data.toList.drop 36 = dktX0_tell_2 := dk_seg dksX0_tell_1 33 rfl rfl
theorem dksX0_tell_3 : cX0_tell.data.toList.drop 60 = dktX0_tell_3 := dk_seg dksX0_tell_2 24 rfl rfl
theorem dksX0_tell_4 : cX0_tell.data.toList.drop 82 = dktX0_tell_4 := dk_seg dksX0_tell_3 22 rfl rfl
theorem dksX0_tell_5 : cX0_tell.data.toList.drop 104 = dktX0_tell_5 := dk_seg dksX0_tell_4 22 rfl rfl
theorem dksX0_tell_6 : cX0_tell.data.toList.drop 128 = dktX0_tell_6 := dk_seg dksX0_tell_5 24 rfl rfl
theorem dksX0_tell_7 : cX0_tell.data.toList.drop 152 = dktX0_tell_7 := dk_seg dksX0_tell_6 24 rfl rfl
theorem dksX0_tell_8 : cX0_tell.data.toList.drop 176 = dktX0_tell_8 := dk_seg dksX0_tell_7 24 rfl rfl
theorem dksX0_tell_9 : cX0_tell.data.toList.drop 200 = dktX0_tell_9 := dk_seg dksX0_tell_8 24 rfl rfl
theorem dX0_tell_0 : decode cX0_tell 0 = .ok (.aload_n 1, 1) := dk_43 (dk_at dksX0_tell_0 0 rfl rfl)
theorem dX0_tell_1 : decode cX0_tell 1 = .ok (.iconst 0, 1) := dk_3 (dk_at dksX0_tell_0 1 rfl rfl)
theorem dX0_tell_2 : decode cX0_tell 2 = .ok (.iaload, 1) := dk_46 (dk_at dksX0_tell_0 2 rfl rfl)
theorem dX0_tell_3 : decode cX0_tell 3 = .ok (.tableswitch 137 5 9 #[33, 40, 78, 100, 117], 33) := by decide +kernel
theorem dX0_tell_36 : decode cX0_tell 36 = .ok (.aload_n 0, 1) := dk_42 (dk_at dksX0_tell_2 0 rfl rfl)
theorem dX0_tell_37 : decode cX0_tell 37 = .ok (.invokevirtual 85, 3) := dk_182 0 85 (dk_at dksX0_tell_2 1 rfl rfl)
theorem dX0_tell_40 : decode cX0_tell 40 = .ok (.goto 160, 3) := dk_167 0 160 (dk_at dksX0_tell_2 4 rfl rfl)
theorem dX0_tell_43 : decode cX0_tell 43 = .ok (.aload_n 0, 1) := dk_42 (dk_at dksX0_tell_2 7 rfl rfl)
theorem dX0_tell_44 : decode cX0_tell 44 = .ok (.getfield 31, 3) := dk_180 0 31 (dk_at dksX0_tell_2 8 rfl rfl)
theorem dX0_tell_47 : decode cX0_tell 47 = .ok (.getfield 78, 3) := dk_180 0 78 (dk_at dksX0_tell_2 11 rfl rfl)
theorem dX0_tell_50 : decode cX0_tell 50 = .ok (.aload_n 0, 1) := dk_42 (dk_at dksX0_tell_2 14 rfl rfl)
theorem dX0_tell_51 : decode cX0_tell 51 = .ok (.getfield 72, 3) := dk_180 0 72 (dk_at dksX0_tell_2 15 rfl rfl)
theorem dX0_tell_54 : decode cX0_tell 54 = .ok (.iconst (-1), 1) := dk_2 (dk_at dksX0_tell_2 18 rfl rfl)
theorem dX0_tell_55 : decode cX0_tell 55 = .ok (.iastore, 1) := dk_79 (dk_at dksX0_tell_2 19 rfl rfl)
theorem dX0_tell_56 : decode cX0_tell 56 = .ok (.aload_n 0, 1) := dk_42 (dk_at dksX0_tell_2 20 rfl rfl)
theorem dX0_tell_57 : decode cX0_tell 57 = .ok (.getfield 31, 3) := dk_180 0 31 (dk_at dksX0_tell_2 21 rfl rfl)
theorem dX0_tell_60 : decode cX0_tell 60 = .ok (.getfield 89, 3) := dk_180 0 89 (dk_at dksX0_tell_3 0 rfl rfl)
theorem dX0_tell_63 : decode cX0_tell 63 = .ok (.aload_n 0, 1) := dk_42 (dk_at dksX0_tell_3 3 rfl rfl)
theorem dX0_tell_64 : decode cX0_tell 64 = .ok (.dup, 1) := dk_89 (dk_at dksX0_tell_3 4 rfl rfl)
theorem dX0_tell_65 : decode cX0_tell 65 = .ok (.getfield 72, 3) := dk_180 0 72 (dk_at dksX0_tell_3 5 rfl rfl)
theorem dX0_tell_68 : decode cX0_tell 68 = .ok (.dup_x1, 1) := dk_90 (dk_at dksX0_tell_3 8 rfl rfl)
theorem dX0_tell_69 : decode cX0_tell 69 = .ok (.iconst 1, 1) := dk_4 (dk_at dksX0_tell_3 9 rfl rfl)
theorem dX0_tell_70 : decode cX0_tell 70 = .ok (.iadd, 1) := dk_96 (dk_at dksX0_tell_3 10 rfl rfl)
theorem dX0_tell_71 : decode cX0_tell 71 = .ok (.putfield 72, 3) := dk_181 0 72 (dk_at dksX0_tell_3 11 rfl rfl)
theorem dX0_tell_74 : decode cX0_tell 74 = .ok (.aload_n 1, 1) := dk_43 (dk_at dksX0_tell_3 14 rfl rfl)
theorem dX0_tell_75 : decode cX0_tell 75 = .ok (.iconst 1, 1) := dk_4 (dk_at dksX0_tell_3 15 rfl rfl)
theorem dX0_tell_76 : decode cX0_tell 76 = .ok (.iaload, 1) := dk_46 (dk_at dksX0_tell_3 16 rfl rfl)
theorem dX0_tell_77 : decode cX0_tell 77 = .ok (.iastore, 1) := dk_79 (dk_at dksX0_tell_3 17 rfl rfl)
theorem dX0_tell_78 : decode cX0_tell 78 = .ok (.goto 122, 3) := dk_167 0 122 (dk_at dksX0_tell_3 18 rfl rfl)
theorem dX0_tell_81 : decode cX0_tell 81 = .ok (.aload_n 0, 1) := dk_42 (dk_at dksX0_tell_3 21 rfl rfl)
theorem dX0_tell_82 : decode cX0_tell 82 = .ok (.getfield 31, 3) := dk_180 0 31 (dk_at dksX0_tell_4 0 rfl rfl)
theorem dX0_tell_85 : decode cX0_tell 85 = .ok (.getfield 92, 3) := dk_180 0 92 (dk_at dksX0_tell_4 3 rfl rfl)
theorem dX0_tell_88 : decode cX0_tell 88 = .ok (.aload_n 1, 1) := dk_43 (dk_at dksX0_tell_4 6 rfl rfl)
theorem dX0_tell_89 : decode cX0_tell 89 = .ok (.iconst 1, 1) := dk_4 (dk_at dksX0_tell_4 7 rfl rfl)
theorem dX0_tell_90 : decode cX0_tell 90 = .ok (.iaload, 1) := dk_46 (dk_at dksX0_tell_4 8 rfl rfl)
theorem dX0_tell_91 : decode cX0_tell 91 = .ok (.aaload, 1) := dk_50 (dk_at dksX0_tell_4 9 rfl rfl)
theorem dX0_tell_92 : decode cX0_tell 92 = .ok (.aload_n 1, 1) := dk_43 (dk_at dksX0_tell_4 10 rfl rfl)
theorem dX0_tell_93 : decode cX0_tell 93 = .ok (.iconst 2, 1) := dk_5 (dk_at dksX0_tell_4 11 rfl rfl)
theorem dX0_tell_94 : decode cX0_tell 94 = .ok (.iaload, 1) := dk_46 (dk_at dksX0_tell_4 12 rfl rfl)
theorem dX0_tell_95 : decode cX0_tell 95 = .ok (.aload_n 1, 1) := dk_43 (dk_at dksX0_tell_4 13 rfl rfl)
theorem dX0_tell_96 : decode cX0_tell 96 = .ok (.iconst 3, 1) := dk_6 (dk_at dksX0_tell_4 14 rfl rfl)
theorem dX0_tell_97 : decode cX0_tell 97 = .ok (.iaload, 1) := dk_46 (dk_at dksX0_tell_4 15 rfl rfl)
theorem dX0_tell_98 : decode cX0_tell 98 = .ok (.i2b, 1) := dk_145 (dk_at dksX0_tell_4 16 rfl rfl)
theorem dX0_tell_99 : decode cX0_tell 99 = .ok (.bastore, 1) := dk_84 (dk_at dksX0_tell_4 17 rfl rfl)
theorem dX0_tell_100 : decode cX0_tell 100 = .ok (.goto 100, 3) := dk_167 0 100 (dk_at dksX0_tell_4 18 rfl rfl)
theorem dX0_tell_103 : decode cX0_tell 103 = .ok (.aload_n 0, 1) := dk_42 (dk_at dksX0_tell_4 21 rfl rfl)
theorem dX0_tell_104 : decode cX0_tell 104 = .ok (.getfield 31, 3) := dk_180 0 31 (dk_at dksX0_tell_5 0 rfl rfl)
theorem dX0_tell_107 : decode cX0_tell 107 = .ok (.getfield 78, 3) := dk_180 0 78 (dk_at dksX0_tell_5 3 rfl rfl)
theorem dX0_tell_110 : decode cX0_tell 110 = .ok (.aload_n 1, 1) := dk_43 (dk_at dksX0_tell_5 6 rfl rfl)
theorem dX0_tell_111 : decode cX0_tell 111 = .ok (.iconst 1, 1) := dk_4 (dk_at dksX0_tell_5 7 rfl rfl)
theorem dX0_tell_112 : decode cX0_tell 112 = .ok (.iaload, 1) := dk_46 (dk_at dksX0_tell_5 8 rfl rfl)
theorem dX0_tell_113 : decode cX0_tell 113 = .ok (.aload_n 1, 1) := dk_43 (dk_at dksX0_tell_5 9 rfl rfl)
theorem dX0_tell_114 : decode cX0_tell 114 = .ok (.iconst 2, 1) := dk_5 (dk_at dksX0_tell_5 10 rfl rfl)
theorem dX0_tell_115 : decode cX0_tell 115 = .ok (.iaload, 1) := dk_46 (dk_at dksX0_tell_5 11 rfl rfl)
theorem dX0_tell_116 : decode cX0_tell 116 = .ok (.iastore, 1) := dk_79 (dk_at dksX0_tell_5 12 rfl rfl)
theorem dX0_tell_117 : decode cX0_tell 117 = .ok (.goto 83, 3) := dk_167 0 83 (dk_at dksX0_tell_5 13 rfl rfl)
theorem dX0_tell_120 : decode cX0_tell 120 = .ok (.aload_n 0, 1) := dk_42 (dk_at dksX0_tell_5 16 rfl rfl)
theorem dX0_tell_121 : decode cX0_tell 121 = .ok (.getfield 31, 3) := dk_180 0 31 (dk_at dksX0_tell_5 17 rfl rfl)
theorem dX0_tell_124 : decode cX0_tell 124 = .ok (.dup, 1) := dk_89 (dk_at dksX0_tell_5 20 rfl rfl)
theorem dX0_tell_125 : decode cX0_tell 125 = .ok (.getfield 75, 3) := dk_180 0 75 (dk_at dksX0_tell_5 21 rfl rfl)
theorem dX0_tell_128 : decode cX0_tell 128 = .ok (.iconst 1, 1) := dk_4 (dk_at dksX0_tell_6 0 rfl rfl)
theorem dX0_tell_129 : decode cX0_tell 129 = .ok (.aload_n 1, 1) := dk_43 (dk_at dksX0_tell_6 1 rfl rfl)
theorem dX0_tell_130 : decode cX0_tell 130 = .ok (.iconst 1, 1) := dk_4 (dk_at dksX0_tell_6 2 rfl rfl)
theorem dX0_tell_131 : decode cX0_tell 131 = .ok (.iaload, 1) := dk_46 (dk_at dksX0_tell_6 3 rfl rfl)
theorem dX0_tell_132 : decode cX0_tell 132 = .ok (.ishl, 1) := dk_120 (dk_at dksX0_tell_6 4 rfl rfl)
theorem dX0_tell_133 : decode cX0_tell 133 = .ok (.ior, 1) := dk_128 (dk_at dksX0_tell_6 5 rfl rfl)
theorem dX0_tell_134 : decode cX0_tell 134 = .ok (.putfield 75, 3) := dk_181 0 75 (dk_at dksX0_tell_6 6 rfl rfl)
theorem dX0_tell_137 : decode cX0_tell 137 = .ok (.goto 63, 3) := dk_167 0 63 (dk_at dksX0_tell_6 9 rfl rfl)
theorem dX0_tell_140 : decode cX0_tell 140 = .ok (.aload_n 0, 1) := dk_42 (dk_at dksX0_tell_6 12 rfl rfl)
theorem dX0_tell_141 : decode cX0_tell 141 = .ok (.getfield 31, 3) := dk_180 0 31 (dk_at dksX0_tell_6 13 rfl rfl)
theorem dX0_tell_144 : decode cX0_tell 144 = .ok (.getfield 92, 3) := dk_180 0 92 (dk_at dksX0_tell_6 16 rfl rfl)
theorem dX0_tell_147 : decode cX0_tell 147 = .ok (.aload_n 0, 1) := dk_42 (dk_at dksX0_tell_6 19 rfl rfl)
theorem dX0_tell_148 : decode cX0_tell 148 = .ok (.getfield 69, 3) := dk_180 0 69 (dk_at dksX0_tell_6 20 rfl rfl)
theorem dX0_tell_151 : decode cX0_tell 151 = .ok (.aaload, 1) := dk_50 (dk_at dksX0_tell_6 23 rfl rfl)
theorem dX0_tell_152 : decode cX0_tell 152 = .ok (.iconst 0, 1) := dk_3 (dk_at dksX0_tell_7 0 rfl rfl)
theorem dX0_tell_153 : decode cX0_tell 153 = .ok (.invokestatic 96, 3) := dk_184 0 96 (dk_at dksX0_tell_7 1 rfl rfl)
theorem dX0_tell_156 : decode cX0_tell 156 = .ok (.aload_n 0, 1) := dk_42 (dk_at dksX0_tell_7 4 rfl rfl)
theorem dX0_tell_157 : decode cX0_tell 157 = .ok (.getfield 31, 3) := dk_180 0 31 (dk_at dksX0_tell_7 5 rfl rfl)
theorem dX0_tell_160 : decode cX0_tell 160 = .ok (.getfield 99, 3) := dk_180 0 99 (dk_at dksX0_tell_7 8 rfl rfl)
theorem dX0_tell_163 : decode cX0_tell 163 = .ok (.aload_n 0, 1) := dk_42 (dk_at dksX0_tell_7 11 rfl rfl)
theorem dX0_tell_164 : decode cX0_tell 164 = .ok (.getfield 69, 3) := dk_180 0 69 (dk_at dksX0_tell_7 12 rfl rfl)
theorem dX0_tell_167 : decode cX0_tell 167 = .ok (.aload_n 1, 1) := dk_43 (dk_at dksX0_tell_7 15 rfl rfl)
theorem dX0_tell_168 : decode cX0_tell 168 = .ok (.iconst 1, 1) := dk_4 (dk_at dksX0_tell_7 16 rfl rfl)
theorem dX0_tell_169 : decode cX0_tell 169 = .ok (.iaload, 1) := dk_46 (dk_at dksX0_tell_7 17 rfl rfl)
theorem dX0_tell_170 : decode cX0_tell 170 = .ok (.iastore, 1) := dk_79 (dk_at dksX0_tell_7 18 rfl rfl)
theorem dX0_tell_171 : decode cX0_tell 171 = .ok (.aload_n 0, 1) := dk_42 (dk_at dksX0_tell_7 19 rfl rfl)
theorem dX0_tell_172 : decode cX0_tell 172 = .ok (.getfield 21, 3) := dk_180 0 21 (dk_at dksX0_tell_7 20 rfl rfl)
theorem dX0_tell_175 : decode cX0_tell 175 = .ok (.aload_n 0, 1) := dk_42 (dk_at dksX0_tell_7 23 rfl rfl)
theorem dX0_tell_176 : decode cX0_tell 176 = .ok (.getfield 69, 3) := dk_180 0 69 (dk_at dksX0_tell_8 0 rfl rfl)
theorem dX0_tell_179 : decode cX0_tell 179 = .ok (.aload_n 1, 1) := dk_43 (dk_at dksX0_tell_8 3 rfl rfl)
theorem dX0_tell_180 : decode cX0_tell 180 = .ok (.iconst 0, 1) := dk_3 (dk_at dksX0_tell_8 4 rfl rfl)
theorem dX0_tell_181 : decode cX0_tell 181 = .ok (.iaload, 1) := dk_46 (dk_at dksX0_tell_8 5 rfl rfl)
theorem dX0_tell_182 : decode cX0_tell 182 = .ok (.aload_n 0, 1) := dk_42 (dk_at dksX0_tell_8 6 rfl rfl)
theorem dX0_tell_183 : decode cX0_tell 183 = .ok (.getfield 69, 3) := dk_180 0 69 (dk_at dksX0_tell_8 7 rfl rfl)
theorem dX0_tell_186 : decode cX0_tell 186 = .ok (.invokestatic 102, 3) := dk_184 0 102 (dk_at dksX0_tell_8 10 rfl rfl)
theorem dX0_tell_189 : decode cX0_tell 189 = .ok (.aastore, 1) := dk_83 (dk_at dksX0_tell_8 13 rfl rfl)
theorem dX0_tell_190 : decode cX0_tell 190 = .ok (.aload_n 0, 1) := dk_42 (dk_at dksX0_tell_8 14 rfl rfl)
theorem dX0_tell_191 : decode cX0_tell 191 = .ok (.dup, 1) := dk_89 (dk_at dksX0_tell_8 15 rfl rfl)
theorem dX0_tell_192 : decode cX0_tell 192 = .ok (.getfield 69, 3) := dk_180 0 69 (dk_at dksX0_tell_8 16 rfl rfl)
theorem dX0_tell_195 : decode cX0_tell 195 = .ok (.iconst 1, 1) := dk_4 (dk_at dksX0_tell_8 19 rfl rfl)
theorem dX0_tell_196 : decode cX0_tell 196 = .ok (.iadd, 1) := dk_96 (dk_at dksX0_tell_8 20 rfl rfl)
theorem dX0_tell_197 : decode cX0_tell 197 = .ok (.putfield 69, 3) := dk_181 0 69 (dk_at dksX0_tell_8 21 rfl rfl)
theorem dX0_tell_200 : decode cX0_tell 200 = .ok (.return_, 1) := dk_177 (dk_at dksX0_tell_9 0 rfl rfl)
abbrev cX0_called : ByteArray := prog_1_method_3_code
def yX0_called : MethodName := ⟨RX0, "called", "(II)LParrotSpeech$Bird;"⟩
def dkwX0_called_3 : List UInt8 := [183, 0, 12, 176, 187, 0, 13, 89, 27, 183, 0, 15, 176, 187, 0, 16, 89, 27, 183, 0, 18, 176]
abbrev dktX0_called_3 : List UInt8 := dkwX0_called_3 ++ []
def dkwX0_called_2 : List UInt8 := [187, 0, 1, 89, 27, 183, 0, 3, 176, 187, 0, 7, 89, 27, 183, 0, 9, 176, 187, 0, 10, 89, 27]
abbrev dktX0_called_2 : List UInt8 := dkwX0_called_2 ++ dktX0_called_3
def dkwX0_called_1 : List UInt8 := [170, 0, 0, 0, 0, 0, 67, 0, 0, 0, 0, 0, 0, 0, 3, 0, 0, 0, 31, 0, 0, 0, 40, 0, 0, 0, 49, 0, 0, 0, 58]
abbrev dktX0_called_1 : List UInt8 := dkwX0_called_1 ++ dktX0_called_2
def dkwX0_called_0 : List UInt8 := [26]
abbrev dktX0_called_0 : List UInt8 := dkwX0_called_0 ++ dktX0_called_1
theorem dksX0_called_0 : cX0_called.data.toList.drop 0 = dktX0_called_0 := by decide +kernel
theorem dksX0_called_1 : cX0_called.data.toList.drop 1 = dktX0_called_1 := dk_seg dksX0_called_0 1 rfl rfl
theorem dksX0_called_2 : cX0_called.data.toList.drop 32 = dktX0_called_2 := dk_seg dksX0_called_1 31 rfl rfl
theorem dksX0_called_3 : cX0_called.data.toList.drop 55 = dktX0_called_3 := dk_seg dksX0_called_2 23 rfl rfl
theorem dX0_called_0 : decode cX0_called 0 = .ok (.iload_n 0, 1) := dk_26 (dk_at dksX0_called_0 0 rfl rfl)
theorem dX0_called_1 : decode cX0_called 1 = .ok (.tableswitch 67 0 3 #[31, 40, 49, 58], 31) := by decide +kernel
theorem dX0_called_32 : decode cX0_called 32 = .ok (.new 1, 3) := dk_187 0 1 (dk_at dksX0_called_2 0 rfl rfl)
theorem dX0_called_35 : decode cX0_called 35 = .ok (.dup, 1) := dk_89 (dk_at dksX0_called_2 3 rfl rfl)
theorem dX0_called_36 : decode cX0_called 36 = .ok (.iload_n 1, 1) := dk_27 (dk_at dksX0_called_2 4 rfl rfl)
theorem dX0_called_37 : decode cX0_called 37 = .ok (.invokespecial 3, 3) := dk_183 0 3 (dk_at dksX0_called_2 5 rfl rfl)
theorem dX0_called_40 : decode cX0_called 40 = .ok (.areturn, 1) := dk_176 (dk_at dksX0_called_2 8 rfl rfl)
theorem dX0_called_41 : decode cX0_called 41 = .ok (.new 7, 3) := dk_187 0 7 (dk_at dksX0_called_2 9 rfl rfl)
theorem dX0_called_44 : decode cX0_called 44 = .ok (.dup, 1) := dk_89 (dk_at dksX0_called_2 12 rfl rfl)
theorem dX0_called_45 : decode cX0_called 45 = .ok (.iload_n 1, 1) := dk_27 (dk_at dksX0_called_2 13 rfl rfl)
theorem dX0_called_46 : decode cX0_called 46 = .ok (.invokespecial 9, 3) := dk_183 0 9 (dk_at dksX0_called_2 14 rfl rfl)
theorem dX0_called_49 : decode cX0_called 49 = .ok (.areturn, 1) := dk_176 (dk_at dksX0_called_2 17 rfl rfl)
theorem dX0_called_50 : decode cX0_called 50 = .ok (.new 10, 3) := dk_187 0 10 (dk_at dksX0_called_2 18 rfl rfl)
theorem dX0_called_53 : decode cX0_called 53 = .ok (.dup, 1) := dk_89 (dk_at dksX0_called_2 21 rfl rfl)
theorem dX0_called_54 : decode cX0_called 54 = .ok (.iload_n 1, 1) := dk_27 (dk_at dksX0_called_2 22 rfl rfl)
theorem dX0_called_55 : decode cX0_called 55 = .ok (.invokespecial 12, 3) := dk_183 0 12 (dk_at dksX0_called_3 0 rfl rfl)
theorem dX0_called_58 : decode cX0_called 58 = .ok (.areturn, 1) := dk_176 (dk_at dksX0_called_3 3 rfl rfl)
theorem dX0_called_59 : decode cX0_called 59 = .ok (.new 13, 3) := dk_187 0 13 (dk_at dksX0_called_3 4 rfl rfl)
theorem dX0_called_62 : decode cX0_called 62 = .ok (.dup, 1) := dk_89 (dk_at dksX0_called_3 7 rfl rfl)
theorem dX0_called_63 : decode cX0_called 63 = .ok (.iload_n 1, 1) := dk_27 (dk_at dksX0_called_3 8 rfl rfl)
theorem dX0_called_64 : decode cX0_called 64 = .ok (.invokespecial 15, 3) := dk_183 0 15 (dk_at dksX0_called_3 9 rfl rfl)
theorem dX0_called_67 : decode cX0_called 67 = .ok (.areturn, 1) := dk_176 (dk_at dksX0_called_3 12 rfl rfl)
theorem dX0_called_68 : decode cX0_called 68 = .ok (.new 16, 3) := dk_187 0 16 (dk_at dksX0_called_3 13 rfl rfl)
theorem dX0_called_71 : decode cX0_called 71 = .ok (.dup, 1) := dk_89 (dk_at dksX0_called_3 16 rfl rfl)
theorem dX0_called_72 : decode cX0_called 72 = .ok (.iload_n 1, 1) := dk_27 (dk_at dksX0_called_3 17 rfl rfl)
theorem dX0_called_73 : decode cX0_called 73 = .ok (.invokespecial 18, 3) := dk_183 0 18 (dk_at dksX0_called_3 18 rfl rfl)
theorem dX0_called_76 : decode cX0_called 76 = .ok (.areturn, 1) := dk_176 (dk_at dksX0_called_3 21 rfl rfl)
abbrev cX0_tongue : ByteArray := prog_1_method_20_code
def yX0_tongue : MethodName := ⟨RX0, "tongue", "()I"⟩
def dkwX0_tongue_1 : List UInt8 := [180, 0, 191, 172, 77, 16, 252, 172]
abbrev dktX0_tongue_1 : List UInt8 := dkwX0_tongue_1 ++ []
def dkwX0_tongue_0 : List UInt8 := [187, 0, 161, 89, 42, 4, 183, 0, 163, 76, 42, 43, 182, 0, 170, 181, 0, 188, 42, 3, 181, 0, 158, 43]
abbrev dktX0_tongue_0 : List UInt8 := dkwX0_tongue_0 ++ dktX0_tongue_1
theorem dksX0_tongue_0 : cX0_tongue.data.toList.drop 0 = dktX0_tongue_0 := by decide +kernel
theorem dksX0_tongue_1 : cX0_tongue.data.toList.drop 24 = dktX0_tongue_1 := dk_seg dksX0_tongue_0 24 rfl rfl
theorem dX0_tongue_0 : decode cX0_tongue 0 = .ok (.new 161, 3) := dk_187 0 161 (dk_at dksX0_tongue_0 0 rfl rfl)
theorem dX0_tongue_3 : decode cX0_tongue 3 = .ok (.dup, 1) := dk_89 (dk_at dksX0_tongue_0 3 rfl rfl)
theorem dX0_tongue_4 : decode cX0_tongue 4 = .ok (.aload_n 0, 1) := dk_42 (dk_at dksX0_tongue_0 4 rfl rfl)
theorem dX0_tongue_5 : decode cX0_tongue 5 = .ok (.iconst 1, 1) := dk_4 (dk_at dksX0_tongue_0 5 rfl rfl)
theorem dX0_tongue_6 : decode cX0_tongue 6 = .ok (.invokespecial 163, 3) := dk_183 0 163 (dk_at dksX0_tongue_0 6 rfl rfl)
theorem dX0_tongue_9 : decode cX0_tongue 9 = .ok (.astore_n 1, 1) := dk_76 (dk_at dksX0_tongue_0 9 rfl rfl)
theorem dX0_tongue_10 : decode cX0_tongue 10 = .ok (.aload_n 0, 1) := dk_42 (dk_at dksX0_tongue_0 10 rfl rfl)
theorem dX0_tongue_11 : decode cX0_tongue 11 = .ok (.aload_n 1, 1) := dk_43 (dk_at dksX0_tongue_0 11 rfl rfl)
theorem dX0_tongue_12 : decode cX0_tongue 12 = .ok (.invokevirtual 170, 3) := dk_182 0 170 (dk_at dksX0_tongue_0 12 rfl rfl)
theorem dX0_tongue_15 : decode cX0_tongue 15 = .ok (.putfield 188, 3) := dk_181 0 188 (dk_at dksX0_tongue_0 15 rfl rfl)
theorem dX0_tongue_18 : decode cX0_tongue 18 = .ok (.aload_n 0, 1) := dk_42 (dk_at dksX0_tongue_0 18 rfl rfl)
theorem dX0_tongue_19 : decode cX0_tongue 19 = .ok (.iconst 0, 1) := dk_3 (dk_at dksX0_tongue_0 19 rfl rfl)
theorem dX0_tongue_20 : decode cX0_tongue 20 = .ok (.putfield 158, 3) := dk_181 0 158 (dk_at dksX0_tongue_0 20 rfl rfl)
theorem dX0_tongue_23 : decode cX0_tongue 23 = .ok (.aload_n 1, 1) := dk_43 (dk_at dksX0_tongue_0 23 rfl rfl)
theorem dX0_tongue_24 : decode cX0_tongue 24 = .ok (.getfield 191, 3) := dk_180 0 191 (dk_at dksX0_tongue_1 0 rfl rfl)
theorem dX0_tongue_27 : decode cX0_tongue 27 = .ok (.ireturn, 1) := dk_172 (dk_at dksX0_tongue_1 3 rfl rfl)
theorem dX0_tongue_28 : decode cX0_tongue 28 = .ok (.astore_n 2, 1) := dk_77 (dk_at dksX0_tongue_1 4 rfl rfl)
theorem dX0_tongue_29 : decode cX0_tongue 29 = .ok (.bipush (-4), 2) := dk_16 252 (dk_at dksX0_tongue_1 5 rfl rfl)
theorem dX0_tongue_31 : decode cX0_tongue 31 = .ok (.ireturn, 1) := dk_172 (dk_at dksX0_tongue_1 7 rfl rfl)
abbrev cX0_bird : ByteArray := prog_1_method_21_code
def yX0_bird : MethodName := ⟨RX0, "bird", "(II)I"⟩
def dkwX0_bird_4 : List UInt8 := [182, 0, 210, 172, 16, 253, 172]
abbrev dktX0_bird_4 : List UInt8 := dkwX0_bird_4 ++ []
def dkwX0_bird_3 : List UInt8 := [180, 0, 75, 27, 122, 4, 126, 172, 42, 180, 0, 27, 27, 182, 0, 206, 172, 42, 180, 0, 27, 27]
abbrev dktX0_bird_3 : List UInt8 := dkwX0_bird_3 ++ dktX0_bird_4
def dkwX0_bird_2 : List UInt8 := [42, 27, 182, 0, 198, 182, 0, 202, 172, 42, 180, 0, 27, 180, 0, 99, 27, 46, 172, 42, 180, 0, 27]
abbrev dktX0_bird_2 : List UInt8 := dkwX0_bird_2 ++ dktX0_bird_3
def dkwX0_bird_1 : List UInt8 := [170, 0, 0, 0, 0, 0, 0, 85, 0, 0, 0, 0, 0, 0, 0, 4, 0, 0, 0, 36, 0, 0, 0, 45, 0, 0, 0, 55, 0, 0, 0, 67, 0, 0, 0, 76]
abbrev dktX0_bird_1 : List UInt8 := dkwX0_bird_1 ++ dktX0_bird_2
def dkwX0_bird_0 : List UInt8 := [42, 27, 182, 0, 194, 154, 0, 6, 16, 254, 172, 28]
abbrev dktX0_bird_0 : List UInt8 := dkwX0_bird_0 ++ dktX0_bird_1
theorem dksX0_bird_0 : cX0_bird.data.toList.drop 0 = dktX0_bird_0 := by decide +kernel
theorem dksX0_bird_1 : cX0_bird.data.toList.drop 12 = dktX0_bird_1 := dk_seg dksX0_bird_0 12 rfl rfl
theorem dksX0_bird_2 : cX0_bird.data.toList.drop 48 = dktX0_bird_2 := dk_seg dksX0_bird_1 36 rfl rfl
theorem dksX0_bird_3 : cX0_bird.data.toList.drop 71 = dktX0_bird_3 := dk_seg dksX0_bird_2 23 rfl rfl
theorem dksX0_bird_4 : cX0_bird.data.toList.drop 93 = dktX0_bird_4 := dk_seg dksX0_bird_3 22 rfl rfl
theorem dX0_bird_0 : decode cX0_bird 0 = .ok (.aload_n 0, 1) := dk_42 (dk_at dksX0_bird_0 0 rfl rfl)
theorem dX0_bird_1 : decode cX0_bird 1 = .ok (.iload_n 1, 1) := dk_27 (dk_at dksX0_bird_0 1 rfl rfl)
theorem dX0_bird_2 : decode cX0_bird 2 = .ok (.invokevirtual 194, 3) := dk_182 0 194 (dk_at dksX0_bird_0 2 rfl rfl)
theorem dX0_bird_5 : decode cX0_bird 5 = .ok (.ifCond .ne 6, 3) := dk_154 0 6 (dk_at dksX0_bird_0 5 rfl rfl)
theorem dX0_bird_8 : decode cX0_bird 8 = .ok (.bipush (-2), 2) := dk_16 254 (dk_at dksX0_bird_0 8 rfl rfl)
theorem dX0_bird_10 : decode cX0_bird 10 = .ok (.ireturn, 1) := dk_172 (dk_at dksX0_bird_0 10 rfl rfl)
theorem dX0_bird_11 : decode cX0_bird 11 = .ok (.iload_n 2, 1) := dk_28 (dk_at dksX0_bird_0 11 rfl rfl)
theorem dX0_bird_12 : decode cX0_bird 12 = .ok (.tableswitch 85 0 4 #[36, 45, 55, 67, 76], 36) := by decide +kernel
theorem dX0_bird_48 : decode cX0_bird 48 = .ok (.aload_n 0, 1) := dk_42 (dk_at dksX0_bird_2 0 rfl rfl)
theorem dX0_bird_49 : decode cX0_bird 49 = .ok (.iload_n 1, 1) := dk_27 (dk_at dksX0_bird_2 1 rfl rfl)
theorem dX0_bird_50 : decode cX0_bird 50 = .ok (.invokevirtual 198, 3) := dk_182 0 198 (dk_at dksX0_bird_2 2 rfl rfl)
theorem dX0_bird_53 : decode cX0_bird 53 = .ok (.invokevirtual 202, 3) := dk_182 0 202 (dk_at dksX0_bird_2 5 rfl rfl)
theorem dX0_bird_56 : decode cX0_bird 56 = .ok (.ireturn, 1) := dk_172 (dk_at dksX0_bird_2 8 rfl rfl)
theorem dX0_bird_57 : decode cX0_bird 57 = .ok (.aload_n 0, 1) := dk_42 (dk_at dksX0_bird_2 9 rfl rfl)
theorem dX0_bird_58 : decode cX0_bird 58 = .ok (.getfield 27, 3) := dk_180 0 27 (dk_at dksX0_bird_2 10 rfl rfl)
theorem dX0_bird_61 : decode cX0_bird 61 = .ok (.getfield 99, 3) := dk_180 0 99 (dk_at dksX0_bird_2 13 rfl rfl)
theorem dX0_bird_64 : decode cX0_bird 64 = .ok (.iload_n 1, 1) := dk_27 (dk_at dksX0_bird_2 16 rfl rfl)
theorem dX0_bird_65 : decode cX0_bird 65 = .ok (.iaload, 1) := dk_46 (dk_at dksX0_bird_2 17 rfl rfl)
theorem dX0_bird_66 : decode cX0_bird 66 = .ok (.ireturn, 1) := dk_172 (dk_at dksX0_bird_2 18 rfl rfl)
theorem dX0_bird_67 : decode cX0_bird 67 = .ok (.aload_n 0, 1) := dk_42 (dk_at dksX0_bird_2 19 rfl rfl)
theorem dX0_bird_68 : decode cX0_bird 68 = .ok (.getfield 27, 3) := dk_180 0 27 (dk_at dksX0_bird_2 20 rfl rfl)
theorem dX0_bird_71 : decode cX0_bird 71 = .ok (.getfield 75, 3) := dk_180 0 75 (dk_at dksX0_bird_3 0 rfl rfl)
theorem dX0_bird_74 : decode cX0_bird 74 = .ok (.iload_n 1, 1) := dk_27 (dk_at dksX0_bird_3 3 rfl rfl)
theorem dX0_bird_75 : decode cX0_bird 75 = .ok (.ishr, 1) := dk_122 (dk_at dksX0_bird_3 4 rfl rfl)
theorem dX0_bird_76 : decode cX0_bird 76 = .ok (.iconst 1, 1) := dk_4 (dk_at dksX0_bird_3 5 rfl rfl)
theorem dX0_bird_77 : decode cX0_bird 77 = .ok (.iand, 1) := dk_126 (dk_at dksX0_bird_3 6 rfl rfl)
theorem dX0_bird_78 : decode cX0_bird 78 = .ok (.ireturn, 1) := dk_172 (dk_at dksX0_bird_3 7 rfl rfl)
theorem dX0_bird_79 : decode cX0_bird 79 = .ok (.aload_n 0, 1) := dk_42 (dk_at dksX0_bird_3 8 rfl rfl)
theorem dX0_bird_80 : decode cX0_bird 80 = .ok (.getfield 27, 3) := dk_180 0 27 (dk_at dksX0_bird_3 9 rfl rfl)
theorem dX0_bird_83 : decode cX0_bird 83 = .ok (.iload_n 1, 1) := dk_27 (dk_at dksX0_bird_3 12 rfl rfl)
theorem dX0_bird_84 : decode cX0_bird 84 = .ok (.invokevirtual 206, 3) := dk_182 0 206 (dk_at dksX0_bird_3 13 rfl rfl)
theorem dX0_bird_87 : decode cX0_bird 87 = .ok (.ireturn, 1) := dk_172 (dk_at dksX0_bird_3 16 rfl rfl)
theorem dX0_bird_88 : decode cX0_bird 88 = .ok (.aload_n 0, 1) := dk_42 (dk_at dksX0_bird_3 17 rfl rfl)
theorem dX0_bird_89 : decode cX0_bird 89 = .ok (.getfield 27, 3) := dk_180 0 27 (dk_at dksX0_bird_3 18 rfl rfl)
theorem dX0_bird_92 : decode cX0_bird 92 = .ok (.iload_n 1, 1) := dk_27 (dk_at dksX0_bird_3 21 rfl rfl)
theorem dX0_bird_93 : decode cX0_bird 93 = .ok (.invokevirtual 210, 3) := dk_182 0 210 (dk_at dksX0_bird_4 0 rfl rfl)
theorem dX0_bird_96 : decode cX0_bird 96 = .ok (.ireturn, 1) := dk_172 (dk_at dksX0_bird_4 3 rfl rfl)
theorem dX0_bird_97 : decode cX0_bird 97 = .ok (.bipush (-3), 2) := dk_16 253 (dk_at dksX0_bird_4 4 rfl rfl)
theorem dX0_bird_99 : decode cX0_bird 99 = .ok (.ireturn, 1) := dk_172 (dk_at dksX0_bird_4 6 rfl rfl)
abbrev cX0_isBird : ByteArray := prog_1_method_12_code
def yX0_isBird : MethodName := ⟨RX0, "isBird", "(I)Z"⟩
def dkwX0_isBird_0 : List UInt8 := [27, 133, 9, 42, 180, 0, 69, 4, 100, 133, 184, 0, 148, 172]
abbrev dktX0_isBird_0 : List UInt8 := dkwX0_isBird_0 ++ []
theorem dksX0_isBird_0 : cX0_isBird.data.toList.drop 0 = dktX0_isBird_0 := by decide +kernel
theorem dX0_isBird_0 : decode cX0_isBird 0 = .ok (.iload_n 1, 1) := dk_27 (dk_at dksX0_isBird_0 0 rfl rfl)
theorem dX0_isBird_1 : decode cX0_isBird 1 = .ok (.i2l, 1) := dk_133 (dk_at dksX0_isBird_0 1 rfl rfl)
theorem dX0_isBird_2 : decode cX0_isBird 2 = .ok (.lconst 0, 1) := dk_9 (dk_at dksX0_isBird_0 2 rfl rfl)
theorem dX0_isBird_3 : decode cX0_isBird 3 = .ok (.aload_n 0, 1) := dk_42 (dk_at dksX0_isBird_0 3 rfl rfl)
theorem dX0_isBird_4 : decode cX0_isBird 4 = .ok (.getfield 69, 3) := dk_180 0 69 (dk_at dksX0_isBird_0 4 rfl rfl)
theorem dX0_isBird_7 : decode cX0_isBird 7 = .ok (.iconst 1, 1) := dk_4 (dk_at dksX0_isBird_0 7 rfl rfl)
theorem dX0_isBird_8 : decode cX0_isBird 8 = .ok (.isub, 1) := dk_100 (dk_at dksX0_isBird_0 8 rfl rfl)
theorem dX0_isBird_9 : decode cX0_isBird 9 = .ok (.i2l, 1) := dk_133 (dk_at dksX0_isBird_0 9 rfl rfl)
theorem dX0_isBird_10 : decode cX0_isBird 10 = .ok (.invokestatic 148, 3) := dk_184 0 148 (dk_at dksX0_isBird_0 10 rfl rfl)
theorem dX0_isBird_13 : decode cX0_isBird 13 = .ok (.ireturn, 1) := dk_172 (dk_at dksX0_isBird_0 13 rfl rfl)
abbrev cX0_bird_2 : ByteArray := prog_1_method_5_code
def yX0_bird_2 : MethodName := ⟨RX0, "bird", "(I)LParrotSpeech$Bird;"⟩
def dkwX0_bird_2_0 : List UInt8 := [42, 180, 0, 21, 27, 50, 192, 0, 19, 176]
abbrev dktX0_bird_2_0 : List UInt8 := dkwX0_bird_2_0 ++ []
theorem dksX0_bird_2_0 : cX0_bird_2.data.toList.drop 0 = dktX0_bird_2_0 := by decide +kernel
theorem dX0_bird_2_0 : decode cX0_bird_2 0 = .ok (.aload_n 0, 1) := dk_42 (dk_at dksX0_bird_2_0 0 rfl rfl)
theorem dX0_bird_2_1 : decode cX0_bird_2 1 = .ok (.getfield 21, 3) := dk_180 0 21 (dk_at dksX0_bird_2_0 1 rfl rfl)
theorem dX0_bird_2_4 : decode cX0_bird_2 4 = .ok (.iload_n 1, 1) := dk_27 (dk_at dksX0_bird_2_0 4 rfl rfl)
theorem dX0_bird_2_5 : decode cX0_bird_2 5 = .ok (.aaload, 1) := dk_50 (dk_at dksX0_bird_2_0 5 rfl rfl)
theorem dX0_bird_2_6 : decode cX0_bird_2 6 = .ok (.checkcast 19, 3) := dk_192 0 19 (dk_at dksX0_bird_2_0 6 rfl rfl)
theorem dX0_bird_2_9 : decode cX0_bird_2 9 = .ok (.areturn, 1) := dk_176 (dk_at dksX0_bird_2_0 9 rfl rfl)
abbrev cX0_man : ByteArray := prog_1_method_22_code
def yX0_man : MethodName := ⟨RX0, "man", "(II)I"⟩
def dkwX0_man_1 : List UInt8 := [167, 0, 22, 28, 4, 160, 0, 15, 42, 180, 0, 27, 180, 0, 78, 27, 46, 167, 0, 5, 16, 253, 172]
abbrev dktX0_man_1 : List UInt8 := dkwX0_man_1 ++ []
def dkwX0_man_0 : List UInt8 := [42, 27, 182, 0, 213, 154, 0, 6, 16, 254, 172, 28, 154, 0, 15, 42, 180, 0, 27, 180, 0, 89, 27, 46]
abbrev dktX0_man_0 : List UInt8 := dkwX0_man_0 ++ dktX0_man_1
theorem dksX0_man_0 : cX0_man.data.toList.drop 0 = dktX0_man_0 := by decide +kernel
theorem dksX0_man_1 : cX0_man.data.toList.drop 24 = dktX0_man_1 := dk_seg dksX0_man_0 24 rfl rfl
theorem dX0_man_0 : decode cX0_man 0 = .ok (.aload_n 0, 1) := dk_42 (dk_at dksX0_man_0 0 rfl rfl)
theorem dX0_man_1 : decode cX0_man 1 = .ok (.iload_n 1, 1) := dk_27 (dk_at dksX0_man_0 1 rfl rfl)
theorem dX0_man_2 : decode cX0_man 2 = .ok (.invokevirtual 213, 3) := dk_182 0 213 (dk_at dksX0_man_0 2 rfl rfl)
theorem dX0_man_5 : decode cX0_man 5 = .ok (.ifCond .ne 6, 3) := dk_154 0 6 (dk_at dksX0_man_0 5 rfl rfl)
theorem dX0_man_8 : decode cX0_man 8 = .ok (.bipush (-2), 2) := dk_16 254 (dk_at dksX0_man_0 8 rfl rfl)
theorem dX0_man_10 : decode cX0_man 10 = .ok (.ireturn, 1) := dk_172 (dk_at dksX0_man_0 10 rfl rfl)
theorem dX0_man_11 : decode cX0_man 11 = .ok (.iload_n 2, 1) := dk_28 (dk_at dksX0_man_0 11 rfl rfl)
theorem dX0_man_12 : decode cX0_man 12 = .ok (.ifCond .ne 15, 3) := dk_154 0 15 (dk_at dksX0_man_0 12 rfl rfl)
theorem dX0_man_15 : decode cX0_man 15 = .ok (.aload_n 0, 1) := dk_42 (dk_at dksX0_man_0 15 rfl rfl)
theorem dX0_man_16 : decode cX0_man 16 = .ok (.getfield 27, 3) := dk_180 0 27 (dk_at dksX0_man_0 16 rfl rfl)
theorem dX0_man_19 : decode cX0_man 19 = .ok (.getfield 89, 3) := dk_180 0 89 (dk_at dksX0_man_0 19 rfl rfl)
theorem dX0_man_22 : decode cX0_man 22 = .ok (.iload_n 1, 1) := dk_27 (dk_at dksX0_man_0 22 rfl rfl)
theorem dX0_man_23 : decode cX0_man 23 = .ok (.iaload, 1) := dk_46 (dk_at dksX0_man_0 23 rfl rfl)
theorem dX0_man_24 : decode cX0_man 24 = .ok (.goto 22, 3) := dk_167 0 22 (dk_at dksX0_man_1 0 rfl rfl)
theorem dX0_man_27 : decode cX0_man 27 = .ok (.iload_n 2, 1) := dk_28 (dk_at dksX0_man_1 3 rfl rfl)
theorem dX0_man_28 : decode cX0_man 28 = .ok (.iconst 1, 1) := dk_4 (dk_at dksX0_man_1 4 rfl rfl)
theorem dX0_man_29 : decode cX0_man 29 = .ok (.if_icmp .ne 15, 3) := dk_160 0 15 (dk_at dksX0_man_1 5 rfl rfl)
theorem dX0_man_32 : decode cX0_man 32 = .ok (.aload_n 0, 1) := dk_42 (dk_at dksX0_man_1 8 rfl rfl)
theorem dX0_man_33 : decode cX0_man 33 = .ok (.getfield 27, 3) := dk_180 0 27 (dk_at dksX0_man_1 9 rfl rfl)
theorem dX0_man_36 : decode cX0_man 36 = .ok (.getfield 78, 3) := dk_180 0 78 (dk_at dksX0_man_1 12 rfl rfl)
theorem dX0_man_39 : decode cX0_man 39 = .ok (.iload_n 1, 1) := dk_27 (dk_at dksX0_man_1 15 rfl rfl)
theorem dX0_man_40 : decode cX0_man 40 = .ok (.iaload, 1) := dk_46 (dk_at dksX0_man_1 16 rfl rfl)
theorem dX0_man_41 : decode cX0_man 41 = .ok (.goto 5, 3) := dk_167 0 5 (dk_at dksX0_man_1 17 rfl rfl)
theorem dX0_man_44 : decode cX0_man 44 = .ok (.bipush (-3), 2) := dk_16 253 (dk_at dksX0_man_1 20 rfl rfl)
theorem dX0_man_46 : decode cX0_man 46 = .ok (.ireturn, 1) := dk_172 (dk_at dksX0_man_1 22 rfl rfl)
abbrev cX0_isMan : ByteArray := prog_1_method_13_code
def yX0_isMan : MethodName := ⟨RX0, "isMan", "(I)Z"⟩
def dkwX0_isMan_0 : List UInt8 := [27, 133, 9, 42, 180, 0, 72, 4, 100, 133, 184, 0, 148, 172]
abbrev dktX0_isMan_0 : List UInt8 := dkwX0_isMan_0 ++ []
theorem dksX0_isMan_0 : cX0_isMan.data.toList.drop 0 = dktX0_isMan_0 := by decide +kernel
theorem dX0_isMan_0 : decode cX0_isMan 0 = .ok (.iload_n 1, 1) := dk_27 (dk_at dksX0_isMan_0 0 rfl rfl)
theorem dX0_isMan_1 : decode cX0_isMan 1 = .ok (.i2l, 1) := dk_133 (dk_at dksX0_isMan_0 1 rfl rfl)
theorem dX0_isMan_2 : decode cX0_isMan 2 = .ok (.lconst 0, 1) := dk_9 (dk_at dksX0_isMan_0 2 rfl rfl)
theorem dX0_isMan_3 : decode cX0_isMan 3 = .ok (.aload_n 0, 1) := dk_42 (dk_at dksX0_isMan_0 3 rfl rfl)
theorem dX0_isMan_4 : decode cX0_isMan 4 = .ok (.getfield 72, 3) := dk_180 0 72 (dk_at dksX0_isMan_0 4 rfl rfl)
theorem dX0_isMan_7 : decode cX0_isMan 7 = .ok (.iconst 1, 1) := dk_4 (dk_at dksX0_isMan_0 7 rfl rfl)
theorem dX0_isMan_8 : decode cX0_isMan 8 = .ok (.isub, 1) := dk_100 (dk_at dksX0_isMan_0 8 rfl rfl)
theorem dX0_isMan_9 : decode cX0_isMan 9 = .ok (.i2l, 1) := dk_133 (dk_at dksX0_isMan_0 9 rfl rfl)
theorem dX0_isMan_10 : decode cX0_isMan 10 = .ok (.invokestatic 148, 3) := dk_184 0 148 (dk_at dksX0_isMan_0 10 rfl rfl)
theorem dX0_isMan_13 : decode cX0_isMan 13 = .ok (.ireturn, 1) := dk_172 (dk_at dksX0_isMan_0 13 rfl rfl)
abbrev cX0_known : ByteArray := prog_1_method_23_code
def yX0_known : MethodName := ⟨RX0, "known", "(III)I"⟩
def dkwX0_known_2 : List UInt8 := [27, 50, 28, 51, 167, 0, 5, 16, 253, 172]
abbrev dktX0_known_2 : List UInt8 := dkwX0_known_2 ++ []
def dkwX0_known_1 : List UInt8 := [184, 0, 148, 153, 0, 28, 42, 180, 0, 120, 42, 180, 0, 27, 182, 0, 34, 29, 182, 0, 221, 180, 0, 92]
abbrev dktX0_known_1 : List UInt8 := dkwX0_known_1 ++ dktX0_known_2
def dkwX0_known_0 : List UInt8 := [42, 27, 182, 0, 194, 153, 0, 10, 28, 184, 0, 216, 154, 0, 6, 16, 254, 172, 29, 133, 9, 20, 0, 219]
abbrev dktX0_known_0 : List UInt8 := dkwX0_known_0 ++ dktX0_known_1
theorem dksX0_known_0 : cX0_known.data.toList.drop 0 = dktX0_known_0 := by decide +kernel
theorem dksX0_known_1 : cX0_known.data.toList.drop 24 = dktX0_known_1 := dk_seg dksX0_known_0 24 rfl rfl
theorem dksX0_known_2 : cX0_known.data.toList.drop 48 = dktX0_known_2 := dk_seg dksX0_known_1 24 rfl rfl
theorem dX0_known_0 : decode cX0_known 0 = .ok (.aload_n 0, 1) := dk_42 (dk_at dksX0_known_0 0 rfl rfl)
theorem dX0_known_1 : decode cX0_known 1 = .ok (.iload_n 1, 1) := dk_27 (dk_at dksX0_known_0 1 rfl rfl)
theorem dX0_known_2 : decode cX0_known 2 = .ok (.invokevirtual 194, 3) := dk_182 0 194 (dk_at dksX0_known_0 2 rfl rfl)
theorem dX0_known_5 : decode cX0_known 5 = .ok (.ifCond .eq 10, 3) := dk_153 0 10 (dk_at dksX0_known_0 5 rfl rfl)
theorem dX0_known_8 : decode cX0_known 8 = .ok (.iload_n 2, 1) := dk_28 (dk_at dksX0_known_0 8 rfl rfl)
theorem dX0_known_9 : decode cX0_known 9 = .ok (.invokestatic 216, 3) := dk_184 0 216 (dk_at dksX0_known_0 9 rfl rfl)
theorem dX0_known_12 : decode cX0_known 12 = .ok (.ifCond .ne 6, 3) := dk_154 0 6 (dk_at dksX0_known_0 12 rfl rfl)
theorem dX0_known_15 : decode cX0_known 15 = .ok (.bipush (-2), 2) := dk_16 254 (dk_at dksX0_known_0 15 rfl rfl)
theorem dX0_known_17 : decode cX0_known 17 = .ok (.ireturn, 1) := dk_172 (dk_at dksX0_known_0 17 rfl rfl)
theorem dX0_known_18 : decode cX0_known 18 = .ok (.iload_n 3, 1) := dk_29 (dk_at dksX0_known_0 18 rfl rfl)
theorem dX0_known_19 : decode cX0_known 19 = .ok (.i2l, 1) := dk_133 (dk_at dksX0_known_0 19 rfl rfl)
theorem dX0_known_20 : decode cX0_known 20 = .ok (.lconst 0, 1) := dk_9 (dk_at dksX0_known_0 20 rfl rfl)
theorem dX0_known_21 : decode cX0_known 21 = .ok (.ldc2_w 219, 3) := dk_20 0 219 (dk_at dksX0_known_0 21 rfl rfl)
theorem dX0_known_24 : decode cX0_known 24 = .ok (.invokestatic 148, 3) := dk_184 0 148 (dk_at dksX0_known_1 0 rfl rfl)
theorem dX0_known_27 : decode cX0_known 27 = .ok (.ifCond .eq 28, 3) := dk_153 0 28 (dk_at dksX0_known_1 3 rfl rfl)
theorem dX0_known_30 : decode cX0_known 30 = .ok (.aload_n 0, 1) := dk_42 (dk_at dksX0_known_1 6 rfl rfl)
theorem dX0_known_31 : decode cX0_known 31 = .ok (.getfield 120, 3) := dk_180 0 120 (dk_at dksX0_known_1 7 rfl rfl)
theorem dX0_known_34 : decode cX0_known 34 = .ok (.aload_n 0, 1) := dk_42 (dk_at dksX0_known_1 10 rfl rfl)
theorem dX0_known_35 : decode cX0_known 35 = .ok (.getfield 27, 3) := dk_180 0 27 (dk_at dksX0_known_1 11 rfl rfl)
theorem dX0_known_38 : decode cX0_known 38 = .ok (.invokevirtual 34, 3) := dk_182 0 34 (dk_at dksX0_known_1 14 rfl rfl)
theorem dX0_known_41 : decode cX0_known 41 = .ok (.iload_n 3, 1) := dk_29 (dk_at dksX0_known_1 17 rfl rfl)
theorem dX0_known_42 : decode cX0_known 42 = .ok (.invokevirtual 221, 3) := dk_182 0 221 (dk_at dksX0_known_1 18 rfl rfl)
theorem dX0_known_45 : decode cX0_known 45 = .ok (.getfield 92, 3) := dk_180 0 92 (dk_at dksX0_known_1 21 rfl rfl)
theorem dX0_known_48 : decode cX0_known 48 = .ok (.iload_n 1, 1) := dk_27 (dk_at dksX0_known_2 0 rfl rfl)
theorem dX0_known_49 : decode cX0_known 49 = .ok (.aaload, 1) := dk_50 (dk_at dksX0_known_2 1 rfl rfl)
theorem dX0_known_50 : decode cX0_known 50 = .ok (.iload_n 2, 1) := dk_28 (dk_at dksX0_known_2 2 rfl rfl)
theorem dX0_known_51 : decode cX0_known 51 = .ok (.baload, 1) := dk_51 (dk_at dksX0_known_2 3 rfl rfl)
theorem dX0_known_52 : decode cX0_known 52 = .ok (.goto 5, 3) := dk_167 0 5 (dk_at dksX0_known_2 4 rfl rfl)
theorem dX0_known_55 : decode cX0_known 55 = .ok (.bipush (-3), 2) := dk_16 253 (dk_at dksX0_known_2 7 rfl rfl)
theorem dX0_known_57 : decode cX0_known 57 = .ok (.ireturn, 1) := dk_172 (dk_at dksX0_known_2 9 rfl rfl)
abbrev cX0_isWord : ByteArray := prog_1_method_15_code
def yX0_isWord : MethodName := ⟨RX0, "isWord", "(I)Z"⟩
def dkwX0_isWord_0 : List UInt8 := [26, 133, 9, 20, 0, 154, 184, 0, 148, 172]
abbrev dktX0_isWord_0 : List UInt8 := dkwX0_isWord_0 ++ []
theorem dksX0_isWord_0 : cX0_isWord.data.toList.drop 0 = dktX0_isWord_0 := by decide +kernel
theorem dX0_isWord_0 : decode cX0_isWord 0 = .ok (.iload_n 0, 1) := dk_26 (dk_at dksX0_isWord_0 0 rfl rfl)
theorem dX0_isWord_1 : decode cX0_isWord 1 = .ok (.i2l, 1) := dk_133 (dk_at dksX0_isWord_0 1 rfl rfl)
theorem dX0_isWord_2 : decode cX0_isWord 2 = .ok (.lconst 0, 1) := dk_9 (dk_at dksX0_isWord_0 2 rfl rfl)
theorem dX0_isWord_3 : decode cX0_isWord 3 = .ok (.ldc2_w 154, 3) := dk_20 0 154 (dk_at dksX0_isWord_0 3 rfl rfl)
theorem dX0_isWord_6 : decode cX0_isWord 6 = .ok (.invokestatic 148, 3) := dk_184 0 148 (dk_at dksX0_isWord_0 6 rfl rfl)
theorem dX0_isWord_9 : decode cX0_isWord 9 = .ok (.ireturn, 1) := dk_172 (dk_at dksX0_isWord_0 9 rfl rfl)
abbrev cX0_has : ByteArray := prog_1_method_2_code
def yX0_has : MethodName := ⟨RX0, "has", "(II)Z"⟩
def dkwX0_has_0 : List UInt8 := [26, 27, 122, 4, 126, 4, 160, 0, 7, 4, 167, 0, 4, 3, 172]
abbrev dktX0_has_0 : List UInt8 := dkwX0_has_0 ++ []
theorem dksX0_has_0 : cX0_has.data.toList.drop 0 = dktX0_has_0 := by decide +kernel
theorem dX0_has_0 : decode cX0_has 0 = .ok (.iload_n 0, 1) := dk_26 (dk_at dksX0_has_0 0 rfl rfl)
theorem dX0_has_1 : decode cX0_has 1 = .ok (.iload_n 1, 1) := dk_27 (dk_at dksX0_has_0 1 rfl rfl)
theorem dX0_has_2 : decode cX0_has 2 = .ok (.ishr, 1) := dk_122 (dk_at dksX0_has_0 2 rfl rfl)
theorem dX0_has_3 : decode cX0_has 3 = .ok (.iconst 1, 1) := dk_4 (dk_at dksX0_has_0 3 rfl rfl)
theorem dX0_has_4 : decode cX0_has 4 = .ok (.iand, 1) := dk_126 (dk_at dksX0_has_0 4 rfl rfl)
theorem dX0_has_5 : decode cX0_has 5 = .ok (.iconst 1, 1) := dk_4 (dk_at dksX0_has_0 5 rfl rfl)
theorem dX0_has_6 : decode cX0_has 6 = .ok (.if_icmp .ne 7, 3) := dk_160 0 7 (dk_at dksX0_has_0 6 rfl rfl)
theorem dX0_has_9 : decode cX0_has 9 = .ok (.iconst 1, 1) := dk_4 (dk_at dksX0_has_0 9 rfl rfl)
theorem dX0_has_10 : decode cX0_has 10 = .ok (.goto 4, 3) := dk_167 0 4 (dk_at dksX0_has_0 10 rfl rfl)
theorem dX0_has_13 : decode cX0_has 13 = .ok (.iconst 0, 1) := dk_3 (dk_at dksX0_has_0 13 rfl rfl)
theorem dX0_has_14 : decode cX0_has 14 = .ok (.ireturn, 1) := dk_172 (dk_at dksX0_has_0 14 rfl rfl)
abbrev cX0_as : ByteArray := prog_1_method_24_code
def yX0_as : MethodName := ⟨RX0, "as", "(II)I"⟩
def dkwX0_as_1 : List UInt8 := [16, 253, 172, 42, 180, 0, 21, 27, 50, 28, 184, 0, 227, 182, 0, 231, 172, 78, 16, 252, 172]
abbrev dktX0_as_1 : List UInt8 := dkwX0_as_1 ++ []
def dkwX0_as_0 : List UInt8 := [42, 27, 182, 0, 194, 154, 0, 6, 16, 254, 172, 28, 133, 9, 20, 0, 225, 184, 0, 148, 154, 0, 6]
abbrev dktX0_as_0 : List UInt8 := dkwX0_as_0 ++ dktX0_as_1
theorem dksX0_as_0 : cX0_as.data.toList.drop 0 = dktX0_as_0 := by decide +kernel
theorem dksX0_as_1 : cX0_as.data.toList.drop 23 = dktX0_as_1 := dk_seg dksX0_as_0 23 rfl rfl
theorem dX0_as_0 : decode cX0_as 0 = .ok (.aload_n 0, 1) := dk_42 (dk_at dksX0_as_0 0 rfl rfl)
theorem dX0_as_1 : decode cX0_as 1 = .ok (.iload_n 1, 1) := dk_27 (dk_at dksX0_as_0 1 rfl rfl)
theorem dX0_as_2 : decode cX0_as 2 = .ok (.invokevirtual 194, 3) := dk_182 0 194 (dk_at dksX0_as_0 2 rfl rfl)
theorem dX0_as_5 : decode cX0_as 5 = .ok (.ifCond .ne 6, 3) := dk_154 0 6 (dk_at dksX0_as_0 5 rfl rfl)
theorem dX0_as_8 : decode cX0_as 8 = .ok (.bipush (-2), 2) := dk_16 254 (dk_at dksX0_as_0 8 rfl rfl)
theorem dX0_as_10 : decode cX0_as 10 = .ok (.ireturn, 1) := dk_172 (dk_at dksX0_as_0 10 rfl rfl)
theorem dX0_as_11 : decode cX0_as 11 = .ok (.iload_n 2, 1) := dk_28 (dk_at dksX0_as_0 11 rfl rfl)
theorem dX0_as_12 : decode cX0_as 12 = .ok (.i2l, 1) := dk_133 (dk_at dksX0_as_0 12 rfl rfl)
theorem dX0_as_13 : decode cX0_as 13 = .ok (.lconst 0, 1) := dk_9 (dk_at dksX0_as_0 13 rfl rfl)
theorem dX0_as_14 : decode cX0_as 14 = .ok (.ldc2_w 225, 3) := dk_20 0 225 (dk_at dksX0_as_0 14 rfl rfl)
theorem dX0_as_17 : decode cX0_as 17 = .ok (.invokestatic 148, 3) := dk_184 0 148 (dk_at dksX0_as_0 17 rfl rfl)
theorem dX0_as_20 : decode cX0_as 20 = .ok (.ifCond .ne 6, 3) := dk_154 0 6 (dk_at dksX0_as_0 20 rfl rfl)
theorem dX0_as_23 : decode cX0_as 23 = .ok (.bipush (-3), 2) := dk_16 253 (dk_at dksX0_as_1 0 rfl rfl)
theorem dX0_as_25 : decode cX0_as 25 = .ok (.ireturn, 1) := dk_172 (dk_at dksX0_as_1 2 rfl rfl)
theorem dX0_as_26 : decode cX0_as 26 = .ok (.aload_n 0, 1) := dk_42 (dk_at dksX0_as_1 3 rfl rfl)
theorem dX0_as_27 : decode cX0_as 27 = .ok (.getfield 21, 3) := dk_180 0 21 (dk_at dksX0_as_1 4 rfl rfl)
theorem dX0_as_30 : decode cX0_as 30 = .ok (.iload_n 1, 1) := dk_27 (dk_at dksX0_as_1 7 rfl rfl)
theorem dX0_as_31 : decode cX0_as 31 = .ok (.aaload, 1) := dk_50 (dk_at dksX0_as_1 8 rfl rfl)
theorem dX0_as_32 : decode cX0_as 32 = .ok (.iload_n 2, 1) := dk_28 (dk_at dksX0_as_1 9 rfl rfl)
theorem dX0_as_33 : decode cX0_as 33 = .ok (.invokestatic 227, 3) := dk_184 0 227 (dk_at dksX0_as_1 10 rfl rfl)
theorem dX0_as_36 : decode cX0_as 36 = .ok (.invokevirtual 231, 3) := dk_182 0 231 (dk_at dksX0_as_1 13 rfl rfl)
theorem dX0_as_39 : decode cX0_as 39 = .ok (.ireturn, 1) := dk_172 (dk_at dksX0_as_1 16 rfl rfl)
theorem dX0_as_40 : decode cX0_as 40 = .ok (.astore_n 3, 1) := dk_78 (dk_at dksX0_as_1 17 rfl rfl)
theorem dX0_as_41 : decode cX0_as 41 = .ok (.bipush (-4), 2) := dk_16 252 (dk_at dksX0_as_1 18 rfl rfl)
theorem dX0_as_43 : decode cX0_as 43 = .ok (.ireturn, 1) := dk_172 (dk_at dksX0_as_1 20 rfl rfl)
abbrev cX0_castTo : ByteArray := prog_1_method_4_code
def yX0_castTo : MethodName := ⟨RX0, "castTo", "(Ljava/lang/Object;I)LParrotSpeech$Bird;"⟩
def dkwX0_castTo_3 : List UInt8 := [176, 42, 192, 0, 16, 176]
abbrev dktX0_castTo_3 : List UInt8 := dkwX0_castTo_3 ++ []
def dkwX0_castTo_2 : List UInt8 := [42, 192, 0, 19, 176, 42, 192, 0, 1, 176, 42, 192, 0, 7, 176, 42, 192, 0, 10, 176, 42, 192, 0, 13]
abbrev dktX0_castTo_2 : List UInt8 := dkwX0_castTo_2 ++ dktX0_castTo_3
def dkwX0_castTo_1 : List UInt8 := [170, 0, 0, 0, 0, 0, 60, 0, 0, 0, 0, 0, 0, 0, 4, 0, 0, 0, 35, 0, 0, 0, 40, 0, 0, 0, 45, 0, 0, 0, 50, 0, 0, 0, 55]
abbrev dktX0_castTo_1 : List UInt8 := dkwX0_castTo_1 ++ dktX0_castTo_2
def dkwX0_castTo_0 : List UInt8 := [27]
abbrev dktX0_castTo_0 : List UInt8 := dkwX0_castTo_0 ++ dktX0_castTo_1
theorem dksX0_castTo_0 : cX0_castTo.data.toList.drop 0 = dktX0_castTo_0 := by decide +kernel
theorem dksX0_castTo_1 : cX0_castTo.data.toList.drop 1 = dktX0_castTo_1 := dk_seg dksX0_castTo_0 1 rfl rfl
theorem dksX0_castTo_2 : cX0_castTo.data.toList.drop 36 = dktX0_castTo_2 := dk_seg dksX0_castTo_1 35 rfl rfl
theorem dksX0_castTo_3 : cX0_castTo.data.toList.drop 60 = dktX0_castTo_3 := dk_seg dksX0_castTo_2 24 rfl rfl
theorem dX0_castTo_0 : decode cX0_castTo 0 = .ok (.iload_n 1, 1) := dk_27 (dk_at dksX0_castTo_0 0 rfl rfl)
theorem dX0_castTo_1 : decode cX0_castTo 1 = .ok (.tableswitch 60 0 4 #[35, 40, 45, 50, 55], 35) := by decide +kernel
theorem dX0_castTo_36 : decode cX0_castTo 36 = .ok (.aload_n 0, 1) := dk_42 (dk_at dksX0_castTo_2 0 rfl rfl)
theorem dX0_castTo_37 : decode cX0_castTo 37 = .ok (.checkcast 19, 3) := dk_192 0 19 (dk_at dksX0_castTo_2 1 rfl rfl)
theorem dX0_castTo_40 : decode cX0_castTo 40 = .ok (.areturn, 1) := dk_176 (dk_at dksX0_castTo_2 4 rfl rfl)
theorem dX0_castTo_41 : decode cX0_castTo 41 = .ok (.aload_n 0, 1) := dk_42 (dk_at dksX0_castTo_2 5 rfl rfl)
theorem dX0_castTo_42 : decode cX0_castTo 42 = .ok (.checkcast 1, 3) := dk_192 0 1 (dk_at dksX0_castTo_2 6 rfl rfl)
theorem dX0_castTo_45 : decode cX0_castTo 45 = .ok (.areturn, 1) := dk_176 (dk_at dksX0_castTo_2 9 rfl rfl)
theorem dX0_castTo_46 : decode cX0_castTo 46 = .ok (.aload_n 0, 1) := dk_42 (dk_at dksX0_castTo_2 10 rfl rfl)
theorem dX0_castTo_47 : decode cX0_castTo 47 = .ok (.checkcast 7, 3) := dk_192 0 7 (dk_at dksX0_castTo_2 11 rfl rfl)
theorem dX0_castTo_50 : decode cX0_castTo 50 = .ok (.areturn, 1) := dk_176 (dk_at dksX0_castTo_2 14 rfl rfl)
theorem dX0_castTo_51 : decode cX0_castTo 51 = .ok (.aload_n 0, 1) := dk_42 (dk_at dksX0_castTo_2 15 rfl rfl)
theorem dX0_castTo_52 : decode cX0_castTo 52 = .ok (.checkcast 10, 3) := dk_192 0 10 (dk_at dksX0_castTo_2 16 rfl rfl)
theorem dX0_castTo_55 : decode cX0_castTo 55 = .ok (.areturn, 1) := dk_176 (dk_at dksX0_castTo_2 19 rfl rfl)
theorem dX0_castTo_56 : decode cX0_castTo 56 = .ok (.aload_n 0, 1) := dk_42 (dk_at dksX0_castTo_2 20 rfl rfl)
theorem dX0_castTo_57 : decode cX0_castTo 57 = .ok (.checkcast 13, 3) := dk_192 0 13 (dk_at dksX0_castTo_2 21 rfl rfl)
theorem dX0_castTo_60 : decode cX0_castTo 60 = .ok (.areturn, 1) := dk_176 (dk_at dksX0_castTo_3 0 rfl rfl)
theorem dX0_castTo_61 : decode cX0_castTo 61 = .ok (.aload_n 0, 1) := dk_42 (dk_at dksX0_castTo_3 1 rfl rfl)
theorem dX0_castTo_62 : decode cX0_castTo 62 = .ok (.checkcast 16, 3) := dk_192 0 16 (dk_at dksX0_castTo_3 2 rfl rfl)
theorem dX0_castTo_65 : decode cX0_castTo 65 = .ok (.areturn, 1) := dk_176 (dk_at dksX0_castTo_3 5 rfl rfl)
abbrev cX0_evening : ByteArray := prog_1_method_25_code
def yX0_evening : MethodName := ⟨RX0, "evening", "(I)I"⟩
def dkwX0_evening_2 : List UInt8 := [172]
abbrev dktX0_evening_2 : List UInt8 := dkwX0_evening_2 ++ []
def dkwX0_evening_1 : List UInt8 := [17, 3, 231, 164, 0, 6, 16, 251, 172, 42, 182, 0, 241, 42, 180, 0, 27, 27, 182, 0, 221, 180, 0, 238]
abbrev dktX0_evening_1 : List UInt8 := dkwX0_evening_1 ++ dktX0_evening_2
def dkwX0_evening_0 : List UInt8 := [27, 133, 10, 20, 0, 236, 184, 0, 148, 154, 0, 6, 16, 253, 172, 42, 180, 0, 27, 180, 0, 238, 27, 96]
abbrev dktX0_evening_0 : List UInt8 := dkwX0_evening_0 ++ dktX0_evening_1
theorem dksX0_evening_0 : cX0_evening.data.toList.drop 0 = dktX0_evening_0 := by decide +kernel
theorem dksX0_evening_1 : cX0_evening.data.toList.drop 24 = dktX0_evening_1 := dk_seg dksX0_evening_0 24 rfl rfl
theorem dksX0_evening_2 : cX0_evening.data.toList.drop 48 = dktX0_evening_2 := dk_seg dksX0_evening_1 24 rfl rfl
theorem dX0_evening_0 : decode cX0_evening 0 = .ok (.iload_n 1, 1) := dk_27 (dk_at dksX0_evening_0 0 rfl rfl)
theorem dX0_evening_1 : decode cX0_evening 1 = .ok (.i2l, 1) := dk_133 (dk_at dksX0_evening_0 1 rfl rfl)
theorem dX0_evening_2 : decode cX0_evening 2 = .ok (.lconst 1, 1) := dk_10 (dk_at dksX0_evening_0 2 rfl rfl)
theorem dX0_evening_3 : decode cX0_evening 3 = .ok (.ldc2_w 236, 3) := dk_20 0 236 (dk_at dksX0_evening_0 3 rfl rfl)
theorem dX0_evening_6 : decode cX0_evening 6 = .ok (.invokestatic 148, 3) := dk_184 0 148 (dk_at dksX0_evening_0 6 rfl rfl)
theorem dX0_evening_9 : decode cX0_evening 9 = .ok (.ifCond .ne 6, 3) := dk_154 0 6 (dk_at dksX0_evening_0 9 rfl rfl)
theorem dX0_evening_12 : decode cX0_evening 12 = .ok (.bipush (-3), 2) := dk_16 253 (dk_at dksX0_evening_0 12 rfl rfl)
theorem dX0_evening_14 : decode cX0_evening 14 = .ok (.ireturn, 1) := dk_172 (dk_at dksX0_evening_0 14 rfl rfl)
theorem dX0_evening_15 : decode cX0_evening 15 = .ok (.aload_n 0, 1) := dk_42 (dk_at dksX0_evening_0 15 rfl rfl)
theorem dX0_evening_16 : decode cX0_evening 16 = .ok (.getfield 27, 3) := dk_180 0 27 (dk_at dksX0_evening_0 16 rfl rfl)
theorem dX0_evening_19 : decode cX0_evening 19 = .ok (.getfield 238, 3) := dk_180 0 238 (dk_at dksX0_evening_0 19 rfl rfl)
theorem dX0_evening_22 : decode cX0_evening 22 = .ok (.iload_n 1, 1) := dk_27 (dk_at dksX0_evening_0 22 rfl rfl)
theorem dX0_evening_23 : decode cX0_evening 23 = .ok (.iadd, 1) := dk_96 (dk_at dksX0_evening_0 23 rfl rfl)
theorem dX0_evening_24 : decode cX0_evening 24 = .ok (.sipush 999, 3) := dk_17 3 231 (dk_at dksX0_evening_1 0 rfl rfl)
theorem dX0_evening_27 : decode cX0_evening 27 = .ok (.if_icmp .le 6, 3) := dk_164 0 6 (dk_at dksX0_evening_1 3 rfl rfl)
theorem dX0_evening_30 : decode cX0_evening 30 = .ok (.bipush (-5), 2) := dk_16 251 (dk_at dksX0_evening_1 6 rfl rfl)
theorem dX0_evening_32 : decode cX0_evening 32 = .ok (.ireturn, 1) := dk_172 (dk_at dksX0_evening_1 8 rfl rfl)
theorem dX0_evening_33 : decode cX0_evening 33 = .ok (.aload_n 0, 1) := dk_42 (dk_at dksX0_evening_1 9 rfl rfl)
theorem dX0_evening_34 : decode cX0_evening 34 = .ok (.invokevirtual 241, 3) := dk_182 0 241 (dk_at dksX0_evening_1 10 rfl rfl)
theorem dX0_evening_37 : decode cX0_evening 37 = .ok (.aload_n 0, 1) := dk_42 (dk_at dksX0_evening_1 13 rfl rfl)
theorem dX0_evening_38 : decode cX0_evening 38 = .ok (.getfield 27, 3) := dk_180 0 27 (dk_at dksX0_evening_1 14 rfl rfl)
theorem dX0_evening_41 : decode cX0_evening 41 = .ok (.iload_n 1, 1) := dk_27 (dk_at dksX0_evening_1 17 rfl rfl)
theorem dX0_evening_42 : decode cX0_evening 42 = .ok (.invokevirtual 221, 3) := dk_182 0 221 (dk_at dksX0_evening_1 18 rfl rfl)
theorem dX0_evening_45 : decode cX0_evening 45 = .ok (.getfield 238, 3) := dk_180 0 238 (dk_at dksX0_evening_1 21 rfl rfl)
theorem dX0_evening_48 : decode cX0_evening 48 = .ok (.ireturn, 1) := dk_172 (dk_at dksX0_evening_2 0 rfl rfl)
abbrev cX0_note : ByteArray := prog_1_method_7_code
def yX0_note : MethodName := ⟨RX0, "note", "()V"⟩
def dkwX0_note_4 : List UInt8 := [50, 42, 180, 0, 27, 182, 0, 34, 87, 177]
abbrev dktX0_note_4 : List UInt8 := dkwX0_note_4 ++ []
def dkwX0_note_3 : List UInt8 := [187, 0, 35, 89, 42, 183, 0, 66, 83, 42, 180, 0, 57, 42, 89, 180, 0, 40, 90, 4, 96, 181, 0, 40]
abbrev dktX0_note_3 : List UInt8 := dkwX0_note_3 ++ dktX0_note_4
def dkwX0_note_2 : List UInt8 := [181, 0, 40, 42, 180, 0, 57, 42, 180, 0, 40, 50, 199, 0, 20, 42, 180, 0, 57, 42, 180, 0, 40]
abbrev dktX0_note_2 : List UInt8 := dkwX0_note_2 ++ dktX0_note_3
def dkwX0_note_1 : List UInt8 := [180, 0, 57, 3, 16, 7, 184, 0, 60, 42, 180, 0, 57, 16, 7, 43, 83, 42, 89, 180, 0, 40, 4, 100]
abbrev dktX0_note_1 : List UInt8 := dkwX0_note_1 ++ dktX0_note_2
def dkwX0_note_0 : List UInt8 := [42, 180, 0, 40, 16, 8, 160, 0, 43, 42, 180, 0, 57, 3, 50, 76, 42, 180, 0, 57, 4, 42]
abbrev dktX0_note_0 : List UInt8 := dkwX0_note_0 ++ dktX0_note_1
theorem dksX0_note_0 : cX0_note.data.toList.drop 0 = dktX0_note_0 := by decide +kernel
theorem dksX0_note_1 : cX0_note.data.toList.drop 22 = dktX0_note_1 := dk_seg dksX0_note_0 22 rfl rfl
theorem dksX0_note_2 : cX0_note.data.toList.drop 46 = dktX0_note_2 := dk_seg dksX0_note_1 24 rfl rfl
theorem dksX0_note_3 : cX0_note.data.toList.drop 69 = dktX0_note_3 := dk_seg dksX0_note_2 23 rfl rfl
theorem dksX0_note_4 : cX0_note.data.toList.drop 93 = dktX0_note_4 := dk_seg dksX0_note_3 24 rfl rfl
theorem dX0_note_0 : decode cX0_note 0 = .ok (.aload_n 0, 1) := dk_42 (dk_at dksX0_note_0 0 rfl rfl)
theorem dX0_note_1 : decode cX0_note 1 = .ok (.getfield 40, 3) := dk_180 0 40 (dk_at dksX0_note_0 1 rfl rfl)
theorem dX0_note_4 : decode cX0_note 4 = .ok (.bipush 8, 2) := dk_16 8 (dk_at dksX0_note_0 4 rfl rfl)
theorem dX0_note_6 : decode cX0_note 6 = .ok (.if_icmp .ne 43, 3) := dk_160 0 43 (dk_at dksX0_note_0 6 rfl rfl)
theorem dX0_note_9 : decode cX0_note 9 = .ok (.aload_n 0, 1) := dk_42 (dk_at dksX0_note_0 9 rfl rfl)
theorem dX0_note_10 : decode cX0_note 10 = .ok (.getfield 57, 3) := dk_180 0 57 (dk_at dksX0_note_0 10 rfl rfl)
theorem dX0_note_13 : decode cX0_note 13 = .ok (.iconst 0, 1) := dk_3 (dk_at dksX0_note_0 13 rfl rfl)
theorem dX0_note_14 : decode cX0_note 14 = .ok (.aaload, 1) := dk_50 (dk_at dksX0_note_0 14 rfl rfl)
theorem dX0_note_15 : decode cX0_note 15 = .ok (.astore_n 1, 1) := dk_76 (dk_at dksX0_note_0 15 rfl rfl)
theorem dX0_note_16 : decode cX0_note 16 = .ok (.aload_n 0, 1) := dk_42 (dk_at dksX0_note_0 16 rfl rfl)
theorem dX0_note_17 : decode cX0_note 17 = .ok (.getfield 57, 3) := dk_180 0 57 (dk_at dksX0_note_0 17 rfl rfl)
theorem dX0_note_20 : decode cX0_note 20 = .ok (.iconst 1, 1) := dk_4 (dk_at dksX0_note_0 20 rfl rfl)
theorem dX0_note_21 : decode cX0_note 21 = .ok (.aload_n 0, 1) := dk_42 (dk_at dksX0_note_0 21 rfl rfl)
theorem dX0_note_22 : decode cX0_note 22 = .ok (.getfield 57, 3) := dk_180 0 57 (dk_at dksX0_note_1 0 rfl rfl)
theorem dX0_note_25 : decode cX0_note 25 = .ok (.iconst 0, 1) := dk_3 (dk_at dksX0_note_1 3 rfl rfl)
theorem dX0_note_26 : decode cX0_note 26 = .ok (.bipush 7, 2) := dk_16 7 (dk_at dksX0_note_1 4 rfl rfl)
theorem dX0_note_28 : decode cX0_note 28 = .ok (.invokestatic 60, 3) := dk_184 0 60 (dk_at dksX0_note_1 6 rfl rfl)
theorem dX0_note_31 : decode cX0_note 31 = .ok (.aload_n 0, 1) := dk_42 (dk_at dksX0_note_1 9 rfl rfl)
theorem dX0_note_32 : decode cX0_note 32 = .ok (.getfield 57, 3) := dk_180 0 57 (dk_at dksX0_note_1 10 rfl rfl)
theorem dX0_note_35 : decode cX0_note 35 = .ok (.bipush 7, 2) := dk_16 7 (dk_at dksX0_note_1 13 rfl rfl)
theorem dX0_note_37 : decode cX0_note 37 = .ok (.aload_n 1, 1) := dk_43 (dk_at dksX0_note_1 15 rfl rfl)
theorem dX0_note_38 : decode cX0_note 38 = .ok (.aastore, 1) := dk_83 (dk_at dksX0_note_1 16 rfl rfl)
theorem dX0_note_39 : decode cX0_note 39 = .ok (.aload_n 0, 1) := dk_42 (dk_at dksX0_note_1 17 rfl rfl)
theorem dX0_note_40 : decode cX0_note 40 = .ok (.dup, 1) := dk_89 (dk_at dksX0_note_1 18 rfl rfl)
theorem dX0_note_41 : decode cX0_note 41 = .ok (.getfield 40, 3) := dk_180 0 40 (dk_at dksX0_note_1 19 rfl rfl)
theorem dX0_note_44 : decode cX0_note 44 = .ok (.iconst 1, 1) := dk_4 (dk_at dksX0_note_1 22 rfl rfl)
theorem dX0_note_45 : decode cX0_note 45 = .ok (.isub, 1) := dk_100 (dk_at dksX0_note_1 23 rfl rfl)
theorem dX0_note_46 : decode cX0_note 46 = .ok (.putfield 40, 3) := dk_181 0 40 (dk_at dksX0_note_2 0 rfl rfl)
theorem dX0_note_49 : decode cX0_note 49 = .ok (.aload_n 0, 1) := dk_42 (dk_at dksX0_note_2 3 rfl rfl)
theorem dX0_note_50 : decode cX0_note 50 = .ok (.getfield 57, 3) := dk_180 0 57 (dk_at dksX0_note_2 4 rfl rfl)
theorem dX0_note_53 : decode cX0_note 53 = .ok (.aload_n 0, 1) := dk_42 (dk_at dksX0_note_2 7 rfl rfl)
theorem dX0_note_54 : decode cX0_note 54 = .ok (.getfield 40, 3) := dk_180 0 40 (dk_at dksX0_note_2 8 rfl rfl)
theorem dX0_note_57 : decode cX0_note 57 = .ok (.aaload, 1) := dk_50 (dk_at dksX0_note_2 11 rfl rfl)
theorem dX0_note_58 : decode cX0_note 58 = .ok (.ifnonnull 20, 3) := dk_199 0 20 (dk_at dksX0_note_2 12 rfl rfl)
theorem dX0_note_61 : decode cX0_note 61 = .ok (.aload_n 0, 1) := dk_42 (dk_at dksX0_note_2 15 rfl rfl)
theorem dX0_note_62 : decode cX0_note 62 = .ok (.getfield 57, 3) := dk_180 0 57 (dk_at dksX0_note_2 16 rfl rfl)
theorem dX0_note_65 : decode cX0_note 65 = .ok (.aload_n 0, 1) := dk_42 (dk_at dksX0_note_2 19 rfl rfl)
theorem dX0_note_66 : decode cX0_note 66 = .ok (.getfield 40, 3) := dk_180 0 40 (dk_at dksX0_note_2 20 rfl rfl)
theorem dX0_note_69 : decode cX0_note 69 = .ok (.new 35, 3) := dk_187 0 35 (dk_at dksX0_note_3 0 rfl rfl)
theorem dX0_note_72 : decode cX0_note 72 = .ok (.dup, 1) := dk_89 (dk_at dksX0_note_3 3 rfl rfl)
theorem dX0_note_73 : decode cX0_note 73 = .ok (.aload_n 0, 1) := dk_42 (dk_at dksX0_note_3 4 rfl rfl)
theorem dX0_note_74 : decode cX0_note 74 = .ok (.invokespecial 66, 3) := dk_183 0 66 (dk_at dksX0_note_3 5 rfl rfl)
theorem dX0_note_77 : decode cX0_note 77 = .ok (.aastore, 1) := dk_83 (dk_at dksX0_note_3 8 rfl rfl)
theorem dX0_note_78 : decode cX0_note 78 = .ok (.aload_n 0, 1) := dk_42 (dk_at dksX0_note_3 9 rfl rfl)
theorem dX0_note_79 : decode cX0_note 79 = .ok (.getfield 57, 3) := dk_180 0 57 (dk_at dksX0_note_3 10 rfl rfl)
theorem dX0_note_82 : decode cX0_note 82 = .ok (.aload_n 0, 1) := dk_42 (dk_at dksX0_note_3 13 rfl rfl)
theorem dX0_note_83 : decode cX0_note 83 = .ok (.dup, 1) := dk_89 (dk_at dksX0_note_3 14 rfl rfl)
theorem dX0_note_84 : decode cX0_note 84 = .ok (.getfield 40, 3) := dk_180 0 40 (dk_at dksX0_note_3 15 rfl rfl)
theorem dX0_note_87 : decode cX0_note 87 = .ok (.dup_x1, 1) := dk_90 (dk_at dksX0_note_3 18 rfl rfl)
theorem dX0_note_88 : decode cX0_note 88 = .ok (.iconst 1, 1) := dk_4 (dk_at dksX0_note_3 19 rfl rfl)
theorem dX0_note_89 : decode cX0_note 89 = .ok (.iadd, 1) := dk_96 (dk_at dksX0_note_3 20 rfl rfl)
theorem dX0_note_90 : decode cX0_note 90 = .ok (.putfield 40, 3) := dk_181 0 40 (dk_at dksX0_note_3 21 rfl rfl)
theorem dX0_note_93 : decode cX0_note 93 = .ok (.aaload, 1) := dk_50 (dk_at dksX0_note_4 0 rfl rfl)
theorem dX0_note_94 : decode cX0_note 94 = .ok (.aload_n 0, 1) := dk_42 (dk_at dksX0_note_4 1 rfl rfl)
theorem dX0_note_95 : decode cX0_note 95 = .ok (.getfield 27, 3) := dk_180 0 27 (dk_at dksX0_note_4 2 rfl rfl)
theorem dX0_note_98 : decode cX0_note 98 = .ok (.invokevirtual 34, 3) := dk_182 0 34 (dk_at dksX0_note_4 5 rfl rfl)
theorem dX0_note_101 : decode cX0_note 101 = .ok (.pop, 1) := dk_87 (dk_at dksX0_note_4 8 rfl rfl)
theorem dX0_note_102 : decode cX0_note 102 = .ok (.return_, 1) := dk_177 (dk_at dksX0_note_4 9 rfl rfl)
abbrev cX0_teach : ByteArray := prog_1_method_26_code
def yX0_teach : MethodName := ⟨RX0, "teach", "(II)I"⟩
def dkwX0_teach_1 : List UInt8 := [180, 0, 27, 27, 28, 6, 182, 0, 244, 42, 180, 0, 27, 180, 0, 92, 27, 50, 28, 51, 172]
abbrev dktX0_teach_1 : List UInt8 := dkwX0_teach_1 ++ []
def dkwX0_teach_0 : List UInt8 := [42, 27, 182, 0, 194, 153, 0, 10, 28, 184, 0, 216, 154, 0, 6, 16, 254, 172, 42, 182, 0, 241, 42]
abbrev dktX0_teach_0 : List UInt8 := dkwX0_teach_0 ++ dktX0_teach_1
theorem dksX0_teach_0 : cX0_teach.data.toList.drop 0 = dktX0_teach_0 := by decide +kernel
theorem dksX0_teach_1 : cX0_teach.data.toList.drop 23 = dktX0_teach_1 := dk_seg dksX0_teach_0 23 rfl rfl
theorem dX0_teach_0 : decode cX0_teach 0 = .ok (.aload_n 0, 1) := dk_42 (dk_at dksX0_teach_0 0 rfl rfl)
theorem dX0_teach_1 : decode cX0_teach 1 = .ok (.iload_n 1, 1) := dk_27 (dk_at dksX0_teach_0 1 rfl rfl)
theorem dX0_teach_2 : decode cX0_teach 2 = .ok (.invokevirtual 194, 3) := dk_182 0 194 (dk_at dksX0_teach_0 2 rfl rfl)
theorem dX0_teach_5 : decode cX0_teach 5 = .ok (.ifCond .eq 10, 3) := dk_153 0 10 (dk_at dksX0_teach_0 5 rfl rfl)
theorem dX0_teach_8 : decode cX0_teach 8 = .ok (.iload_n 2, 1) := dk_28 (dk_at dksX0_teach_0 8 rfl rfl)
theorem dX0_teach_9 : decode cX0_teach 9 = .ok (.invokestatic 216, 3) := dk_184 0 216 (dk_at dksX0_teach_0 9 rfl rfl)
theorem dX0_teach_12 : decode cX0_teach 12 = .ok (.ifCond .ne 6, 3) := dk_154 0 6 (dk_at dksX0_teach_0 12 rfl rfl)
theorem dX0_teach_15 : decode cX0_teach 15 = .ok (.bipush (-2), 2) := dk_16 254 (dk_at dksX0_teach_0 15 rfl rfl)
theorem dX0_teach_17 : decode cX0_teach 17 = .ok (.ireturn, 1) := dk_172 (dk_at dksX0_teach_0 17 rfl rfl)
theorem dX0_teach_18 : decode cX0_teach 18 = .ok (.aload_n 0, 1) := dk_42 (dk_at dksX0_teach_0 18 rfl rfl)
theorem dX0_teach_19 : decode cX0_teach 19 = .ok (.invokevirtual 241, 3) := dk_182 0 241 (dk_at dksX0_teach_0 19 rfl rfl)
theorem dX0_teach_22 : decode cX0_teach 22 = .ok (.aload_n 0, 1) := dk_42 (dk_at dksX0_teach_0 22 rfl rfl)
theorem dX0_teach_23 : decode cX0_teach 23 = .ok (.getfield 27, 3) := dk_180 0 27 (dk_at dksX0_teach_1 0 rfl rfl)
theorem dX0_teach_26 : decode cX0_teach 26 = .ok (.iload_n 1, 1) := dk_27 (dk_at dksX0_teach_1 3 rfl rfl)
theorem dX0_teach_27 : decode cX0_teach 27 = .ok (.iload_n 2, 1) := dk_28 (dk_at dksX0_teach_1 4 rfl rfl)
theorem dX0_teach_28 : decode cX0_teach 28 = .ok (.iconst 3, 1) := dk_6 (dk_at dksX0_teach_1 5 rfl rfl)
theorem dX0_teach_29 : decode cX0_teach 29 = .ok (.invokevirtual 244, 3) := dk_182 0 244 (dk_at dksX0_teach_1 6 rfl rfl)
theorem dX0_teach_32 : decode cX0_teach 32 = .ok (.aload_n 0, 1) := dk_42 (dk_at dksX0_teach_1 9 rfl rfl)
theorem dX0_teach_33 : decode cX0_teach 33 = .ok (.getfield 27, 3) := dk_180 0 27 (dk_at dksX0_teach_1 10 rfl rfl)
theorem dX0_teach_36 : decode cX0_teach 36 = .ok (.getfield 92, 3) := dk_180 0 92 (dk_at dksX0_teach_1 13 rfl rfl)
theorem dX0_teach_39 : decode cX0_teach 39 = .ok (.iload_n 1, 1) := dk_27 (dk_at dksX0_teach_1 16 rfl rfl)
theorem dX0_teach_40 : decode cX0_teach 40 = .ok (.aaload, 1) := dk_50 (dk_at dksX0_teach_1 17 rfl rfl)
theorem dX0_teach_41 : decode cX0_teach 41 = .ok (.iload_n 2, 1) := dk_28 (dk_at dksX0_teach_1 18 rfl rfl)
theorem dX0_teach_42 : decode cX0_teach 42 = .ok (.baload, 1) := dk_51 (dk_at dksX0_teach_1 19 rfl rfl)
theorem dX0_teach_43 : decode cX0_teach 43 = .ok (.ireturn, 1) := dk_172 (dk_at dksX0_teach_1 20 rfl rfl)
abbrev cX0_moult : ByteArray := prog_1_method_27_code
def yX0_moult : MethodName := ⟨RX0, "moult", "(I)I"⟩
def dkwX0_moult_2 : List UInt8 := [180, 0, 92, 27, 50, 29, 51, 96, 61, 132, 3, 1, 167, 255, 217, 28, 172]
abbrev dktX0_moult_2 : List UInt8 := dkwX0_moult_2 ++ []
def dkwX0_moult_1 : List UInt8 := [162, 0, 39, 42, 180, 0, 27, 180, 0, 92, 27, 50, 29, 92, 51, 5, 108, 145, 84, 28, 42, 180, 0, 27]
abbrev dktX0_moult_1 : List UInt8 := dkwX0_moult_1 ++ dktX0_moult_2
def dkwX0_moult_0 : List UInt8 := [42, 27, 182, 0, 194, 154, 0, 6, 16, 254, 172, 42, 182, 0, 241, 3, 61, 3, 62, 29, 16, 10]
abbrev dktX0_moult_0 : List UInt8 := dkwX0_moult_0 ++ dktX0_moult_1
theorem dksX0_moult_0 : cX0_moult.data.toList.drop 0 = dktX0_moult_0 := by decide +kernel
theorem dksX0_moult_1 : cX0_moult.data.toList.drop 22 = dktX0_moult_1 := dk_seg dksX0_moult_0 22 rfl rfl
theorem dksX0_moult_2 : cX0_moult.data.toList.drop 46 = dktX0_moult_2 := dk_seg dksX0_moult_1 24 rfl rfl
theorem dX0_moult_0 : decode cX0_moult 0 = .ok (.aload_n 0, 1) := dk_42 (dk_at dksX0_moult_0 0 rfl rfl)
theorem dX0_moult_1 : decode cX0_moult 1 = .ok (.iload_n 1, 1) := dk_27 (dk_at dksX0_moult_0 1 rfl rfl)
theorem dX0_moult_2 : decode cX0_moult 2 = .ok (.invokevirtual 194, 3) := dk_182 0 194 (dk_at dksX0_moult_0 2 rfl rfl)
theorem dX0_moult_5 : decode cX0_moult 5 = .ok (.ifCond .ne 6, 3) := dk_154 0 6 (dk_at dksX0_moult_0 5 rfl rfl)
theorem dX0_moult_8 : decode cX0_moult 8 = .ok (.bipush (-2), 2) := dk_16 254 (dk_at dksX0_moult_0 8 rfl rfl)
theorem dX0_moult_10 : decode cX0_moult 10 = .ok (.ireturn, 1) := dk_172 (dk_at dksX0_moult_0 10 rfl rfl)
theorem dX0_moult_11 : decode cX0_moult 11 = .ok (.aload_n 0, 1) := dk_42 (dk_at dksX0_moult_0 11 rfl rfl)
theorem dX0_moult_12 : decode cX0_moult 12 = .ok (.invokevirtual 241, 3) := dk_182 0 241 (dk_at dksX0_moult_0 12 rfl rfl)
theorem dX0_moult_15 : decode cX0_moult 15 = .ok (.iconst 0, 1) := dk_3 (dk_at dksX0_moult_0 15 rfl rfl)
theorem dX0_moult_16 : decode cX0_moult 16 = .ok (.istore_n 2, 1) := dk_61 (dk_at dksX0_moult_0 16 rfl rfl)
theorem dX0_moult_17 : decode cX0_moult 17 = .ok (.iconst 0, 1) := dk_3 (dk_at dksX0_moult_0 17 rfl rfl)
theorem dX0_moult_18 : decode cX0_moult 18 = .ok (.istore_n 3, 1) := dk_62 (dk_at dksX0_moult_0 18 rfl rfl)
theorem dX0_moult_19 : decode cX0_moult 19 = .ok (.iload_n 3, 1) := dk_29 (dk_at dksX0_moult_0 19 rfl rfl)
theorem dX0_moult_20 : decode cX0_moult 20 = .ok (.bipush 10, 2) := dk_16 10 (dk_at dksX0_moult_0 20 rfl rfl)
theorem dX0_moult_22 : decode cX0_moult 22 = .ok (.if_icmp .ge 39, 3) := dk_162 0 39 (dk_at dksX0_moult_1 0 rfl rfl)
theorem dX0_moult_25 : decode cX0_moult 25 = .ok (.aload_n 0, 1) := dk_42 (dk_at dksX0_moult_1 3 rfl rfl)
theorem dX0_moult_26 : decode cX0_moult 26 = .ok (.getfield 27, 3) := dk_180 0 27 (dk_at dksX0_moult_1 4 rfl rfl)
theorem dX0_moult_29 : decode cX0_moult 29 = .ok (.getfield 92, 3) := dk_180 0 92 (dk_at dksX0_moult_1 7 rfl rfl)
theorem dX0_moult_32 : decode cX0_moult 32 = .ok (.iload_n 1, 1) := dk_27 (dk_at dksX0_moult_1 10 rfl rfl)
theorem dX0_moult_33 : decode cX0_moult 33 = .ok (.aaload, 1) := dk_50 (dk_at dksX0_moult_1 11 rfl rfl)
theorem dX0_moult_34 : decode cX0_moult 34 = .ok (.iload_n 3, 1) := dk_29 (dk_at dksX0_moult_1 12 rfl rfl)
theorem dX0_moult_35 : decode cX0_moult 35 = .ok (.dup2, 1) := dk_92 (dk_at dksX0_moult_1 13 rfl rfl)
theorem dX0_moult_36 : decode cX0_moult 36 = .ok (.baload, 1) := dk_51 (dk_at dksX0_moult_1 14 rfl rfl)
theorem dX0_moult_37 : decode cX0_moult 37 = .ok (.iconst 2, 1) := dk_5 (dk_at dksX0_moult_1 15 rfl rfl)
theorem dX0_moult_38 : decode cX0_moult 38 = .ok (.idiv, 1) := dk_108 (dk_at dksX0_moult_1 16 rfl rfl)
theorem dX0_moult_39 : decode cX0_moult 39 = .ok (.i2b, 1) := dk_145 (dk_at dksX0_moult_1 17 rfl rfl)
theorem dX0_moult_40 : decode cX0_moult 40 = .ok (.bastore, 1) := dk_84 (dk_at dksX0_moult_1 18 rfl rfl)
theorem dX0_moult_41 : decode cX0_moult 41 = .ok (.iload_n 2, 1) := dk_28 (dk_at dksX0_moult_1 19 rfl rfl)
theorem dX0_moult_42 : decode cX0_moult 42 = .ok (.aload_n 0, 1) := dk_42 (dk_at dksX0_moult_1 20 rfl rfl)
theorem dX0_moult_43 : decode cX0_moult 43 = .ok (.getfield 27, 3) := dk_180 0 27 (dk_at dksX0_moult_1 21 rfl rfl)
theorem dX0_moult_46 : decode cX0_moult 46 = .ok (.getfield 92, 3) := dk_180 0 92 (dk_at dksX0_moult_2 0 rfl rfl)
theorem dX0_moult_49 : decode cX0_moult 49 = .ok (.iload_n 1, 1) := dk_27 (dk_at dksX0_moult_2 3 rfl rfl)
theorem dX0_moult_50 : decode cX0_moult 50 = .ok (.aaload, 1) := dk_50 (dk_at dksX0_moult_2 4 rfl rfl)
theorem dX0_moult_51 : decode cX0_moult 51 = .ok (.iload_n 3, 1) := dk_29 (dk_at dksX0_moult_2 5 rfl rfl)
theorem dX0_moult_52 : decode cX0_moult 52 = .ok (.baload, 1) := dk_51 (dk_at dksX0_moult_2 6 rfl rfl)
theorem dX0_moult_53 : decode cX0_moult 53 = .ok (.iadd, 1) := dk_96 (dk_at dksX0_moult_2 7 rfl rfl)
theorem dX0_moult_54 : decode cX0_moult 54 = .ok (.istore_n 2, 1) := dk_61 (dk_at dksX0_moult_2 8 rfl rfl)
theorem dX0_moult_55 : decode cX0_moult 55 = .ok (.iinc 3 1, 3) := dk_132 3 1 (dk_at dksX0_moult_2 9 rfl rfl)
theorem dX0_moult_58 : decode cX0_moult 58 = .ok (.goto (-39), 3) := dk_167 255 217 (dk_at dksX0_moult_2 12 rfl rfl)
theorem dX0_moult_61 : decode cX0_moult 61 = .ok (.iload_n 2, 1) := dk_28 (dk_at dksX0_moult_2 15 rfl rfl)
theorem dX0_moult_62 : decode cX0_moult 62 = .ok (.ireturn, 1) := dk_172 (dk_at dksX0_moult_2 16 rfl rfl)
abbrev cX0_perch : ByteArray := prog_1_method_28_code
def yX0_perch : MethodName := ⟨RX0, "perch", "(II)I"⟩
def dkwX0_perch_2 : List UInt8 := [180, 0, 99, 27, 28, 79, 29, 172]
abbrev dktX0_perch_2 : List UInt8 := dkwX0_perch_2 ++ []
def dkwX0_perch_1 : List UInt8 := [180, 0, 99, 27, 46, 62, 29, 28, 160, 0, 6, 16, 252, 172, 42, 182, 0, 241, 42, 180, 0, 27]
abbrev dktX0_perch_1 : List UInt8 := dkwX0_perch_1 ++ dktX0_perch_2
def dkwX0_perch_0 : List UInt8 := [42, 27, 182, 0, 194, 153, 0, 10, 28, 184, 0, 248, 154, 0, 6, 16, 254, 172, 42, 180, 0, 27]
abbrev dktX0_perch_0 : List UInt8 := dkwX0_perch_0 ++ dktX0_perch_1
theorem dksX0_perch_0 : cX0_perch.data.toList.drop 0 = dktX0_perch_0 := by decide +kernel
theorem dksX0_perch_1 : cX0_perch.data.toList.drop 22 = dktX0_perch_1 := dk_seg dksX0_perch_0 22 rfl rfl
theorem dksX0_perch_2 : cX0_perch.data.toList.drop 44 = dktX0_perch_2 := dk_seg dksX0_perch_1 22 rfl rfl
theorem dX0_perch_0 : decode cX0_perch 0 = .ok (.aload_n 0, 1) := dk_42 (dk_at dksX0_perch_0 0 rfl rfl)
theorem dX0_perch_1 : decode cX0_perch 1 = .ok (.iload_n 1, 1) := dk_27 (dk_at dksX0_perch_0 1 rfl rfl)
theorem dX0_perch_2 : decode cX0_perch 2 = .ok (.invokevirtual 194, 3) := dk_182 0 194 (dk_at dksX0_perch_0 2 rfl rfl)
theorem dX0_perch_5 : decode cX0_perch 5 = .ok (.ifCond .eq 10, 3) := dk_153 0 10 (dk_at dksX0_perch_0 5 rfl rfl)
theorem dX0_perch_8 : decode cX0_perch 8 = .ok (.iload_n 2, 1) := dk_28 (dk_at dksX0_perch_0 8 rfl rfl)
theorem dX0_perch_9 : decode cX0_perch 9 = .ok (.invokestatic 248, 3) := dk_184 0 248 (dk_at dksX0_perch_0 9 rfl rfl)
theorem dX0_perch_12 : decode cX0_perch 12 = .ok (.ifCond .ne 6, 3) := dk_154 0 6 (dk_at dksX0_perch_0 12 rfl rfl)
theorem dX0_perch_15 : decode cX0_perch 15 = .ok (.bipush (-2), 2) := dk_16 254 (dk_at dksX0_perch_0 15 rfl rfl)
theorem dX0_perch_17 : decode cX0_perch 17 = .ok (.ireturn, 1) := dk_172 (dk_at dksX0_perch_0 17 rfl rfl)
theorem dX0_perch_18 : decode cX0_perch 18 = .ok (.aload_n 0, 1) := dk_42 (dk_at dksX0_perch_0 18 rfl rfl)
theorem dX0_perch_19 : decode cX0_perch 19 = .ok (.getfield 27, 3) := dk_180 0 27 (dk_at dksX0_perch_0 19 rfl rfl)
theorem dX0_perch_22 : decode cX0_perch 22 = .ok (.getfield 99, 3) := dk_180 0 99 (dk_at dksX0_perch_1 0 rfl rfl)
theorem dX0_perch_25 : decode cX0_perch 25 = .ok (.iload_n 1, 1) := dk_27 (dk_at dksX0_perch_1 3 rfl rfl)
theorem dX0_perch_26 : decode cX0_perch 26 = .ok (.iaload, 1) := dk_46 (dk_at dksX0_perch_1 4 rfl rfl)
theorem dX0_perch_27 : decode cX0_perch 27 = .ok (.istore_n 3, 1) := dk_62 (dk_at dksX0_perch_1 5 rfl rfl)
theorem dX0_perch_28 : decode cX0_perch 28 = .ok (.iload_n 3, 1) := dk_29 (dk_at dksX0_perch_1 6 rfl rfl)
theorem dX0_perch_29 : decode cX0_perch 29 = .ok (.iload_n 2, 1) := dk_28 (dk_at dksX0_perch_1 7 rfl rfl)
theorem dX0_perch_30 : decode cX0_perch 30 = .ok (.if_icmp .ne 6, 3) := dk_160 0 6 (dk_at dksX0_perch_1 8 rfl rfl)
theorem dX0_perch_33 : decode cX0_perch 33 = .ok (.bipush (-4), 2) := dk_16 252 (dk_at dksX0_perch_1 11 rfl rfl)
theorem dX0_perch_35 : decode cX0_perch 35 = .ok (.ireturn, 1) := dk_172 (dk_at dksX0_perch_1 13 rfl rfl)
theorem dX0_perch_36 : decode cX0_perch 36 = .ok (.aload_n 0, 1) := dk_42 (dk_at dksX0_perch_1 14 rfl rfl)
theorem dX0_perch_37 : decode cX0_perch 37 = .ok (.invokevirtual 241, 3) := dk_182 0 241 (dk_at dksX0_perch_1 15 rfl rfl)
theorem dX0_perch_40 : decode cX0_perch 40 = .ok (.aload_n 0, 1) := dk_42 (dk_at dksX0_perch_1 18 rfl rfl)
theorem dX0_perch_41 : decode cX0_perch 41 = .ok (.getfield 27, 3) := dk_180 0 27 (dk_at dksX0_perch_1 19 rfl rfl)
theorem dX0_perch_44 : decode cX0_perch 44 = .ok (.getfield 99, 3) := dk_180 0 99 (dk_at dksX0_perch_2 0 rfl rfl)
theorem dX0_perch_47 : decode cX0_perch 47 = .ok (.iload_n 1, 1) := dk_27 (dk_at dksX0_perch_2 3 rfl rfl)
theorem dX0_perch_48 : decode cX0_perch 48 = .ok (.iload_n 2, 1) := dk_28 (dk_at dksX0_perch_2 4 rfl rfl)
theorem dX0_perch_49 : decode cX0_perch 49 = .ok (.iastore, 1) := dk_79 (dk_at dksX0_perch_2 5 rfl rfl)
theorem dX0_perch_50 : decode cX0_perch 50 = .ok (.iload_n 3, 1) := dk_29 (dk_at dksX0_perch_2 6 rfl rfl)
theorem dX0_perch_51 : decode cX0_perch 51 = .ok (.ireturn, 1) := dk_172 (dk_at dksX0_perch_2 7 rfl rfl)
abbrev cX0_isPerch : ByteArray := prog_1_method_14_code
def yX0_isPerch : MethodName := ⟨RX0, "isPerch", "(I)Z"⟩
def dkwX0_isPerch_0 : List UInt8 := [26, 133, 9, 20, 0, 152, 184, 0, 148, 172]
abbrev dktX0_isPerch_0 : List UInt8 := dkwX0_isPerch_0 ++ []
theorem dksX0_isPerch_0 : cX0_isPerch.data.toList.drop 0 = dktX0_isPerch_0 := by decide +kernel
theorem dX0_isPerch_0 : decode cX0_isPerch 0 = .ok (.iload_n 0, 1) := dk_26 (dk_at dksX0_isPerch_0 0 rfl rfl)
theorem dX0_isPerch_1 : decode cX0_isPerch 1 = .ok (.i2l, 1) := dk_133 (dk_at dksX0_isPerch_0 1 rfl rfl)
theorem dX0_isPerch_2 : decode cX0_isPerch 2 = .ok (.lconst 0, 1) := dk_9 (dk_at dksX0_isPerch_0 2 rfl rfl)
theorem dX0_isPerch_3 : decode cX0_isPerch 3 = .ok (.ldc2_w 152, 3) := dk_20 0 152 (dk_at dksX0_isPerch_0 3 rfl rfl)
theorem dX0_isPerch_6 : decode cX0_isPerch 6 = .ok (.invokestatic 148, 3) := dk_184 0 148 (dk_at dksX0_isPerch_0 6 rfl rfl)
theorem dX0_isPerch_9 : decode cX0_isPerch 9 = .ok (.ireturn, 1) := dk_172 (dk_at dksX0_isPerch_0 9 rfl rfl)
abbrev cX0_cover : ByteArray := prog_1_method_29_code
def yX0_cover : MethodName := ⟨RX0, "cover", "(I)I"⟩
def dkwX0_cover_1 : List UInt8 := [27, 120, 130, 181, 0, 75, 42, 180, 0, 27, 180, 0, 75, 27, 122, 4, 126, 172]
abbrev dktX0_cover_1 : List UInt8 := dkwX0_cover_1 ++ []
def dkwX0_cover_0 : List UInt8 := [42, 27, 182, 0, 194, 154, 0, 6, 16, 254, 172, 42, 182, 0, 241, 42, 180, 0, 27, 89, 180, 0, 75, 4]
abbrev dktX0_cover_0 : List UInt8 := dkwX0_cover_0 ++ dktX0_cover_1
theorem dksX0_cover_0 : cX0_cover.data.toList.drop 0 = dktX0_cover_0 := by decide +kernel
theorem dksX0_cover_1 : cX0_cover.data.toList.drop 24 = dktX0_cover_1 := dk_seg dksX0_cover_0 24 rfl rfl
theorem dX0_cover_0 : decode cX0_cover 0 = .ok (.aload_n 0, 1) := dk_42 (dk_at dksX0_cover_0 0 rfl rfl)
theorem dX0_cover_1 : decode cX0_cover 1 = .ok (.iload_n 1, 1) := dk_27 (dk_at dksX0_cover_0 1 rfl rfl)
theorem dX0_cover_2 : decode cX0_cover 2 = .ok (.invokevirtual 194, 3) := dk_182 0 194 (dk_at dksX0_cover_0 2 rfl rfl)
theorem dX0_cover_5 : decode cX0_cover 5 = .ok (.ifCond .ne 6, 3) := dk_154 0 6 (dk_at dksX0_cover_0 5 rfl rfl)
theorem dX0_cover_8 : decode cX0_cover 8 = .ok (.bipush (-2), 2) := dk_16 254 (dk_at dksX0_cover_0 8 rfl rfl)
theorem dX0_cover_10 : decode cX0_cover 10 = .ok (.ireturn, 1) := dk_172 (dk_at dksX0_cover_0 10 rfl rfl)
theorem dX0_cover_11 : decode cX0_cover 11 = .ok (.aload_n 0, 1) := dk_42 (dk_at dksX0_cover_0 11 rfl rfl)
theorem dX0_cover_12 : decode cX0_cover 12 = .ok (.invokevirtual 241, 3) := dk_182 0 241 (dk_at dksX0_cover_0 12 rfl rfl)
theorem dX0_cover_15 : decode cX0_cover 15 = .ok (.aload_n 0, 1) := dk_42 (dk_at dksX0_cover_0 15 rfl rfl)
theorem dX0_cover_16 : decode cX0_cover 16 = .ok (.getfield 27, 3) := dk_180 0 27 (dk_at dksX0_cover_0 16 rfl rfl)
theorem dX0_cover_19 : decode cX0_cover 19 = .ok (.dup, 1) := dk_89 (dk_at dksX0_cover_0 19 rfl rfl)
theorem dX0_cover_20 : decode cX0_cover 20 = .ok (.getfield 75, 3) := dk_180 0 75 (dk_at dksX0_cover_0 20 rfl rfl)
theorem dX0_cover_23 : decode cX0_cover 23 = .ok (.iconst 1, 1) := dk_4 (dk_at dksX0_cover_0 23 rfl rfl)
theorem dX0_cover_24 : decode cX0_cover 24 = .ok (.iload_n 1, 1) := dk_27 (dk_at dksX0_cover_1 0 rfl rfl)
theorem dX0_cover_25 : decode cX0_cover 25 = .ok (.ishl, 1) := dk_120 (dk_at dksX0_cover_1 1 rfl rfl)
theorem dX0_cover_26 : decode cX0_cover 26 = .ok (.ixor, 1) := dk_130 (dk_at dksX0_cover_1 2 rfl rfl)
theorem dX0_cover_27 : decode cX0_cover 27 = .ok (.putfield 75, 3) := dk_181 0 75 (dk_at dksX0_cover_1 3 rfl rfl)
theorem dX0_cover_30 : decode cX0_cover 30 = .ok (.aload_n 0, 1) := dk_42 (dk_at dksX0_cover_1 6 rfl rfl)
theorem dX0_cover_31 : decode cX0_cover 31 = .ok (.getfield 27, 3) := dk_180 0 27 (dk_at dksX0_cover_1 7 rfl rfl)
theorem dX0_cover_34 : decode cX0_cover 34 = .ok (.getfield 75, 3) := dk_180 0 75 (dk_at dksX0_cover_1 10 rfl rfl)
theorem dX0_cover_37 : decode cX0_cover 37 = .ok (.iload_n 1, 1) := dk_27 (dk_at dksX0_cover_1 13 rfl rfl)
theorem dX0_cover_38 : decode cX0_cover 38 = .ok (.ishr, 1) := dk_122 (dk_at dksX0_cover_1 14 rfl rfl)
theorem dX0_cover_39 : decode cX0_cover 39 = .ok (.iconst 1, 1) := dk_4 (dk_at dksX0_cover_1 15 rfl rfl)
theorem dX0_cover_40 : decode cX0_cover 40 = .ok (.iand, 1) := dk_126 (dk_at dksX0_cover_1 16 rfl rfl)
theorem dX0_cover_41 : decode cX0_cover 41 = .ok (.ireturn, 1) := dk_172 (dk_at dksX0_cover_1 17 rfl rfl)
abbrev cX0_sit : ByteArray := prog_1_method_30_code
def yX0_sit : MethodName := ⟨RX0, "sit", "(II)I"⟩
def dkwX0_sit_2 : List UInt8 := [180, 0, 27, 27, 28, 182, 0, 251, 29, 172]
abbrev dktX0_sit_2 : List UInt8 := dkwX0_sit_2 ++ []
def dkwX0_sit_1 : List UInt8 := [42, 180, 0, 27, 180, 0, 78, 27, 46, 62, 29, 28, 160, 0, 6, 16, 252, 172, 42, 182, 0, 241, 42]
abbrev dktX0_sit_1 : List UInt8 := dkwX0_sit_1 ++ dktX0_sit_2
def dkwX0_sit_0 : List UInt8 := [42, 27, 182, 0, 213, 153, 0, 16, 28, 2, 159, 0, 14, 42, 28, 182, 0, 194, 154, 0, 6, 16, 254, 172]
abbrev dktX0_sit_0 : List UInt8 := dkwX0_sit_0 ++ dktX0_sit_1
theorem dksX0_sit_0 : cX0_sit.data.toList.drop 0 = dktX0_sit_0 := by decide +kernel
theorem dksX0_sit_1 : cX0_sit.data.toList.drop 24 = dktX0_sit_1 := dk_seg dksX0_sit_0 24 rfl rfl
theorem dksX0_sit_2 : cX0_sit.data.toList.drop 47 = dktX0_sit_2 := dk_seg dksX0_sit_1 23 rfl rfl
theorem dX0_sit_0 : decode cX0_sit 0 = .ok (.aload_n 0, 1) := dk_42 (dk_at dksX0_sit_0 0 rfl rfl)
theorem dX0_sit_1 : decode cX0_sit 1 = .ok (.iload_n 1, 1) := dk_27 (dk_at dksX0_sit_0 1 rfl rfl)
theorem dX0_sit_2 : decode cX0_sit 2 = .ok (.invokevirtual 213, 3) := dk_182 0 213 (dk_at dksX0_sit_0 2 rfl rfl)
theorem dX0_sit_5 : decode cX0_sit 5 = .ok (.ifCond .eq 16, 3) := dk_153 0 16 (dk_at dksX0_sit_0 5 rfl rfl)
theorem dX0_sit_8 : decode cX0_sit 8 = .ok (.iload_n 2, 1) := dk_28 (dk_at dksX0_sit_0 8 rfl rfl)
theorem dX0_sit_9 : decode cX0_sit 9 = .ok (.iconst (-1), 1) := dk_2 (dk_at dksX0_sit_0 9 rfl rfl)
theorem dX0_sit_10 : decode cX0_sit 10 = .ok (.if_icmp .eq 14, 3) := dk_159 0 14 (dk_at dksX0_sit_0 10 rfl rfl)
theorem dX0_sit_13 : decode cX0_sit 13 = .ok (.aload_n 0, 1) := dk_42 (dk_at dksX0_sit_0 13 rfl rfl)
theorem dX0_sit_14 : decode cX0_sit 14 = .ok (.iload_n 2, 1) := dk_28 (dk_at dksX0_sit_0 14 rfl rfl)
theorem dX0_sit_15 : decode cX0_sit 15 = .ok (.invokevirtual 194, 3) := dk_182 0 194 (dk_at dksX0_sit_0 15 rfl rfl)
theorem dX0_sit_18 : decode cX0_sit 18 = .ok (.ifCond .ne 6, 3) := dk_154 0 6 (dk_at dksX0_sit_0 18 rfl rfl)
theorem dX0_sit_21 : decode cX0_sit 21 = .ok (.bipush (-2), 2) := dk_16 254 (dk_at dksX0_sit_0 21 rfl rfl)
theorem dX0_sit_23 : decode cX0_sit 23 = .ok (.ireturn, 1) := dk_172 (dk_at dksX0_sit_0 23 rfl rfl)
theorem dX0_sit_24 : decode cX0_sit 24 = .ok (.aload_n 0, 1) := dk_42 (dk_at dksX0_sit_1 0 rfl rfl)
theorem dX0_sit_25 : decode cX0_sit 25 = .ok (.getfield 27, 3) := dk_180 0 27 (dk_at dksX0_sit_1 1 rfl rfl)
theorem dX0_sit_28 : decode cX0_sit 28 = .ok (.getfield 78, 3) := dk_180 0 78 (dk_at dksX0_sit_1 4 rfl rfl)
theorem dX0_sit_31 : decode cX0_sit 31 = .ok (.iload_n 1, 1) := dk_27 (dk_at dksX0_sit_1 7 rfl rfl)
theorem dX0_sit_32 : decode cX0_sit 32 = .ok (.iaload, 1) := dk_46 (dk_at dksX0_sit_1 8 rfl rfl)
theorem dX0_sit_33 : decode cX0_sit 33 = .ok (.istore_n 3, 1) := dk_62 (dk_at dksX0_sit_1 9 rfl rfl)
theorem dX0_sit_34 : decode cX0_sit 34 = .ok (.iload_n 3, 1) := dk_29 (dk_at dksX0_sit_1 10 rfl rfl)
theorem dX0_sit_35 : decode cX0_sit 35 = .ok (.iload_n 2, 1) := dk_28 (dk_at dksX0_sit_1 11 rfl rfl)
theorem dX0_sit_36 : decode cX0_sit 36 = .ok (.if_icmp .ne 6, 3) := dk_160 0 6 (dk_at dksX0_sit_1 12 rfl rfl)
theorem dX0_sit_39 : decode cX0_sit 39 = .ok (.bipush (-4), 2) := dk_16 252 (dk_at dksX0_sit_1 15 rfl rfl)
theorem dX0_sit_41 : decode cX0_sit 41 = .ok (.ireturn, 1) := dk_172 (dk_at dksX0_sit_1 17 rfl rfl)
theorem dX0_sit_42 : decode cX0_sit 42 = .ok (.aload_n 0, 1) := dk_42 (dk_at dksX0_sit_1 18 rfl rfl)
theorem dX0_sit_43 : decode cX0_sit 43 = .ok (.invokevirtual 241, 3) := dk_182 0 241 (dk_at dksX0_sit_1 19 rfl rfl)
theorem dX0_sit_46 : decode cX0_sit 46 = .ok (.aload_n 0, 1) := dk_42 (dk_at dksX0_sit_1 22 rfl rfl)
theorem dX0_sit_47 : decode cX0_sit 47 = .ok (.getfield 27, 3) := dk_180 0 27 (dk_at dksX0_sit_2 0 rfl rfl)
theorem dX0_sit_50 : decode cX0_sit 50 = .ok (.iload_n 1, 1) := dk_27 (dk_at dksX0_sit_2 3 rfl rfl)
theorem dX0_sit_51 : decode cX0_sit 51 = .ok (.iload_n 2, 1) := dk_28 (dk_at dksX0_sit_2 4 rfl rfl)
theorem dX0_sit_52 : decode cX0_sit 52 = .ok (.invokevirtual 251, 3) := dk_182 0 251 (dk_at dksX0_sit_2 5 rfl rfl)
theorem dX0_sit_55 : decode cX0_sit 55 = .ok (.iload_n 3, 1) := dk_29 (dk_at dksX0_sit_2 8 rfl rfl)
theorem dX0_sit_56 : decode cX0_sit 56 = .ok (.ireturn, 1) := dk_172 (dk_at dksX0_sit_2 9 rfl rfl)
abbrev cX0_undo : ByteArray := prog_1_method_31_code
def yX0_undo : MethodName := ⟨RX0, "undo", "()I"⟩
def dkwX0_undo_1 : List UInt8 := [100, 90, 181, 0, 40, 50, 182, 0, 34, 87, 42, 180, 0, 40, 172]
abbrev dktX0_undo_1 : List UInt8 := dkwX0_undo_1 ++ []
def dkwX0_undo_0 : List UInt8 := [42, 180, 0, 40, 154, 0, 6, 16, 252, 172, 42, 180, 0, 27, 42, 180, 0, 57, 42, 89, 180, 0, 40, 4]
abbrev dktX0_undo_0 : List UInt8 := dkwX0_undo_0 ++ dktX0_undo_1
theorem dksX0_undo_0 : cX0_undo.data.toList.drop 0 = dktX0_undo_0 := by decide +kernel
theorem dksX0_undo_1 : cX0_undo.data.toList.drop 24 = dktX0_undo_1 := dk_seg dksX0_undo_0 24 rfl rfl
theorem dX0_undo_0 : decode cX0_undo 0 = .ok (.aload_n 0, 1) := dk_42 (dk_at dksX0_undo_0 0 rfl rfl)
theorem dX0_undo_1 : decode cX0_undo 1 = .ok (.getfield 40, 3) := dk_180 0 40 (dk_at dksX0_undo_0 1 rfl rfl)
theorem dX0_undo_4 : decode cX0_undo 4 = .ok (.ifCond .ne 6, 3) := dk_154 0 6 (dk_at dksX0_undo_0 4 rfl rfl)
theorem dX0_undo_7 : decode cX0_undo 7 = .ok (.bipush (-4), 2) := dk_16 252 (dk_at dksX0_undo_0 7 rfl rfl)
theorem dX0_undo_9 : decode cX0_undo 9 = .ok (.ireturn, 1) := dk_172 (dk_at dksX0_undo_0 9 rfl rfl)
theorem dX0_undo_10 : decode cX0_undo 10 = .ok (.aload_n 0, 1) := dk_42 (dk_at dksX0_undo_0 10 rfl rfl)
theorem dX0_undo_11 : decode cX0_undo 11 = .ok (.getfield 27, 3) := dk_180 0 27 (dk_at dksX0_undo_0 11 rfl rfl)
theorem dX0_undo_14 : decode cX0_undo 14 = .ok (.aload_n 0, 1) := dk_42 (dk_at dksX0_undo_0 14 rfl rfl)
theorem dX0_undo_15 : decode cX0_undo 15 = .ok (.getfield 57, 3) := dk_180 0 57 (dk_at dksX0_undo_0 15 rfl rfl)
theorem dX0_undo_18 : decode cX0_undo 18 = .ok (.aload_n 0, 1) := dk_42 (dk_at dksX0_undo_0 18 rfl rfl)
theorem dX0_undo_19 : decode cX0_undo 19 = .ok (.dup, 1) := dk_89 (dk_at dksX0_undo_0 19 rfl rfl)
theorem dX0_undo_20 : decode cX0_undo 20 = .ok (.getfield 40, 3) := dk_180 0 40 (dk_at dksX0_undo_0 20 rfl rfl)
theorem dX0_undo_23 : decode cX0_undo 23 = .ok (.iconst 1, 1) := dk_4 (dk_at dksX0_undo_0 23 rfl rfl)
theorem dX0_undo_24 : decode cX0_undo 24 = .ok (.isub, 1) := dk_100 (dk_at dksX0_undo_1 0 rfl rfl)
theorem dX0_undo_25 : decode cX0_undo 25 = .ok (.dup_x1, 1) := dk_90 (dk_at dksX0_undo_1 1 rfl rfl)
theorem dX0_undo_26 : decode cX0_undo 26 = .ok (.putfield 40, 3) := dk_181 0 40 (dk_at dksX0_undo_1 2 rfl rfl)
theorem dX0_undo_29 : decode cX0_undo 29 = .ok (.aaload, 1) := dk_50 (dk_at dksX0_undo_1 5 rfl rfl)
theorem dX0_undo_30 : decode cX0_undo 30 = .ok (.invokevirtual 34, 3) := dk_182 0 34 (dk_at dksX0_undo_1 6 rfl rfl)
theorem dX0_undo_33 : decode cX0_undo 33 = .ok (.pop, 1) := dk_87 (dk_at dksX0_undo_1 9 rfl rfl)
theorem dX0_undo_34 : decode cX0_undo 34 = .ok (.aload_n 0, 1) := dk_42 (dk_at dksX0_undo_1 10 rfl rfl)
theorem dX0_undo_35 : decode cX0_undo 35 = .ok (.getfield 40, 3) := dk_180 0 40 (dk_at dksX0_undo_1 11 rfl rfl)
theorem dX0_undo_38 : decode cX0_undo 38 = .ok (.ireturn, 1) := dk_172 (dk_at dksX0_undo_1 14 rfl rfl)
abbrev cX0_keep : ByteArray := prog_1_method_32_code
def yX0_keep : MethodName := ⟨RX0, "keep", "(I)I"⟩
def dkwX0_keep_1 : List UInt8 := [183, 0, 66, 42, 180, 0, 27, 182, 0, 34, 83, 42, 180, 0, 27, 180, 0, 238, 172]
abbrev dktX0_keep_1 : List UInt8 := dkwX0_keep_1 ++ []
def dkwX0_keep_0 : List UInt8 := [27, 133, 9, 10, 184, 0, 148, 154, 0, 6, 16, 254, 172, 42, 180, 0, 47, 27, 187, 0, 35, 89, 42]
abbrev dktX0_keep_0 : List UInt8 := dkwX0_keep_0 ++ dktX0_keep_1
theorem dksX0_keep_0 : cX0_keep.data.toList.drop 0 = dktX0_keep_0 := by decide +kernel
theorem dksX0_keep_1 : cX0_keep.data.toList.drop 23 = dktX0_keep_1 := dk_seg dksX0_keep_0 23 rfl rfl
theorem dX0_keep_0 : decode cX0_keep 0 = .ok (.iload_n 1, 1) := dk_27 (dk_at dksX0_keep_0 0 rfl rfl)
theorem dX0_keep_1 : decode cX0_keep 1 = .ok (.i2l, 1) := dk_133 (dk_at dksX0_keep_0 1 rfl rfl)
theorem dX0_keep_2 : decode cX0_keep 2 = .ok (.lconst 0, 1) := dk_9 (dk_at dksX0_keep_0 2 rfl rfl)
theorem dX0_keep_3 : decode cX0_keep 3 = .ok (.lconst 1, 1) := dk_10 (dk_at dksX0_keep_0 3 rfl rfl)
theorem dX0_keep_4 : decode cX0_keep 4 = .ok (.invokestatic 148, 3) := dk_184 0 148 (dk_at dksX0_keep_0 4 rfl rfl)
theorem dX0_keep_7 : decode cX0_keep 7 = .ok (.ifCond .ne 6, 3) := dk_154 0 6 (dk_at dksX0_keep_0 7 rfl rfl)
theorem dX0_keep_10 : decode cX0_keep 10 = .ok (.bipush (-2), 2) := dk_16 254 (dk_at dksX0_keep_0 10 rfl rfl)
theorem dX0_keep_12 : decode cX0_keep 12 = .ok (.ireturn, 1) := dk_172 (dk_at dksX0_keep_0 12 rfl rfl)
theorem dX0_keep_13 : decode cX0_keep 13 = .ok (.aload_n 0, 1) := dk_42 (dk_at dksX0_keep_0 13 rfl rfl)
theorem dX0_keep_14 : decode cX0_keep 14 = .ok (.getfield 47, 3) := dk_180 0 47 (dk_at dksX0_keep_0 14 rfl rfl)
theorem dX0_keep_17 : decode cX0_keep 17 = .ok (.iload_n 1, 1) := dk_27 (dk_at dksX0_keep_0 17 rfl rfl)
theorem dX0_keep_18 : decode cX0_keep 18 = .ok (.new 35, 3) := dk_187 0 35 (dk_at dksX0_keep_0 18 rfl rfl)
theorem dX0_keep_21 : decode cX0_keep 21 = .ok (.dup, 1) := dk_89 (dk_at dksX0_keep_0 21 rfl rfl)
theorem dX0_keep_22 : decode cX0_keep 22 = .ok (.aload_n 0, 1) := dk_42 (dk_at dksX0_keep_0 22 rfl rfl)
theorem dX0_keep_23 : decode cX0_keep 23 = .ok (.invokespecial 66, 3) := dk_183 0 66 (dk_at dksX0_keep_1 0 rfl rfl)
theorem dX0_keep_26 : decode cX0_keep 26 = .ok (.aload_n 0, 1) := dk_42 (dk_at dksX0_keep_1 3 rfl rfl)
theorem dX0_keep_27 : decode cX0_keep 27 = .ok (.getfield 27, 3) := dk_180 0 27 (dk_at dksX0_keep_1 4 rfl rfl)
theorem dX0_keep_30 : decode cX0_keep 30 = .ok (.invokevirtual 34, 3) := dk_182 0 34 (dk_at dksX0_keep_1 7 rfl rfl)
theorem dX0_keep_33 : decode cX0_keep 33 = .ok (.aastore, 1) := dk_83 (dk_at dksX0_keep_1 10 rfl rfl)
theorem dX0_keep_34 : decode cX0_keep 34 = .ok (.aload_n 0, 1) := dk_42 (dk_at dksX0_keep_1 11 rfl rfl)
theorem dX0_keep_35 : decode cX0_keep 35 = .ok (.getfield 27, 3) := dk_180 0 27 (dk_at dksX0_keep_1 12 rfl rfl)
theorem dX0_keep_38 : decode cX0_keep 38 = .ok (.getfield 238, 3) := dk_180 0 238 (dk_at dksX0_keep_1 15 rfl rfl)
theorem dX0_keep_41 : decode cX0_keep 41 = .ok (.ireturn, 1) := dk_172 (dk_at dksX0_keep_1 18 rfl rfl)
abbrev cX0_back : ByteArray := prog_1_method_33_code
def yX0_back : MethodName := ⟨RX0, "back", "(I)I"⟩
def dkwX0_back_1 : List UInt8 := [182, 0, 34, 87, 167, 0, 7, 77, 16, 252, 172, 42, 3, 181, 0, 40, 42, 180, 0, 27, 180, 0, 238, 172]
abbrev dktX0_back_1 : List UInt8 := dkwX0_back_1 ++ []
def dkwX0_back_0 : List UInt8 := [27, 133, 9, 10, 184, 0, 148, 154, 0, 6, 16, 254, 172, 42, 180, 0, 27, 42, 180, 0, 47, 27, 50]
abbrev dktX0_back_0 : List UInt8 := dkwX0_back_0 ++ dktX0_back_1
theorem dksX0_back_0 : cX0_back.data.toList.drop 0 = dktX0_back_0 := by decide +kernel
theorem dksX0_back_1 : cX0_back.data.toList.drop 23 = dktX0_back_1 := dk_seg dksX0_back_0 23 rfl rfl
theorem dX0_back_0 : decode cX0_back 0 = .ok (.iload_n 1, 1) := dk_27 (dk_at dksX0_back_0 0 rfl rfl)
theorem dX0_back_1 : decode cX0_back 1 = .ok (.i2l, 1) := dk_133 (dk_at dksX0_back_0 1 rfl rfl)
theorem dX0_back_2 : decode cX0_back 2 = .ok (.lconst 0, 1) := dk_9 (dk_at dksX0_back_0 2 rfl rfl)
theorem dX0_back_3 : decode cX0_back 3 = .ok (.lconst 1, 1) := dk_10 (dk_at dksX0_back_0 3 rfl rfl)
theorem dX0_back_4 : decode cX0_back 4 = .ok (.invokestatic 148, 3) := dk_184 0 148 (dk_at dksX0_back_0 4 rfl rfl)
theorem dX0_back_7 : decode cX0_back 7 = .ok (.ifCond .ne 6, 3) := dk_154 0 6 (dk_at dksX0_back_0 7 rfl rfl)
theorem dX0_back_10 : decode cX0_back 10 = .ok (.bipush (-2), 2) := dk_16 254 (dk_at dksX0_back_0 10 rfl rfl)
theorem dX0_back_12 : decode cX0_back 12 = .ok (.ireturn, 1) := dk_172 (dk_at dksX0_back_0 12 rfl rfl)
theorem dX0_back_13 : decode cX0_back 13 = .ok (.aload_n 0, 1) := dk_42 (dk_at dksX0_back_0 13 rfl rfl)
theorem dX0_back_14 : decode cX0_back 14 = .ok (.getfield 27, 3) := dk_180 0 27 (dk_at dksX0_back_0 14 rfl rfl)
theorem dX0_back_17 : decode cX0_back 17 = .ok (.aload_n 0, 1) := dk_42 (dk_at dksX0_back_0 17 rfl rfl)
theorem dX0_back_18 : decode cX0_back 18 = .ok (.getfield 47, 3) := dk_180 0 47 (dk_at dksX0_back_0 18 rfl rfl)
theorem dX0_back_21 : decode cX0_back 21 = .ok (.iload_n 1, 1) := dk_27 (dk_at dksX0_back_0 21 rfl rfl)
theorem dX0_back_22 : decode cX0_back 22 = .ok (.aaload, 1) := dk_50 (dk_at dksX0_back_0 22 rfl rfl)
theorem dX0_back_23 : decode cX0_back 23 = .ok (.invokevirtual 34, 3) := dk_182 0 34 (dk_at dksX0_back_1 0 rfl rfl)
theorem dX0_back_26 : decode cX0_back 26 = .ok (.pop, 1) := dk_87 (dk_at dksX0_back_1 3 rfl rfl)
theorem dX0_back_27 : decode cX0_back 27 = .ok (.goto 7, 3) := dk_167 0 7 (dk_at dksX0_back_1 4 rfl rfl)
theorem dX0_back_30 : decode cX0_back 30 = .ok (.astore_n 2, 1) := dk_77 (dk_at dksX0_back_1 7 rfl rfl)
theorem dX0_back_31 : decode cX0_back 31 = .ok (.bipush (-4), 2) := dk_16 252 (dk_at dksX0_back_1 8 rfl rfl)
theorem dX0_back_33 : decode cX0_back 33 = .ok (.ireturn, 1) := dk_172 (dk_at dksX0_back_1 10 rfl rfl)
theorem dX0_back_34 : decode cX0_back 34 = .ok (.aload_n 0, 1) := dk_42 (dk_at dksX0_back_1 11 rfl rfl)
theorem dX0_back_35 : decode cX0_back 35 = .ok (.iconst 0, 1) := dk_3 (dk_at dksX0_back_1 12 rfl rfl)
theorem dX0_back_36 : decode cX0_back 36 = .ok (.putfield 40, 3) := dk_181 0 40 (dk_at dksX0_back_1 13 rfl rfl)
theorem dX0_back_39 : decode cX0_back 39 = .ok (.aload_n 0, 1) := dk_42 (dk_at dksX0_back_1 16 rfl rfl)
theorem dX0_back_40 : decode cX0_back 40 = .ok (.getfield 27, 3) := dk_180 0 27 (dk_at dksX0_back_1 17 rfl rfl)
theorem dX0_back_43 : decode cX0_back 43 = .ok (.getfield 238, 3) := dk_180 0 238 (dk_at dksX0_back_1 20 rfl rfl)
theorem dX0_back_46 : decode cX0_back 46 = .ok (.ireturn, 1) := dk_172 (dk_at dksX0_back_1 23 rfl rfl)
abbrev cX0_said : ByteArray := prog_1_method_35_code
def yX0_said : MethodName := ⟨RX0, "said", "(II)I"⟩
def dkwX0_said_2 : List UInt8 := [172]
abbrev dktX0_said_2 : List UInt8 := dkwX0_said_2 ++ []
def dkwX0_said_1 : List UInt8 := [172, 42, 27, 182, 1, 7, 28, 42, 180, 1, 10, 162, 0, 12, 42, 180, 0, 114, 28, 46, 167, 0, 4, 2]
abbrev dktX0_said_1 : List UInt8 := dkwX0_said_1 ++ dktX0_said_2
def dkwX0_said_0 : List UInt8 := [27, 184, 0, 248, 154, 0, 6, 16, 254, 172, 28, 133, 9, 20, 1, 5, 184, 0, 148, 154, 0, 6, 16, 253]
abbrev dktX0_said_0 : List UInt8 := dkwX0_said_0 ++ dktX0_said_1
theorem dksX0_said_0 : cX0_said.data.toList.drop 0 = dktX0_said_0 := by decide +kernel
theorem dksX0_said_1 : cX0_said.data.toList.drop 24 = dktX0_said_1 := dk_seg dksX0_said_0 24 rfl rfl
theorem dksX0_said_2 : cX0_said.data.toList.drop 48 = dktX0_said_2 := dk_seg dksX0_said_1 24 rfl rfl
theorem dX0_said_0 : decode cX0_said 0 = .ok (.iload_n 1, 1) := dk_27 (dk_at dksX0_said_0 0 rfl rfl)
theorem dX0_said_1 : decode cX0_said 1 = .ok (.invokestatic 248, 3) := dk_184 0 248 (dk_at dksX0_said_0 1 rfl rfl)
theorem dX0_said_4 : decode cX0_said 4 = .ok (.ifCond .ne 6, 3) := dk_154 0 6 (dk_at dksX0_said_0 4 rfl rfl)
theorem dX0_said_7 : decode cX0_said 7 = .ok (.bipush (-2), 2) := dk_16 254 (dk_at dksX0_said_0 7 rfl rfl)
theorem dX0_said_9 : decode cX0_said 9 = .ok (.ireturn, 1) := dk_172 (dk_at dksX0_said_0 9 rfl rfl)
theorem dX0_said_10 : decode cX0_said 10 = .ok (.iload_n 2, 1) := dk_28 (dk_at dksX0_said_0 10 rfl rfl)
theorem dX0_said_11 : decode cX0_said 11 = .ok (.i2l, 1) := dk_133 (dk_at dksX0_said_0 11 rfl rfl)
theorem dX0_said_12 : decode cX0_said 12 = .ok (.lconst 0, 1) := dk_9 (dk_at dksX0_said_0 12 rfl rfl)
theorem dX0_said_13 : decode cX0_said 13 = .ok (.ldc2_w 261, 3) := dk_20 1 5 (dk_at dksX0_said_0 13 rfl rfl)
theorem dX0_said_16 : decode cX0_said 16 = .ok (.invokestatic 148, 3) := dk_184 0 148 (dk_at dksX0_said_0 16 rfl rfl)
theorem dX0_said_19 : decode cX0_said 19 = .ok (.ifCond .ne 6, 3) := dk_154 0 6 (dk_at dksX0_said_0 19 rfl rfl)
theorem dX0_said_22 : decode cX0_said 22 = .ok (.bipush (-3), 2) := dk_16 253 (dk_at dksX0_said_0 22 rfl rfl)
theorem dX0_said_24 : decode cX0_said 24 = .ok (.ireturn, 1) := dk_172 (dk_at dksX0_said_1 0 rfl rfl)
theorem dX0_said_25 : decode cX0_said 25 = .ok (.aload_n 0, 1) := dk_42 (dk_at dksX0_said_1 1 rfl rfl)
theorem dX0_said_26 : decode cX0_said 26 = .ok (.iload_n 1, 1) := dk_27 (dk_at dksX0_said_1 2 rfl rfl)
theorem dX0_said_27 : decode cX0_said 27 = .ok (.invokevirtual 263, 3) := dk_182 1 7 (dk_at dksX0_said_1 3 rfl rfl)
theorem dX0_said_30 : decode cX0_said 30 = .ok (.iload_n 2, 1) := dk_28 (dk_at dksX0_said_1 6 rfl rfl)
theorem dX0_said_31 : decode cX0_said 31 = .ok (.aload_n 0, 1) := dk_42 (dk_at dksX0_said_1 7 rfl rfl)
theorem dX0_said_32 : decode cX0_said 32 = .ok (.getfield 266, 3) := dk_180 1 10 (dk_at dksX0_said_1 8 rfl rfl)
theorem dX0_said_35 : decode cX0_said 35 = .ok (.if_icmp .ge 12, 3) := dk_162 0 12 (dk_at dksX0_said_1 11 rfl rfl)
theorem dX0_said_38 : decode cX0_said 38 = .ok (.aload_n 0, 1) := dk_42 (dk_at dksX0_said_1 14 rfl rfl)
theorem dX0_said_39 : decode cX0_said 39 = .ok (.getfield 114, 3) := dk_180 0 114 (dk_at dksX0_said_1 15 rfl rfl)
theorem dX0_said_42 : decode cX0_said 42 = .ok (.iload_n 2, 1) := dk_28 (dk_at dksX0_said_1 18 rfl rfl)
theorem dX0_said_43 : decode cX0_said 43 = .ok (.iaload, 1) := dk_46 (dk_at dksX0_said_1 19 rfl rfl)
theorem dX0_said_44 : decode cX0_said 44 = .ok (.goto 4, 3) := dk_167 0 4 (dk_at dksX0_said_1 20 rfl rfl)
theorem dX0_said_47 : decode cX0_said 47 = .ok (.iconst (-1), 1) := dk_2 (dk_at dksX0_said_1 23 rfl rfl)
theorem dX0_said_48 : decode cX0_said 48 = .ok (.ireturn, 1) := dk_172 (dk_at dksX0_said_2 0 rfl rfl)
abbrev cX0_listen : ByteArray := prog_1_method_34_code
def yX0_listen : MethodName := ⟨RX0, "listen", "(I)V"⟩
def dkwX0_listen_1 : List UInt8 := [181, 0, 117, 167, 0, 11, 77, 42, 2, 181, 0, 117, 44, 191, 177]
abbrev dktX0_listen_1 : List UInt8 := dkwX0_listen_1 ++ []
def dkwX0_listen_0 : List UInt8 := [42, 27, 181, 0, 117, 42, 180, 0, 120, 42, 180, 0, 27, 182, 0, 34, 182, 1, 1, 87, 42, 2]
abbrev dktX0_listen_0 : List UInt8 := dkwX0_listen_0 ++ dktX0_listen_1
theorem dksX0_listen_0 : cX0_listen.data.toList.drop 0 = dktX0_listen_0 := by decide +kernel
theorem dksX0_listen_1 : cX0_listen.data.toList.drop 22 = dktX0_listen_1 := dk_seg dksX0_listen_0 22 rfl rfl
theorem dX0_listen_0 : decode cX0_listen 0 = .ok (.aload_n 0, 1) := dk_42 (dk_at dksX0_listen_0 0 rfl rfl)
theorem dX0_listen_1 : decode cX0_listen 1 = .ok (.iload_n 1, 1) := dk_27 (dk_at dksX0_listen_0 1 rfl rfl)
theorem dX0_listen_2 : decode cX0_listen 2 = .ok (.putfield 117, 3) := dk_181 0 117 (dk_at dksX0_listen_0 2 rfl rfl)
theorem dX0_listen_5 : decode cX0_listen 5 = .ok (.aload_n 0, 1) := dk_42 (dk_at dksX0_listen_0 5 rfl rfl)
theorem dX0_listen_6 : decode cX0_listen 6 = .ok (.getfield 120, 3) := dk_180 0 120 (dk_at dksX0_listen_0 6 rfl rfl)
theorem dX0_listen_9 : decode cX0_listen 9 = .ok (.aload_n 0, 1) := dk_42 (dk_at dksX0_listen_0 9 rfl rfl)
theorem dX0_listen_10 : decode cX0_listen 10 = .ok (.getfield 27, 3) := dk_180 0 27 (dk_at dksX0_listen_0 10 rfl rfl)
theorem dX0_listen_13 : decode cX0_listen 13 = .ok (.invokevirtual 34, 3) := dk_182 0 34 (dk_at dksX0_listen_0 13 rfl rfl)
theorem dX0_listen_16 : decode cX0_listen 16 = .ok (.invokevirtual 257, 3) := dk_182 1 1 (dk_at dksX0_listen_0 16 rfl rfl)
theorem dX0_listen_19 : decode cX0_listen 19 = .ok (.pop, 1) := dk_87 (dk_at dksX0_listen_0 19 rfl rfl)
theorem dX0_listen_20 : decode cX0_listen 20 = .ok (.aload_n 0, 1) := dk_42 (dk_at dksX0_listen_0 20 rfl rfl)
theorem dX0_listen_21 : decode cX0_listen 21 = .ok (.iconst (-1), 1) := dk_2 (dk_at dksX0_listen_0 21 rfl rfl)
theorem dX0_listen_22 : decode cX0_listen 22 = .ok (.putfield 117, 3) := dk_181 0 117 (dk_at dksX0_listen_1 0 rfl rfl)
theorem dX0_listen_25 : decode cX0_listen 25 = .ok (.goto 11, 3) := dk_167 0 11 (dk_at dksX0_listen_1 3 rfl rfl)
theorem dX0_listen_28 : decode cX0_listen 28 = .ok (.astore_n 2, 1) := dk_77 (dk_at dksX0_listen_1 6 rfl rfl)
theorem dX0_listen_29 : decode cX0_listen 29 = .ok (.aload_n 0, 1) := dk_42 (dk_at dksX0_listen_1 7 rfl rfl)
theorem dX0_listen_30 : decode cX0_listen 30 = .ok (.iconst (-1), 1) := dk_2 (dk_at dksX0_listen_1 8 rfl rfl)
theorem dX0_listen_31 : decode cX0_listen 31 = .ok (.putfield 117, 3) := dk_181 0 117 (dk_at dksX0_listen_1 9 rfl rfl)
theorem dX0_listen_34 : decode cX0_listen 34 = .ok (.aload_n 2, 1) := dk_44 (dk_at dksX0_listen_1 12 rfl rfl)
theorem dX0_listen_35 : decode cX0_listen 35 = .ok (.athrow, 1) := dk_191 (dk_at dksX0_listen_1 13 rfl rfl)
theorem dX0_listen_36 : decode cX0_listen 36 = .ok (.return_, 1) := dk_177 (dk_at dksX0_listen_1 14 rfl rfl)
abbrev cX0_when : ByteArray := prog_1_method_36_code
def yX0_when : MethodName := ⟨RX0, "when", "(III)I"⟩
def dkwX0_when_3 : List UInt8 := [172, 42, 180, 0, 120, 182, 1, 1, 87, 132, 4, 1, 167, 255, 220, 2, 172]
abbrev dktX0_when_3 : List UInt8 := dkwX0_when_3 ++ []
def dkwX0_when_2 : List UInt8 := [21, 4, 16, 60, 163, 0, 35, 42, 180, 0, 120, 180, 0, 92, 27, 50, 28, 51, 29, 161, 0, 6, 21, 4]
abbrev dktX0_when_2 : List UInt8 := dkwX0_when_2 ++ dktX0_when_3
def dkwX0_when_1 : List UInt8 := [184, 0, 148, 154, 0, 6, 16, 253, 172, 42, 180, 0, 120, 42, 180, 0, 27, 182, 0, 34, 87, 3, 54, 4]
abbrev dktX0_when_1 : List UInt8 := dkwX0_when_1 ++ dktX0_when_2
def dkwX0_when_0 : List UInt8 := [42, 27, 182, 0, 194, 153, 0, 10, 28, 184, 0, 216, 154, 0, 6, 16, 254, 172, 29, 133, 10, 20, 0, 154]
abbrev dktX0_when_0 : List UInt8 := dkwX0_when_0 ++ dktX0_when_1
theorem dksX0_when_0 : cX0_when.data.toList.drop 0 = dktX0_when_0 := by decide +kernel
theorem dksX0_when_1 : cX0_when.data.toList.drop 24 = dktX0_when_1 := dk_seg dksX0_when_0 24 rfl rfl
theorem dksX0_when_2 : cX0_when.data.toList.drop 48 = dktX0_when_2 := dk_seg dksX0_when_1 24 rfl rfl
theorem dksX0_when_3 : cX0_when.data.toList.drop 72 = dktX0_when_3 := dk_seg dksX0_when_2 24 rfl rfl
theorem dX0_when_0 : decode cX0_when 0 = .ok (.aload_n 0, 1) := dk_42 (dk_at dksX0_when_0 0 rfl rfl)
theorem dX0_when_1 : decode cX0_when 1 = .ok (.iload_n 1, 1) := dk_27 (dk_at dksX0_when_0 1 rfl rfl)
theorem dX0_when_2 : decode cX0_when 2 = .ok (.invokevirtual 194, 3) := dk_182 0 194 (dk_at dksX0_when_0 2 rfl rfl)
theorem dX0_when_5 : decode cX0_when 5 = .ok (.ifCond .eq 10, 3) := dk_153 0 10 (dk_at dksX0_when_0 5 rfl rfl)
theorem dX0_when_8 : decode cX0_when 8 = .ok (.iload_n 2, 1) := dk_28 (dk_at dksX0_when_0 8 rfl rfl)
theorem dX0_when_9 : decode cX0_when 9 = .ok (.invokestatic 216, 3) := dk_184 0 216 (dk_at dksX0_when_0 9 rfl rfl)
theorem dX0_when_12 : decode cX0_when 12 = .ok (.ifCond .ne 6, 3) := dk_154 0 6 (dk_at dksX0_when_0 12 rfl rfl)
theorem dX0_when_15 : decode cX0_when 15 = .ok (.bipush (-2), 2) := dk_16 254 (dk_at dksX0_when_0 15 rfl rfl)
theorem dX0_when_17 : decode cX0_when 17 = .ok (.ireturn, 1) := dk_172 (dk_at dksX0_when_0 17 rfl rfl)
theorem dX0_when_18 : decode cX0_when 18 = .ok (.iload_n 3, 1) := dk_29 (dk_at dksX0_when_0 18 rfl rfl)
theorem dX0_when_19 : decode cX0_when 19 = .ok (.i2l, 1) := dk_133 (dk_at dksX0_when_0 19 rfl rfl)
theorem dX0_when_20 : decode cX0_when 20 = .ok (.lconst 1, 1) := dk_10 (dk_at dksX0_when_0 20 rfl rfl)
theorem dX0_when_21 : decode cX0_when 21 = .ok (.ldc2_w 154, 3) := dk_20 0 154 (dk_at dksX0_when_0 21 rfl rfl)
theorem dX0_when_24 : decode cX0_when 24 = .ok (.invokestatic 148, 3) := dk_184 0 148 (dk_at dksX0_when_1 0 rfl rfl)
theorem dX0_when_27 : decode cX0_when 27 = .ok (.ifCond .ne 6, 3) := dk_154 0 6 (dk_at dksX0_when_1 3 rfl rfl)
theorem dX0_when_30 : decode cX0_when 30 = .ok (.bipush (-3), 2) := dk_16 253 (dk_at dksX0_when_1 6 rfl rfl)
theorem dX0_when_32 : decode cX0_when 32 = .ok (.ireturn, 1) := dk_172 (dk_at dksX0_when_1 8 rfl rfl)
theorem dX0_when_33 : decode cX0_when 33 = .ok (.aload_n 0, 1) := dk_42 (dk_at dksX0_when_1 9 rfl rfl)
theorem dX0_when_34 : decode cX0_when 34 = .ok (.getfield 120, 3) := dk_180 0 120 (dk_at dksX0_when_1 10 rfl rfl)
theorem dX0_when_37 : decode cX0_when 37 = .ok (.aload_n 0, 1) := dk_42 (dk_at dksX0_when_1 13 rfl rfl)
theorem dX0_when_38 : decode cX0_when 38 = .ok (.getfield 27, 3) := dk_180 0 27 (dk_at dksX0_when_1 14 rfl rfl)
theorem dX0_when_41 : decode cX0_when 41 = .ok (.invokevirtual 34, 3) := dk_182 0 34 (dk_at dksX0_when_1 17 rfl rfl)
theorem dX0_when_44 : decode cX0_when 44 = .ok (.pop, 1) := dk_87 (dk_at dksX0_when_1 20 rfl rfl)
theorem dX0_when_45 : decode cX0_when 45 = .ok (.iconst 0, 1) := dk_3 (dk_at dksX0_when_1 21 rfl rfl)
theorem dX0_when_46 : decode cX0_when 46 = .ok (.istore 4, 2) := dk_54 4 (dk_at dksX0_when_1 22 rfl rfl)
theorem dX0_when_48 : decode cX0_when 48 = .ok (.iload 4, 2) := dk_21 4 (dk_at dksX0_when_2 0 rfl rfl)
theorem dX0_when_50 : decode cX0_when 50 = .ok (.bipush 60, 2) := dk_16 60 (dk_at dksX0_when_2 2 rfl rfl)
theorem dX0_when_52 : decode cX0_when 52 = .ok (.if_icmp .gt 35, 3) := dk_163 0 35 (dk_at dksX0_when_2 4 rfl rfl)
theorem dX0_when_55 : decode cX0_when 55 = .ok (.aload_n 0, 1) := dk_42 (dk_at dksX0_when_2 7 rfl rfl)
theorem dX0_when_56 : decode cX0_when 56 = .ok (.getfield 120, 3) := dk_180 0 120 (dk_at dksX0_when_2 8 rfl rfl)
theorem dX0_when_59 : decode cX0_when 59 = .ok (.getfield 92, 3) := dk_180 0 92 (dk_at dksX0_when_2 11 rfl rfl)
theorem dX0_when_62 : decode cX0_when 62 = .ok (.iload_n 1, 1) := dk_27 (dk_at dksX0_when_2 14 rfl rfl)
theorem dX0_when_63 : decode cX0_when 63 = .ok (.aaload, 1) := dk_50 (dk_at dksX0_when_2 15 rfl rfl)
theorem dX0_when_64 : decode cX0_when 64 = .ok (.iload_n 2, 1) := dk_28 (dk_at dksX0_when_2 16 rfl rfl)
theorem dX0_when_65 : decode cX0_when 65 = .ok (.baload, 1) := dk_51 (dk_at dksX0_when_2 17 rfl rfl)
theorem dX0_when_66 : decode cX0_when 66 = .ok (.iload_n 3, 1) := dk_29 (dk_at dksX0_when_2 18 rfl rfl)
theorem dX0_when_67 : decode cX0_when 67 = .ok (.if_icmp .lt 6, 3) := dk_161 0 6 (dk_at dksX0_when_2 19 rfl rfl)
theorem dX0_when_70 : decode cX0_when 70 = .ok (.iload 4, 2) := dk_21 4 (dk_at dksX0_when_2 22 rfl rfl)
theorem dX0_when_72 : decode cX0_when 72 = .ok (.ireturn, 1) := dk_172 (dk_at dksX0_when_3 0 rfl rfl)
theorem dX0_when_73 : decode cX0_when 73 = .ok (.aload_n 0, 1) := dk_42 (dk_at dksX0_when_3 1 rfl rfl)
theorem dX0_when_74 : decode cX0_when 74 = .ok (.getfield 120, 3) := dk_180 0 120 (dk_at dksX0_when_3 2 rfl rfl)
theorem dX0_when_77 : decode cX0_when 77 = .ok (.invokevirtual 257, 3) := dk_182 1 1 (dk_at dksX0_when_3 5 rfl rfl)
theorem dX0_when_80 : decode cX0_when 80 = .ok (.pop, 1) := dk_87 (dk_at dksX0_when_3 8 rfl rfl)
theorem dX0_when_81 : decode cX0_when 81 = .ok (.iinc 4 1, 3) := dk_132 4 1 (dk_at dksX0_when_3 9 rfl rfl)
theorem dX0_when_84 : decode cX0_when 84 = .ok (.goto (-36), 3) := dk_167 255 220 (dk_at dksX0_when_3 12 rfl rfl)
theorem dX0_when_87 : decode cX0_when 87 = .ok (.iconst (-1), 1) := dk_2 (dk_at dksX0_when_3 15 rfl rfl)
theorem dX0_when_88 : decode cX0_when 88 = .ok (.ireturn, 1) := dk_172 (dk_at dksX0_when_3 16 rfl rfl)
abbrev cX0_keeps : ByteArray := prog_1_method_38_code
def yX0_keeps : MethodName := ⟨RX0, "keeps", "(III)I"⟩
def dkwX0_keeps_1 : List UInt8 := [20, 1, 18, 184, 0, 148, 153, 0, 13, 42, 27, 28, 29, 182, 1, 20, 167, 0, 5, 16, 253, 172]
abbrev dktX0_keeps_1 : List UInt8 := dkwX0_keeps_1 ++ []
def dkwX0_keeps_0 : List UInt8 := [42, 27, 182, 0, 213, 153, 0, 11, 42, 28, 182, 0, 194, 154, 0, 6, 16, 254, 172, 29, 133, 10]
abbrev dktX0_keeps_0 : List UInt8 := dkwX0_keeps_0 ++ dktX0_keeps_1
theorem dksX0_keeps_0 : cX0_keeps.data.toList.drop 0 = dktX0_keeps_0 := by decide +kernel
theorem dksX0_keeps_1 : cX0_keeps.data.toList.drop 22 = dktX0_keeps_1 := dk_seg dksX0_keeps_0 22 rfl rfl
theorem dX0_keeps_0 : decode cX0_keeps 0 = .ok (.aload_n 0, 1) := dk_42 (dk_at dksX0_keeps_0 0 rfl rfl)
theorem dX0_keeps_1 : decode cX0_keeps 1 = .ok (.iload_n 1, 1) := dk_27 (dk_at dksX0_keeps_0 1 rfl rfl)
theorem dX0_keeps_2 : decode cX0_keeps 2 = .ok (.invokevirtual 213, 3) := dk_182 0 213 (dk_at dksX0_keeps_0 2 rfl rfl)
theorem dX0_keeps_5 : decode cX0_keeps 5 = .ok (.ifCond .eq 11, 3) := dk_153 0 11 (dk_at dksX0_keeps_0 5 rfl rfl)
theorem dX0_keeps_8 : decode cX0_keeps 8 = .ok (.aload_n 0, 1) := dk_42 (dk_at dksX0_keeps_0 8 rfl rfl)
theorem dX0_keeps_9 : decode cX0_keeps 9 = .ok (.iload_n 2, 1) := dk_28 (dk_at dksX0_keeps_0 9 rfl rfl)
theorem dX0_keeps_10 : decode cX0_keeps 10 = .ok (.invokevirtual 194, 3) := dk_182 0 194 (dk_at dksX0_keeps_0 10 rfl rfl)
theorem dX0_keeps_13 : decode cX0_keeps 13 = .ok (.ifCond .ne 6, 3) := dk_154 0 6 (dk_at dksX0_keeps_0 13 rfl rfl)
theorem dX0_keeps_16 : decode cX0_keeps 16 = .ok (.bipush (-2), 2) := dk_16 254 (dk_at dksX0_keeps_0 16 rfl rfl)
theorem dX0_keeps_18 : decode cX0_keeps 18 = .ok (.ireturn, 1) := dk_172 (dk_at dksX0_keeps_0 18 rfl rfl)
theorem dX0_keeps_19 : decode cX0_keeps 19 = .ok (.iload_n 3, 1) := dk_29 (dk_at dksX0_keeps_0 19 rfl rfl)
theorem dX0_keeps_20 : decode cX0_keeps 20 = .ok (.i2l, 1) := dk_133 (dk_at dksX0_keeps_0 20 rfl rfl)
theorem dX0_keeps_21 : decode cX0_keeps 21 = .ok (.lconst 1, 1) := dk_10 (dk_at dksX0_keeps_0 21 rfl rfl)
theorem dX0_keeps_22 : decode cX0_keeps 22 = .ok (.ldc2_w 274, 3) := dk_20 1 18 (dk_at dksX0_keeps_1 0 rfl rfl)
theorem dX0_keeps_25 : decode cX0_keeps 25 = .ok (.invokestatic 148, 3) := dk_184 0 148 (dk_at dksX0_keeps_1 3 rfl rfl)
theorem dX0_keeps_28 : decode cX0_keeps 28 = .ok (.ifCond .eq 13, 3) := dk_153 0 13 (dk_at dksX0_keeps_1 6 rfl rfl)
theorem dX0_keeps_31 : decode cX0_keeps 31 = .ok (.aload_n 0, 1) := dk_42 (dk_at dksX0_keeps_1 9 rfl rfl)
theorem dX0_keeps_32 : decode cX0_keeps 32 = .ok (.iload_n 1, 1) := dk_27 (dk_at dksX0_keeps_1 10 rfl rfl)
theorem dX0_keeps_33 : decode cX0_keeps 33 = .ok (.iload_n 2, 1) := dk_28 (dk_at dksX0_keeps_1 11 rfl rfl)
theorem dX0_keeps_34 : decode cX0_keeps 34 = .ok (.iload_n 3, 1) := dk_29 (dk_at dksX0_keeps_1 12 rfl rfl)
theorem dX0_keeps_35 : decode cX0_keeps 35 = .ok (.invokevirtual 276, 3) := dk_182 1 20 (dk_at dksX0_keeps_1 13 rfl rfl)
theorem dX0_keeps_38 : decode cX0_keeps 38 = .ok (.goto 5, 3) := dk_167 0 5 (dk_at dksX0_keeps_1 16 rfl rfl)
theorem dX0_keeps_41 : decode cX0_keeps 41 = .ok (.bipush (-3), 2) := dk_16 253 (dk_at dksX0_keeps_1 19 rfl rfl)
theorem dX0_keeps_43 : decode cX0_keeps 43 = .ok (.ireturn, 1) := dk_172 (dk_at dksX0_keeps_1 21 rfl rfl)
abbrev cX0_keepsOf : ByteArray := prog_1_method_37_code
def yX0_keepsOf : MethodName := ⟨RX0, "keepsOf", "(III)I"⟩
def dkwX0_keepsOf_1 : List UInt8 := [182, 0, 251, 42, 180, 0, 120, 29, 182, 0, 221, 28, 182, 0, 210, 21, 4, 126, 184, 1, 13, 172]
abbrev dktX0_keepsOf_1 : List UInt8 := dkwX0_keepsOf_1 ++ []
def dkwX0_keepsOf_0 : List UInt8 := [42, 180, 0, 27, 180, 0, 89, 27, 46, 54, 4, 42, 180, 0, 120, 42, 180, 0, 27, 182, 0, 34, 27, 28]
abbrev dktX0_keepsOf_0 : List UInt8 := dkwX0_keepsOf_0 ++ dktX0_keepsOf_1
theorem dksX0_keepsOf_0 : cX0_keepsOf.data.toList.drop 0 = dktX0_keepsOf_0 := by decide +kernel
theorem dksX0_keepsOf_1 : cX0_keepsOf.data.toList.drop 24 = dktX0_keepsOf_1 := dk_seg dksX0_keepsOf_0 24 rfl rfl
theorem dX0_keepsOf_0 : decode cX0_keepsOf 0 = .ok (.aload_n 0, 1) := dk_42 (dk_at dksX0_keepsOf_0 0 rfl rfl)
theorem dX0_keepsOf_1 : decode cX0_keepsOf 1 = .ok (.getfield 27, 3) := dk_180 0 27 (dk_at dksX0_keepsOf_0 1 rfl rfl)
theorem dX0_keepsOf_4 : decode cX0_keepsOf 4 = .ok (.getfield 89, 3) := dk_180 0 89 (dk_at dksX0_keepsOf_0 4 rfl rfl)
theorem dX0_keepsOf_7 : decode cX0_keepsOf 7 = .ok (.iload_n 1, 1) := dk_27 (dk_at dksX0_keepsOf_0 7 rfl rfl)
theorem dX0_keepsOf_8 : decode cX0_keepsOf 8 = .ok (.iaload, 1) := dk_46 (dk_at dksX0_keepsOf_0 8 rfl rfl)
theorem dX0_keepsOf_9 : decode cX0_keepsOf 9 = .ok (.istore 4, 2) := dk_54 4 (dk_at dksX0_keepsOf_0 9 rfl rfl)
theorem dX0_keepsOf_11 : decode cX0_keepsOf 11 = .ok (.aload_n 0, 1) := dk_42 (dk_at dksX0_keepsOf_0 11 rfl rfl)
theorem dX0_keepsOf_12 : decode cX0_keepsOf 12 = .ok (.getfield 120, 3) := dk_180 0 120 (dk_at dksX0_keepsOf_0 12 rfl rfl)
theorem dX0_keepsOf_15 : decode cX0_keepsOf 15 = .ok (.aload_n 0, 1) := dk_42 (dk_at dksX0_keepsOf_0 15 rfl rfl)
theorem dX0_keepsOf_16 : decode cX0_keepsOf 16 = .ok (.getfield 27, 3) := dk_180 0 27 (dk_at dksX0_keepsOf_0 16 rfl rfl)
theorem dX0_keepsOf_19 : decode cX0_keepsOf 19 = .ok (.invokevirtual 34, 3) := dk_182 0 34 (dk_at dksX0_keepsOf_0 19 rfl rfl)
theorem dX0_keepsOf_22 : decode cX0_keepsOf 22 = .ok (.iload_n 1, 1) := dk_27 (dk_at dksX0_keepsOf_0 22 rfl rfl)
theorem dX0_keepsOf_23 : decode cX0_keepsOf 23 = .ok (.iload_n 2, 1) := dk_28 (dk_at dksX0_keepsOf_0 23 rfl rfl)
theorem dX0_keepsOf_24 : decode cX0_keepsOf 24 = .ok (.invokevirtual 251, 3) := dk_182 0 251 (dk_at dksX0_keepsOf_1 0 rfl rfl)
theorem dX0_keepsOf_27 : decode cX0_keepsOf 27 = .ok (.aload_n 0, 1) := dk_42 (dk_at dksX0_keepsOf_1 3 rfl rfl)
theorem dX0_keepsOf_28 : decode cX0_keepsOf 28 = .ok (.getfield 120, 3) := dk_180 0 120 (dk_at dksX0_keepsOf_1 4 rfl rfl)
theorem dX0_keepsOf_31 : decode cX0_keepsOf 31 = .ok (.iload_n 3, 1) := dk_29 (dk_at dksX0_keepsOf_1 7 rfl rfl)
theorem dX0_keepsOf_32 : decode cX0_keepsOf 32 = .ok (.invokevirtual 221, 3) := dk_182 0 221 (dk_at dksX0_keepsOf_1 8 rfl rfl)
theorem dX0_keepsOf_35 : decode cX0_keepsOf 35 = .ok (.iload_n 2, 1) := dk_28 (dk_at dksX0_keepsOf_1 11 rfl rfl)
theorem dX0_keepsOf_36 : decode cX0_keepsOf 36 = .ok (.invokevirtual 210, 3) := dk_182 0 210 (dk_at dksX0_keepsOf_1 12 rfl rfl)
theorem dX0_keepsOf_39 : decode cX0_keepsOf 39 = .ok (.iload 4, 2) := dk_21 4 (dk_at dksX0_keepsOf_1 15 rfl rfl)
theorem dX0_keepsOf_41 : decode cX0_keepsOf 41 = .ok (.iand, 1) := dk_126 (dk_at dksX0_keepsOf_1 17 rfl rfl)
theorem dX0_keepsOf_42 : decode cX0_keepsOf 42 = .ok (.invokestatic 269, 3) := dk_184 1 13 (dk_at dksX0_keepsOf_1 18 rfl rfl)
theorem dX0_keepsOf_45 : decode cX0_keepsOf 45 = .ok (.ireturn, 1) := dk_172 (dk_at dksX0_keepsOf_1 21 rfl rfl)
abbrev cX0_match : ByteArray := prog_1_method_40_code
def yX0_match : MethodName := ⟨RX0, "match", "(II)I"⟩
def dkwX0_match_4 : List UInt8 := [28, 2, 160, 0, 10, 42, 180, 1, 24, 167, 0, 9, 42, 180, 0, 139, 28, 46, 172]
abbrev dktX0_match_4 : List UInt8 := dkwX0_match_4 ++ []
def dkwX0_match_3 : List UInt8 := [132, 4, 1, 167, 255, 227, 132, 3, 1, 167, 255, 210, 42, 2, 181, 1, 24, 42, 3, 3, 3, 182, 1, 30]
abbrev dktX0_match_3 : List UInt8 := dkwX0_match_3 ++ dktX0_match_4
def dkwX0_match_2 : List UInt8 := [42, 180, 0, 69, 162, 0, 26, 42, 180, 0, 133, 29, 50, 21, 4, 42, 29, 21, 4, 27, 182, 1, 20, 79]
abbrev dktX0_match_2 : List UInt8 := dkwX0_match_2 ++ dktX0_match_3
def dkwX0_match_1 : List UInt8 := [184, 0, 148, 154, 0, 6, 16, 253, 172, 3, 62, 29, 42, 180, 0, 72, 162, 0, 44, 3, 54, 4, 21, 4]
abbrev dktX0_match_1 : List UInt8 := dkwX0_match_1 ++ dktX0_match_2
def dkwX0_match_0 : List UInt8 := [28, 2, 159, 0, 14, 42, 28, 182, 0, 213, 154, 0, 6, 16, 254, 172, 27, 133, 10, 20, 1, 18]
abbrev dktX0_match_0 : List UInt8 := dkwX0_match_0 ++ dktX0_match_1
theorem dksX0_match_0 : cX0_match.data.toList.drop 0 = dktX0_match_0 := by decide +kernel
theorem dksX0_match_1 : cX0_match.data.toList.drop 22 = dktX0_match_1 := dk_seg dksX0_match_0 22 rfl rfl
theorem dksX0_match_2 : cX0_match.data.toList.drop 46 = dktX0_match_2 := dk_seg dksX0_match_1 24 rfl rfl
theorem dksX0_match_3 : cX0_match.data.toList.drop 70 = dktX0_match_3 := dk_seg dksX0_match_2 24 rfl rfl
theorem dksX0_match_4 : cX0_match.data.toList.drop 94 = dktX0_match_4 := dk_seg dksX0_match_3 24 rfl rfl
theorem dX0_match_0 : decode cX0_match 0 = .ok (.iload_n 2, 1) := dk_28 (dk_at dksX0_match_0 0 rfl rfl)
theorem dX0_match_1 : decode cX0_match 1 = .ok (.iconst (-1), 1) := dk_2 (dk_at dksX0_match_0 1 rfl rfl)
theorem dX0_match_2 : decode cX0_match 2 = .ok (.if_icmp .eq 14, 3) := dk_159 0 14 (dk_at dksX0_match_0 2 rfl rfl)
theorem dX0_match_5 : decode cX0_match 5 = .ok (.aload_n 0, 1) := dk_42 (dk_at dksX0_match_0 5 rfl rfl)
theorem dX0_match_6 : decode cX0_match 6 = .ok (.iload_n 2, 1) := dk_28 (dk_at dksX0_match_0 6 rfl rfl)
theorem dX0_match_7 : decode cX0_match 7 = .ok (.invokevirtual 213, 3) := dk_182 0 213 (dk_at dksX0_match_0 7 rfl rfl)
theorem dX0_match_10 : decode cX0_match 10 = .ok (.ifCond .ne 6, 3) := dk_154 0 6 (dk_at dksX0_match_0 10 rfl rfl)
theorem dX0_match_13 : decode cX0_match 13 = .ok (.bipush (-2), 2) := dk_16 254 (dk_at dksX0_match_0 13 rfl rfl)
theorem dX0_match_15 : decode cX0_match 15 = .ok (.ireturn, 1) := dk_172 (dk_at dksX0_match_0 15 rfl rfl)
theorem dX0_match_16 : decode cX0_match 16 = .ok (.iload_n 1, 1) := dk_27 (dk_at dksX0_match_0 16 rfl rfl)
theorem dX0_match_17 : decode cX0_match 17 = .ok (.i2l, 1) := dk_133 (dk_at dksX0_match_0 17 rfl rfl)
theorem dX0_match_18 : decode cX0_match 18 = .ok (.lconst 1, 1) := dk_10 (dk_at dksX0_match_0 18 rfl rfl)
theorem dX0_match_19 : decode cX0_match 19 = .ok (.ldc2_w 274, 3) := dk_20 1 18 (dk_at dksX0_match_0 19 rfl rfl)
theorem dX0_match_22 : decode cX0_match 22 = .ok (.invokestatic 148, 3) := dk_184 0 148 (dk_at dksX0_match_1 0 rfl rfl)
theorem dX0_match_25 : decode cX0_match 25 = .ok (.ifCond .ne 6, 3) := dk_154 0 6 (dk_at dksX0_match_1 3 rfl rfl)
theorem dX0_match_28 : decode cX0_match 28 = .ok (.bipush (-3), 2) := dk_16 253 (dk_at dksX0_match_1 6 rfl rfl)
theorem dX0_match_30 : decode cX0_match 30 = .ok (.ireturn, 1) := dk_172 (dk_at dksX0_match_1 8 rfl rfl)
theorem dX0_match_31 : decode cX0_match 31 = .ok (.iconst 0, 1) := dk_3 (dk_at dksX0_match_1 9 rfl rfl)
theorem dX0_match_32 : decode cX0_match 32 = .ok (.istore_n 3, 1) := dk_62 (dk_at dksX0_match_1 10 rfl rfl)
theorem dX0_match_33 : decode cX0_match 33 = .ok (.iload_n 3, 1) := dk_29 (dk_at dksX0_match_1 11 rfl rfl)
theorem dX0_match_34 : decode cX0_match 34 = .ok (.aload_n 0, 1) := dk_42 (dk_at dksX0_match_1 12 rfl rfl)
theorem dX0_match_35 : decode cX0_match 35 = .ok (.getfield 72, 3) := dk_180 0 72 (dk_at dksX0_match_1 13 rfl rfl)
theorem dX0_match_38 : decode cX0_match 38 = .ok (.if_icmp .ge 44, 3) := dk_162 0 44 (dk_at dksX0_match_1 16 rfl rfl)
theorem dX0_match_41 : decode cX0_match 41 = .ok (.iconst 0, 1) := dk_3 (dk_at dksX0_match_1 19 rfl rfl)
theorem dX0_match_42 : decode cX0_match 42 = .ok (.istore 4, 2) := dk_54 4 (dk_at dksX0_match_1 20 rfl rfl)
theorem dX0_match_44 : decode cX0_match 44 = .ok (.iload 4, 2) := dk_21 4 (dk_at dksX0_match_1 22 rfl rfl)
theorem dX0_match_46 : decode cX0_match 46 = .ok (.aload_n 0, 1) := dk_42 (dk_at dksX0_match_2 0 rfl rfl)
theorem dX0_match_47 : decode cX0_match 47 = .ok (.getfield 69, 3) := dk_180 0 69 (dk_at dksX0_match_2 1 rfl rfl)
theorem dX0_match_50 : decode cX0_match 50 = .ok (.if_icmp .ge 26, 3) := dk_162 0 26 (dk_at dksX0_match_2 4 rfl rfl)
theorem dX0_match_53 : decode cX0_match 53 = .ok (.aload_n 0, 1) := dk_42 (dk_at dksX0_match_2 7 rfl rfl)
theorem dX0_match_54 : decode cX0_match 54 = .ok (.getfield 133, 3) := dk_180 0 133 (dk_at dksX0_match_2 8 rfl rfl)
theorem dX0_match_57 : decode cX0_match 57 = .ok (.iload_n 3, 1) := dk_29 (dk_at dksX0_match_2 11 rfl rfl)
theorem dX0_match_58 : decode cX0_match 58 = .ok (.aaload, 1) := dk_50 (dk_at dksX0_match_2 12 rfl rfl)
theorem dX0_match_59 : decode cX0_match 59 = .ok (.iload 4, 2) := dk_21 4 (dk_at dksX0_match_2 13 rfl rfl)
theorem dX0_match_61 : decode cX0_match 61 = .ok (.aload_n 0, 1) := dk_42 (dk_at dksX0_match_2 15 rfl rfl)
theorem dX0_match_62 : decode cX0_match 62 = .ok (.iload_n 3, 1) := dk_29 (dk_at dksX0_match_2 16 rfl rfl)
theorem dX0_match_63 : decode cX0_match 63 = .ok (.iload 4, 2) := dk_21 4 (dk_at dksX0_match_2 17 rfl rfl)
theorem dX0_match_65 : decode cX0_match 65 = .ok (.iload_n 1, 1) := dk_27 (dk_at dksX0_match_2 19 rfl rfl)
theorem dX0_match_66 : decode cX0_match 66 = .ok (.invokevirtual 276, 3) := dk_182 1 20 (dk_at dksX0_match_2 20 rfl rfl)
theorem dX0_match_69 : decode cX0_match 69 = .ok (.iastore, 1) := dk_79 (dk_at dksX0_match_2 23 rfl rfl)
theorem dX0_match_70 : decode cX0_match 70 = .ok (.iinc 4 1, 3) := dk_132 4 1 (dk_at dksX0_match_3 0 rfl rfl)
theorem dX0_match_73 : decode cX0_match 73 = .ok (.goto (-29), 3) := dk_167 255 227 (dk_at dksX0_match_3 3 rfl rfl)
theorem dX0_match_76 : decode cX0_match 76 = .ok (.iinc 3 1, 3) := dk_132 3 1 (dk_at dksX0_match_3 6 rfl rfl)
theorem dX0_match_79 : decode cX0_match 79 = .ok (.goto (-46), 3) := dk_167 255 210 (dk_at dksX0_match_3 9 rfl rfl)
theorem dX0_match_82 : decode cX0_match 82 = .ok (.aload_n 0, 1) := dk_42 (dk_at dksX0_match_3 12 rfl rfl)
theorem dX0_match_83 : decode cX0_match 83 = .ok (.iconst (-1), 1) := dk_2 (dk_at dksX0_match_3 13 rfl rfl)
theorem dX0_match_84 : decode cX0_match 84 = .ok (.putfield 280, 3) := dk_181 1 24 (dk_at dksX0_match_3 14 rfl rfl)
theorem dX0_match_87 : decode cX0_match 87 = .ok (.aload_n 0, 1) := dk_42 (dk_at dksX0_match_3 17 rfl rfl)
theorem dX0_match_88 : decode cX0_match 88 = .ok (.iconst 0, 1) := dk_3 (dk_at dksX0_match_3 18 rfl rfl)
theorem dX0_match_89 : decode cX0_match 89 = .ok (.iconst 0, 1) := dk_3 (dk_at dksX0_match_3 19 rfl rfl)
theorem dX0_match_90 : decode cX0_match 90 = .ok (.iconst 0, 1) := dk_3 (dk_at dksX0_match_3 20 rfl rfl)
theorem dX0_match_91 : decode cX0_match 91 = .ok (.invokevirtual 286, 3) := dk_182 1 30 (dk_at dksX0_match_3 21 rfl rfl)
theorem dX0_match_94 : decode cX0_match 94 = .ok (.iload_n 2, 1) := dk_28 (dk_at dksX0_match_4 0 rfl rfl)
theorem dX0_match_95 : decode cX0_match 95 = .ok (.iconst (-1), 1) := dk_2 (dk_at dksX0_match_4 1 rfl rfl)
theorem dX0_match_96 : decode cX0_match 96 = .ok (.if_icmp .ne 10, 3) := dk_160 0 10 (dk_at dksX0_match_4 2 rfl rfl)
theorem dX0_match_99 : decode cX0_match 99 = .ok (.aload_n 0, 1) := dk_42 (dk_at dksX0_match_4 5 rfl rfl)
theorem dX0_match_100 : decode cX0_match 100 = .ok (.getfield 280, 3) := dk_180 1 24 (dk_at dksX0_match_4 6 rfl rfl)
theorem dX0_match_103 : decode cX0_match 103 = .ok (.goto 9, 3) := dk_167 0 9 (dk_at dksX0_match_4 9 rfl rfl)
theorem dX0_match_106 : decode cX0_match 106 = .ok (.aload_n 0, 1) := dk_42 (dk_at dksX0_match_4 12 rfl rfl)
theorem dX0_match_107 : decode cX0_match 107 = .ok (.getfield 139, 3) := dk_180 0 139 (dk_at dksX0_match_4 13 rfl rfl)
theorem dX0_match_110 : decode cX0_match 110 = .ok (.iload_n 2, 1) := dk_28 (dk_at dksX0_match_4 16 rfl rfl)
theorem dX0_match_111 : decode cX0_match 111 = .ok (.iaload, 1) := dk_46 (dk_at dksX0_match_4 17 rfl rfl)
theorem dX0_match_112 : decode cX0_match 112 = .ok (.ireturn, 1) := dk_172 (dk_at dksX0_match_4 18 rfl rfl)
abbrev cX0_matchOn : ByteArray := prog_1_method_39_code
def yX0_matchOn : MethodName := ⟨RX0, "matchOn", "(III)V"⟩
def dkwX0_matchOn_4 : List UInt8 := [132, 4, 1, 167, 255, 200, 42, 180, 0, 136, 27, 2, 79, 42, 27, 4, 96, 28, 29, 182, 1, 30, 177]
abbrev dktX0_matchOn_4 : List UInt8 := dkwX0_matchOn_4 ++ []
def dkwX0_matchOn_3 : List UInt8 := [27, 4, 96, 28, 4, 21, 4, 120, 128, 29, 42, 180, 0, 133, 27, 50, 21, 4, 46, 96, 182, 1, 30]
abbrev dktX0_matchOn_3 : List UInt8 := dkwX0_matchOn_3 ++ dktX0_matchOn_4
def dkwX0_matchOn_2 : List UInt8 := [162, 0, 53, 28, 21, 4, 184, 1, 27, 153, 0, 6, 167, 0, 35, 42, 180, 0, 136, 27, 21, 4, 79, 42]
abbrev dktX0_matchOn_2 : List UInt8 := dkwX0_matchOn_2 ++ dktX0_matchOn_3
def dkwX0_matchOn_1 : List UInt8 := [180, 0, 136, 3, 42, 180, 0, 139, 3, 7, 184, 0, 60, 177, 3, 54, 4, 21, 4, 42, 180, 0, 69]
abbrev dktX0_matchOn_1 : List UInt8 := dkwX0_matchOn_1 ++ dktX0_matchOn_2
def dkwX0_matchOn_0 : List UInt8 := [27, 42, 180, 0, 72, 160, 0, 31, 29, 42, 180, 1, 24, 164, 0, 22, 42, 29, 181, 1, 24, 42]
abbrev dktX0_matchOn_0 : List UInt8 := dkwX0_matchOn_0 ++ dktX0_matchOn_1
theorem dksX0_matchOn_0 : cX0_matchOn.data.toList.drop 0 = dktX0_matchOn_0 := by decide +kernel
theorem dksX0_matchOn_1 : cX0_matchOn.data.toList.drop 22 = dktX0_matchOn_1 := dk_seg dksX0_matchOn_0 22 rfl rfl
theorem dksX0_matchOn_2 : cX0_matchOn.data.toList.drop 45 = dktX0_matchOn_2 := dk_seg dksX0_matchOn_1 23 rfl rfl
theorem dksX0_matchOn_3 : cX0_matchOn.data.toList.drop 69 = dktX0_matchOn_3 := dk_seg dksX0_matchOn_2 24 rfl rfl
theorem dksX0_matchOn_4 : cX0_matchOn.data.toList.drop 92 = dktX0_matchOn_4 := dk_seg dksX0_matchOn_3 23 rfl rfl
theorem dX0_matchOn_0 : decode cX0_matchOn 0 = .ok (.iload_n 1, 1) := dk_27 (dk_at dksX0_matchOn_0 0 rfl rfl)
theorem dX0_matchOn_1 : decode cX0_matchOn 1 = .ok (.aload_n 0, 1) := dk_42 (dk_at dksX0_matchOn_0 1 rfl rfl)
theorem dX0_matchOn_2 : decode cX0_matchOn 2 = .ok (.getfield 72, 3) := dk_180 0 72 (dk_at dksX0_matchOn_0 2 rfl rfl)
theorem dX0_matchOn_5 : decode cX0_matchOn 5 = .ok (.if_icmp .ne 31, 3) := dk_160 0 31 (dk_at dksX0_matchOn_0 5 rfl rfl)
theorem dX0_matchOn_8 : decode cX0_matchOn 8 = .ok (.iload_n 3, 1) := dk_29 (dk_at dksX0_matchOn_0 8 rfl rfl)
theorem dX0_matchOn_9 : decode cX0_matchOn 9 = .ok (.aload_n 0, 1) := dk_42 (dk_at dksX0_matchOn_0 9 rfl rfl)
theorem dX0_matchOn_10 : decode cX0_matchOn 10 = .ok (.getfield 280, 3) := dk_180 1 24 (dk_at dksX0_matchOn_0 10 rfl rfl)
theorem dX0_matchOn_13 : decode cX0_matchOn 13 = .ok (.if_icmp .le 22, 3) := dk_164 0 22 (dk_at dksX0_matchOn_0 13 rfl rfl)
theorem dX0_matchOn_16 : decode cX0_matchOn 16 = .ok (.aload_n 0, 1) := dk_42 (dk_at dksX0_matchOn_0 16 rfl rfl)
theorem dX0_matchOn_17 : decode cX0_matchOn 17 = .ok (.iload_n 3, 1) := dk_29 (dk_at dksX0_matchOn_0 17 rfl rfl)
theorem dX0_matchOn_18 : decode cX0_matchOn 18 = .ok (.putfield 280, 3) := dk_181 1 24 (dk_at dksX0_matchOn_0 18 rfl rfl)
theorem dX0_matchOn_21 : decode cX0_matchOn 21 = .ok (.aload_n 0, 1) := dk_42 (dk_at dksX0_matchOn_0 21 rfl rfl)
theorem dX0_matchOn_22 : decode cX0_matchOn 22 = .ok (.getfield 136, 3) := dk_180 0 136 (dk_at dksX0_matchOn_1 0 rfl rfl)
theorem dX0_matchOn_25 : decode cX0_matchOn 25 = .ok (.iconst 0, 1) := dk_3 (dk_at dksX0_matchOn_1 3 rfl rfl)
theorem dX0_matchOn_26 : decode cX0_matchOn 26 = .ok (.aload_n 0, 1) := dk_42 (dk_at dksX0_matchOn_1 4 rfl rfl)
theorem dX0_matchOn_27 : decode cX0_matchOn 27 = .ok (.getfield 139, 3) := dk_180 0 139 (dk_at dksX0_matchOn_1 5 rfl rfl)
theorem dX0_matchOn_30 : decode cX0_matchOn 30 = .ok (.iconst 0, 1) := dk_3 (dk_at dksX0_matchOn_1 8 rfl rfl)
theorem dX0_matchOn_31 : decode cX0_matchOn 31 = .ok (.iconst 4, 1) := dk_7 (dk_at dksX0_matchOn_1 9 rfl rfl)
theorem dX0_matchOn_32 : decode cX0_matchOn 32 = .ok (.invokestatic 60, 3) := dk_184 0 60 (dk_at dksX0_matchOn_1 10 rfl rfl)
theorem dX0_matchOn_35 : decode cX0_matchOn 35 = .ok (.return_, 1) := dk_177 (dk_at dksX0_matchOn_1 13 rfl rfl)
theorem dX0_matchOn_36 : decode cX0_matchOn 36 = .ok (.iconst 0, 1) := dk_3 (dk_at dksX0_matchOn_1 14 rfl rfl)
theorem dX0_matchOn_37 : decode cX0_matchOn 37 = .ok (.istore 4, 2) := dk_54 4 (dk_at dksX0_matchOn_1 15 rfl rfl)
theorem dX0_matchOn_39 : decode cX0_matchOn 39 = .ok (.iload 4, 2) := dk_21 4 (dk_at dksX0_matchOn_1 17 rfl rfl)
theorem dX0_matchOn_41 : decode cX0_matchOn 41 = .ok (.aload_n 0, 1) := dk_42 (dk_at dksX0_matchOn_1 19 rfl rfl)
theorem dX0_matchOn_42 : decode cX0_matchOn 42 = .ok (.getfield 69, 3) := dk_180 0 69 (dk_at dksX0_matchOn_1 20 rfl rfl)
theorem dX0_matchOn_45 : decode cX0_matchOn 45 = .ok (.if_icmp .ge 53, 3) := dk_162 0 53 (dk_at dksX0_matchOn_2 0 rfl rfl)
theorem dX0_matchOn_48 : decode cX0_matchOn 48 = .ok (.iload_n 2, 1) := dk_28 (dk_at dksX0_matchOn_2 3 rfl rfl)
theorem dX0_matchOn_49 : decode cX0_matchOn 49 = .ok (.iload 4, 2) := dk_21 4 (dk_at dksX0_matchOn_2 4 rfl rfl)
theorem dX0_matchOn_51 : decode cX0_matchOn 51 = .ok (.invokestatic 283, 3) := dk_184 1 27 (dk_at dksX0_matchOn_2 6 rfl rfl)
theorem dX0_matchOn_54 : decode cX0_matchOn 54 = .ok (.ifCond .eq 6, 3) := dk_153 0 6 (dk_at dksX0_matchOn_2 9 rfl rfl)
theorem dX0_matchOn_57 : decode cX0_matchOn 57 = .ok (.goto 35, 3) := dk_167 0 35 (dk_at dksX0_matchOn_2 12 rfl rfl)
theorem dX0_matchOn_60 : decode cX0_matchOn 60 = .ok (.aload_n 0, 1) := dk_42 (dk_at dksX0_matchOn_2 15 rfl rfl)
theorem dX0_matchOn_61 : decode cX0_matchOn 61 = .ok (.getfield 136, 3) := dk_180 0 136 (dk_at dksX0_matchOn_2 16 rfl rfl)
theorem dX0_matchOn_64 : decode cX0_matchOn 64 = .ok (.iload_n 1, 1) := dk_27 (dk_at dksX0_matchOn_2 19 rfl rfl)
theorem dX0_matchOn_65 : decode cX0_matchOn 65 = .ok (.iload 4, 2) := dk_21 4 (dk_at dksX0_matchOn_2 20 rfl rfl)
theorem dX0_matchOn_67 : decode cX0_matchOn 67 = .ok (.iastore, 1) := dk_79 (dk_at dksX0_matchOn_2 22 rfl rfl)
theorem dX0_matchOn_68 : decode cX0_matchOn 68 = .ok (.aload_n 0, 1) := dk_42 (dk_at dksX0_matchOn_2 23 rfl rfl)
theorem dX0_matchOn_69 : decode cX0_matchOn 69 = .ok (.iload_n 1, 1) := dk_27 (dk_at dksX0_matchOn_3 0 rfl rfl)
theorem dX0_matchOn_70 : decode cX0_matchOn 70 = .ok (.iconst 1, 1) := dk_4 (dk_at dksX0_matchOn_3 1 rfl rfl)
theorem dX0_matchOn_71 : decode cX0_matchOn 71 = .ok (.iadd, 1) := dk_96 (dk_at dksX0_matchOn_3 2 rfl rfl)
theorem dX0_matchOn_72 : decode cX0_matchOn 72 = .ok (.iload_n 2, 1) := dk_28 (dk_at dksX0_matchOn_3 3 rfl rfl)
theorem dX0_matchOn_73 : decode cX0_matchOn 73 = .ok (.iconst 1, 1) := dk_4 (dk_at dksX0_matchOn_3 4 rfl rfl)
theorem dX0_matchOn_74 : decode cX0_matchOn 74 = .ok (.iload 4, 2) := dk_21 4 (dk_at dksX0_matchOn_3 5 rfl rfl)
theorem dX0_matchOn_76 : decode cX0_matchOn 76 = .ok (.ishl, 1) := dk_120 (dk_at dksX0_matchOn_3 7 rfl rfl)
theorem dX0_matchOn_77 : decode cX0_matchOn 77 = .ok (.ior, 1) := dk_128 (dk_at dksX0_matchOn_3 8 rfl rfl)
theorem dX0_matchOn_78 : decode cX0_matchOn 78 = .ok (.iload_n 3, 1) := dk_29 (dk_at dksX0_matchOn_3 9 rfl rfl)
theorem dX0_matchOn_79 : decode cX0_matchOn 79 = .ok (.aload_n 0, 1) := dk_42 (dk_at dksX0_matchOn_3 10 rfl rfl)
theorem dX0_matchOn_80 : decode cX0_matchOn 80 = .ok (.getfield 133, 3) := dk_180 0 133 (dk_at dksX0_matchOn_3 11 rfl rfl)
theorem dX0_matchOn_83 : decode cX0_matchOn 83 = .ok (.iload_n 1, 1) := dk_27 (dk_at dksX0_matchOn_3 14 rfl rfl)
theorem dX0_matchOn_84 : decode cX0_matchOn 84 = .ok (.aaload, 1) := dk_50 (dk_at dksX0_matchOn_3 15 rfl rfl)
theorem dX0_matchOn_85 : decode cX0_matchOn 85 = .ok (.iload 4, 2) := dk_21 4 (dk_at dksX0_matchOn_3 16 rfl rfl)
theorem dX0_matchOn_87 : decode cX0_matchOn 87 = .ok (.iaload, 1) := dk_46 (dk_at dksX0_matchOn_3 18 rfl rfl)
theorem dX0_matchOn_88 : decode cX0_matchOn 88 = .ok (.iadd, 1) := dk_96 (dk_at dksX0_matchOn_3 19 rfl rfl)
theorem dX0_matchOn_89 : decode cX0_matchOn 89 = .ok (.invokevirtual 286, 3) := dk_182 1 30 (dk_at dksX0_matchOn_3 20 rfl rfl)
theorem dX0_matchOn_92 : decode cX0_matchOn 92 = .ok (.iinc 4 1, 3) := dk_132 4 1 (dk_at dksX0_matchOn_4 0 rfl rfl)
theorem dX0_matchOn_95 : decode cX0_matchOn 95 = .ok (.goto (-56), 3) := dk_167 255 200 (dk_at dksX0_matchOn_4 3 rfl rfl)
theorem dX0_matchOn_98 : decode cX0_matchOn 98 = .ok (.aload_n 0, 1) := dk_42 (dk_at dksX0_matchOn_4 6 rfl rfl)
theorem dX0_matchOn_99 : decode cX0_matchOn 99 = .ok (.getfield 136, 3) := dk_180 0 136 (dk_at dksX0_matchOn_4 7 rfl rfl)
theorem dX0_matchOn_102 : decode cX0_matchOn 102 = .ok (.iload_n 1, 1) := dk_27 (dk_at dksX0_matchOn_4 10 rfl rfl)
theorem dX0_matchOn_103 : decode cX0_matchOn 103 = .ok (.iconst (-1), 1) := dk_2 (dk_at dksX0_matchOn_4 11 rfl rfl)
theorem dX0_matchOn_104 : decode cX0_matchOn 104 = .ok (.iastore, 1) := dk_79 (dk_at dksX0_matchOn_4 12 rfl rfl)
theorem dX0_matchOn_105 : decode cX0_matchOn 105 = .ok (.aload_n 0, 1) := dk_42 (dk_at dksX0_matchOn_4 13 rfl rfl)
theorem dX0_matchOn_106 : decode cX0_matchOn 106 = .ok (.iload_n 1, 1) := dk_27 (dk_at dksX0_matchOn_4 14 rfl rfl)
theorem dX0_matchOn_107 : decode cX0_matchOn 107 = .ok (.iconst 1, 1) := dk_4 (dk_at dksX0_matchOn_4 15 rfl rfl)
theorem dX0_matchOn_108 : decode cX0_matchOn 108 = .ok (.iadd, 1) := dk_96 (dk_at dksX0_matchOn_4 16 rfl rfl)
theorem dX0_matchOn_109 : decode cX0_matchOn 109 = .ok (.iload_n 2, 1) := dk_28 (dk_at dksX0_matchOn_4 17 rfl rfl)
theorem dX0_matchOn_110 : decode cX0_matchOn 110 = .ok (.iload_n 3, 1) := dk_29 (dk_at dksX0_matchOn_4 18 rfl rfl)
theorem dX0_matchOn_111 : decode cX0_matchOn 111 = .ok (.invokevirtual 286, 3) := dk_182 1 30 (dk_at dksX0_matchOn_4 19 rfl rfl)
theorem dX0_matchOn_114 : decode cX0_matchOn 114 = .ok (.return_, 1) := dk_177 (dk_at dksX0_matchOn_4 22 rfl rfl)
abbrev cX0_clean : ByteArray := prog_1_method_41_code
def yX0_clean : MethodName := ⟨RX0, "clean", "(III)I"⟩
def dkwX0_clean_6 : List UInt8 := [162, 0, 8, 21, 6, 167, 0, 5, 21, 5, 54, 5, 132, 6, 1, 167, 255, 165, 21, 5, 172]
abbrev dktX0_clean_6 : List UInt8 := dkwX0_clean_6 ++ []
def dkwX0_clean_5 : List UInt8 := [21, 6, 128, 181, 0, 75, 42, 180, 0, 120, 29, 182, 0, 221, 180, 0, 92, 27, 50, 28, 51, 8]
abbrev dktX0_clean_5 : List UInt8 := dkwX0_clean_5 ++ dktX0_clean_6
def dkwX0_clean_4 : List UInt8 := [184, 1, 13, 161, 0, 6, 167, 0, 52, 42, 180, 0, 120, 42, 180, 0, 27, 182, 0, 34, 89, 180, 0, 75]
abbrev dktX0_clean_4 : List UInt8 := dkwX0_clean_4 ++ dktX0_clean_5
def dkwX0_clean_3 : List UInt8 := [21, 6, 21, 4, 2, 130, 126, 154, 0, 74, 21, 5, 2, 159, 0, 19, 21, 6, 184, 1, 13, 21, 5]
abbrev dktX0_clean_3 : List UInt8 := dkwX0_clean_3 ++ dktX0_clean_4
def dkwX0_clean_2 : List UInt8 := [2, 130, 126, 4, 27, 120, 2, 130, 126, 54, 4, 2, 54, 5, 3, 54, 6, 21, 6, 21, 4, 163, 0, 90]
abbrev dktX0_clean_2 : List UInt8 := dkwX0_clean_2 ++ dktX0_clean_3
def dkwX0_clean_1 : List UInt8 := [184, 0, 148, 154, 0, 6, 16, 253, 172, 4, 42, 180, 0, 69, 120, 4, 100, 42, 180, 0, 27, 180, 0, 75]
abbrev dktX0_clean_1 : List UInt8 := dkwX0_clean_1 ++ dktX0_clean_2
def dkwX0_clean_0 : List UInt8 := [42, 27, 182, 0, 194, 153, 0, 10, 28, 184, 0, 216, 154, 0, 6, 16, 254, 172, 29, 133, 10, 20, 1, 18]
abbrev dktX0_clean_0 : List UInt8 := dkwX0_clean_0 ++ dktX0_clean_1
theorem dksX0_clean_0 : cX0_clean.data.toList.drop 0 = dktX0_clean_0 := by decide +kernel
theorem dksX0_clean_1 : cX0_clean.data.toList.drop 24 = dktX0_clean_1 := dk_seg dksX0_clean_0 24 rfl rfl
theorem dksX0_clean_2 : cX0_clean.data.toList.drop 48 = dktX0_clean_2 := dk_seg dksX0_clean_1 24 rfl rfl
theorem dksX0_clean_3 : cX0_clean.data.toList.drop 72 = dktX0_clean_3 := dk_seg dksX0_clean_2 24 rfl rfl
theorem dksX0_clean_4 : cX0_clean.data.toList.drop 95 = dktX0_clean_4 := dk_seg dksX0_clean_3 23 rfl rfl
theorem dksX0_clean_5 : cX0_clean.data.toList.drop 119 = dktX0_clean_5 := dk_seg dksX0_clean_4 24 rfl rfl
theorem dksX0_clean_6 : cX0_clean.data.toList.drop 141 = dktX0_clean_6 := dk_seg dksX0_clean_5 22 rfl rfl
theorem dX0_clean_0 : decode cX0_clean 0 = .ok (.aload_n 0, 1) := dk_42 (dk_at dksX0_clean_0 0 rfl rfl)
theorem dX0_clean_1 : decode cX0_clean 1 = .ok (.iload_n 1, 1) := dk_27 (dk_at dksX0_clean_0 1 rfl rfl)
theorem dX0_clean_2 : decode cX0_clean 2 = .ok (.invokevirtual 194, 3) := dk_182 0 194 (dk_at dksX0_clean_0 2 rfl rfl)
theorem dX0_clean_5 : decode cX0_clean 5 = .ok (.ifCond .eq 10, 3) := dk_153 0 10 (dk_at dksX0_clean_0 5 rfl rfl)
theorem dX0_clean_8 : decode cX0_clean 8 = .ok (.iload_n 2, 1) := dk_28 (dk_at dksX0_clean_0 8 rfl rfl)
theorem dX0_clean_9 : decode cX0_clean 9 = .ok (.invokestatic 216, 3) := dk_184 0 216 (dk_at dksX0_clean_0 9 rfl rfl)
theorem dX0_clean_12 : decode cX0_clean 12 = .ok (.ifCond .ne 6, 3) := dk_154 0 6 (dk_at dksX0_clean_0 12 rfl rfl)
theorem dX0_clean_15 : decode cX0_clean 15 = .ok (.bipush (-2), 2) := dk_16 254 (dk_at dksX0_clean_0 15 rfl rfl)
theorem dX0_clean_17 : decode cX0_clean 17 = .ok (.ireturn, 1) := dk_172 (dk_at dksX0_clean_0 17 rfl rfl)
theorem dX0_clean_18 : decode cX0_clean 18 = .ok (.iload_n 3, 1) := dk_29 (dk_at dksX0_clean_0 18 rfl rfl)
theorem dX0_clean_19 : decode cX0_clean 19 = .ok (.i2l, 1) := dk_133 (dk_at dksX0_clean_0 19 rfl rfl)
theorem dX0_clean_20 : decode cX0_clean 20 = .ok (.lconst 1, 1) := dk_10 (dk_at dksX0_clean_0 20 rfl rfl)
theorem dX0_clean_21 : decode cX0_clean 21 = .ok (.ldc2_w 274, 3) := dk_20 1 18 (dk_at dksX0_clean_0 21 rfl rfl)
theorem dX0_clean_24 : decode cX0_clean 24 = .ok (.invokestatic 148, 3) := dk_184 0 148 (dk_at dksX0_clean_1 0 rfl rfl)
theorem dX0_clean_27 : decode cX0_clean 27 = .ok (.ifCond .ne 6, 3) := dk_154 0 6 (dk_at dksX0_clean_1 3 rfl rfl)
theorem dX0_clean_30 : decode cX0_clean 30 = .ok (.bipush (-3), 2) := dk_16 253 (dk_at dksX0_clean_1 6 rfl rfl)
theorem dX0_clean_32 : decode cX0_clean 32 = .ok (.ireturn, 1) := dk_172 (dk_at dksX0_clean_1 8 rfl rfl)
theorem dX0_clean_33 : decode cX0_clean 33 = .ok (.iconst 1, 1) := dk_4 (dk_at dksX0_clean_1 9 rfl rfl)
theorem dX0_clean_34 : decode cX0_clean 34 = .ok (.aload_n 0, 1) := dk_42 (dk_at dksX0_clean_1 10 rfl rfl)
theorem dX0_clean_35 : decode cX0_clean 35 = .ok (.getfield 69, 3) := dk_180 0 69 (dk_at dksX0_clean_1 11 rfl rfl)
theorem dX0_clean_38 : decode cX0_clean 38 = .ok (.ishl, 1) := dk_120 (dk_at dksX0_clean_1 14 rfl rfl)
theorem dX0_clean_39 : decode cX0_clean 39 = .ok (.iconst 1, 1) := dk_4 (dk_at dksX0_clean_1 15 rfl rfl)
theorem dX0_clean_40 : decode cX0_clean 40 = .ok (.isub, 1) := dk_100 (dk_at dksX0_clean_1 16 rfl rfl)
theorem dX0_clean_41 : decode cX0_clean 41 = .ok (.aload_n 0, 1) := dk_42 (dk_at dksX0_clean_1 17 rfl rfl)
theorem dX0_clean_42 : decode cX0_clean 42 = .ok (.getfield 27, 3) := dk_180 0 27 (dk_at dksX0_clean_1 18 rfl rfl)
theorem dX0_clean_45 : decode cX0_clean 45 = .ok (.getfield 75, 3) := dk_180 0 75 (dk_at dksX0_clean_1 21 rfl rfl)
theorem dX0_clean_48 : decode cX0_clean 48 = .ok (.iconst (-1), 1) := dk_2 (dk_at dksX0_clean_2 0 rfl rfl)
theorem dX0_clean_49 : decode cX0_clean 49 = .ok (.ixor, 1) := dk_130 (dk_at dksX0_clean_2 1 rfl rfl)
theorem dX0_clean_50 : decode cX0_clean 50 = .ok (.iand, 1) := dk_126 (dk_at dksX0_clean_2 2 rfl rfl)
theorem dX0_clean_51 : decode cX0_clean 51 = .ok (.iconst 1, 1) := dk_4 (dk_at dksX0_clean_2 3 rfl rfl)
theorem dX0_clean_52 : decode cX0_clean 52 = .ok (.iload_n 1, 1) := dk_27 (dk_at dksX0_clean_2 4 rfl rfl)
theorem dX0_clean_53 : decode cX0_clean 53 = .ok (.ishl, 1) := dk_120 (dk_at dksX0_clean_2 5 rfl rfl)
theorem dX0_clean_54 : decode cX0_clean 54 = .ok (.iconst (-1), 1) := dk_2 (dk_at dksX0_clean_2 6 rfl rfl)
theorem dX0_clean_55 : decode cX0_clean 55 = .ok (.ixor, 1) := dk_130 (dk_at dksX0_clean_2 7 rfl rfl)
theorem dX0_clean_56 : decode cX0_clean 56 = .ok (.iand, 1) := dk_126 (dk_at dksX0_clean_2 8 rfl rfl)
theorem dX0_clean_57 : decode cX0_clean 57 = .ok (.istore 4, 2) := dk_54 4 (dk_at dksX0_clean_2 9 rfl rfl)
theorem dX0_clean_59 : decode cX0_clean 59 = .ok (.iconst (-1), 1) := dk_2 (dk_at dksX0_clean_2 11 rfl rfl)
theorem dX0_clean_60 : decode cX0_clean 60 = .ok (.istore 5, 2) := dk_54 5 (dk_at dksX0_clean_2 12 rfl rfl)
theorem dX0_clean_62 : decode cX0_clean 62 = .ok (.iconst 0, 1) := dk_3 (dk_at dksX0_clean_2 14 rfl rfl)
theorem dX0_clean_63 : decode cX0_clean 63 = .ok (.istore 6, 2) := dk_54 6 (dk_at dksX0_clean_2 15 rfl rfl)
theorem dX0_clean_65 : decode cX0_clean 65 = .ok (.iload 6, 2) := dk_21 6 (dk_at dksX0_clean_2 17 rfl rfl)
theorem dX0_clean_67 : decode cX0_clean 67 = .ok (.iload 4, 2) := dk_21 4 (dk_at dksX0_clean_2 19 rfl rfl)
theorem dX0_clean_69 : decode cX0_clean 69 = .ok (.if_icmp .gt 90, 3) := dk_163 0 90 (dk_at dksX0_clean_2 21 rfl rfl)
theorem dX0_clean_72 : decode cX0_clean 72 = .ok (.iload 6, 2) := dk_21 6 (dk_at dksX0_clean_3 0 rfl rfl)
theorem dX0_clean_74 : decode cX0_clean 74 = .ok (.iload 4, 2) := dk_21 4 (dk_at dksX0_clean_3 2 rfl rfl)
theorem dX0_clean_76 : decode cX0_clean 76 = .ok (.iconst (-1), 1) := dk_2 (dk_at dksX0_clean_3 4 rfl rfl)
theorem dX0_clean_77 : decode cX0_clean 77 = .ok (.ixor, 1) := dk_130 (dk_at dksX0_clean_3 5 rfl rfl)
theorem dX0_clean_78 : decode cX0_clean 78 = .ok (.iand, 1) := dk_126 (dk_at dksX0_clean_3 6 rfl rfl)
theorem dX0_clean_79 : decode cX0_clean 79 = .ok (.ifCond .ne 74, 3) := dk_154 0 74 (dk_at dksX0_clean_3 7 rfl rfl)
theorem dX0_clean_82 : decode cX0_clean 82 = .ok (.iload 5, 2) := dk_21 5 (dk_at dksX0_clean_3 10 rfl rfl)
theorem dX0_clean_84 : decode cX0_clean 84 = .ok (.iconst (-1), 1) := dk_2 (dk_at dksX0_clean_3 12 rfl rfl)
theorem dX0_clean_85 : decode cX0_clean 85 = .ok (.if_icmp .eq 19, 3) := dk_159 0 19 (dk_at dksX0_clean_3 13 rfl rfl)
theorem dX0_clean_88 : decode cX0_clean 88 = .ok (.iload 6, 2) := dk_21 6 (dk_at dksX0_clean_3 16 rfl rfl)
theorem dX0_clean_90 : decode cX0_clean 90 = .ok (.invokestatic 269, 3) := dk_184 1 13 (dk_at dksX0_clean_3 18 rfl rfl)
theorem dX0_clean_93 : decode cX0_clean 93 = .ok (.iload 5, 2) := dk_21 5 (dk_at dksX0_clean_3 21 rfl rfl)
theorem dX0_clean_95 : decode cX0_clean 95 = .ok (.invokestatic 269, 3) := dk_184 1 13 (dk_at dksX0_clean_4 0 rfl rfl)
theorem dX0_clean_98 : decode cX0_clean 98 = .ok (.if_icmp .lt 6, 3) := dk_161 0 6 (dk_at dksX0_clean_4 3 rfl rfl)
theorem dX0_clean_101 : decode cX0_clean 101 = .ok (.goto 52, 3) := dk_167 0 52 (dk_at dksX0_clean_4 6 rfl rfl)
theorem dX0_clean_104 : decode cX0_clean 104 = .ok (.aload_n 0, 1) := dk_42 (dk_at dksX0_clean_4 9 rfl rfl)
theorem dX0_clean_105 : decode cX0_clean 105 = .ok (.getfield 120, 3) := dk_180 0 120 (dk_at dksX0_clean_4 10 rfl rfl)
theorem dX0_clean_108 : decode cX0_clean 108 = .ok (.aload_n 0, 1) := dk_42 (dk_at dksX0_clean_4 13 rfl rfl)
theorem dX0_clean_109 : decode cX0_clean 109 = .ok (.getfield 27, 3) := dk_180 0 27 (dk_at dksX0_clean_4 14 rfl rfl)
theorem dX0_clean_112 : decode cX0_clean 112 = .ok (.invokevirtual 34, 3) := dk_182 0 34 (dk_at dksX0_clean_4 17 rfl rfl)
theorem dX0_clean_115 : decode cX0_clean 115 = .ok (.dup, 1) := dk_89 (dk_at dksX0_clean_4 20 rfl rfl)
theorem dX0_clean_116 : decode cX0_clean 116 = .ok (.getfield 75, 3) := dk_180 0 75 (dk_at dksX0_clean_4 21 rfl rfl)
theorem dX0_clean_119 : decode cX0_clean 119 = .ok (.iload 6, 2) := dk_21 6 (dk_at dksX0_clean_5 0 rfl rfl)
theorem dX0_clean_121 : decode cX0_clean 121 = .ok (.ior, 1) := dk_128 (dk_at dksX0_clean_5 2 rfl rfl)
theorem dX0_clean_122 : decode cX0_clean 122 = .ok (.putfield 75, 3) := dk_181 0 75 (dk_at dksX0_clean_5 3 rfl rfl)
theorem dX0_clean_125 : decode cX0_clean 125 = .ok (.aload_n 0, 1) := dk_42 (dk_at dksX0_clean_5 6 rfl rfl)
theorem dX0_clean_126 : decode cX0_clean 126 = .ok (.getfield 120, 3) := dk_180 0 120 (dk_at dksX0_clean_5 7 rfl rfl)
theorem dX0_clean_129 : decode cX0_clean 129 = .ok (.iload_n 3, 1) := dk_29 (dk_at dksX0_clean_5 10 rfl rfl)
theorem dX0_clean_130 : decode cX0_clean 130 = .ok (.invokevirtual 221, 3) := dk_182 0 221 (dk_at dksX0_clean_5 11 rfl rfl)
theorem dX0_clean_133 : decode cX0_clean 133 = .ok (.getfield 92, 3) := dk_180 0 92 (dk_at dksX0_clean_5 14 rfl rfl)
theorem dX0_clean_136 : decode cX0_clean 136 = .ok (.iload_n 1, 1) := dk_27 (dk_at dksX0_clean_5 17 rfl rfl)
theorem dX0_clean_137 : decode cX0_clean 137 = .ok (.aaload, 1) := dk_50 (dk_at dksX0_clean_5 18 rfl rfl)
theorem dX0_clean_138 : decode cX0_clean 138 = .ok (.iload_n 2, 1) := dk_28 (dk_at dksX0_clean_5 19 rfl rfl)
theorem dX0_clean_139 : decode cX0_clean 139 = .ok (.baload, 1) := dk_51 (dk_at dksX0_clean_5 20 rfl rfl)
theorem dX0_clean_140 : decode cX0_clean 140 = .ok (.iconst 5, 1) := dk_8 (dk_at dksX0_clean_5 21 rfl rfl)
theorem dX0_clean_141 : decode cX0_clean 141 = .ok (.if_icmp .ge 8, 3) := dk_162 0 8 (dk_at dksX0_clean_6 0 rfl rfl)
theorem dX0_clean_144 : decode cX0_clean 144 = .ok (.iload 6, 2) := dk_21 6 (dk_at dksX0_clean_6 3 rfl rfl)
theorem dX0_clean_146 : decode cX0_clean 146 = .ok (.goto 5, 3) := dk_167 0 5 (dk_at dksX0_clean_6 5 rfl rfl)
theorem dX0_clean_149 : decode cX0_clean 149 = .ok (.iload 5, 2) := dk_21 5 (dk_at dksX0_clean_6 8 rfl rfl)
theorem dX0_clean_151 : decode cX0_clean 151 = .ok (.istore 5, 2) := dk_54 5 (dk_at dksX0_clean_6 10 rfl rfl)
theorem dX0_clean_153 : decode cX0_clean 153 = .ok (.iinc 6 1, 3) := dk_132 6 1 (dk_at dksX0_clean_6 12 rfl rfl)
theorem dX0_clean_156 : decode cX0_clean 156 = .ok (.goto (-91), 3) := dk_167 255 165 (dk_at dksX0_clean_6 15 rfl rfl)
theorem dX0_clean_159 : decode cX0_clean 159 = .ok (.iload 5, 2) := dk_21 5 (dk_at dksX0_clean_6 18 rfl rfl)
theorem dX0_clean_161 : decode cX0_clean 161 = .ok (.ireturn, 1) := dk_172 (dk_at dksX0_clean_6 20 rfl rfl)
abbrev cX0_of : ByteArray := prog_1_method_42_code
def yX0_of : MethodName := ⟨RX0, "of", "(II)I"⟩
def dkwX0_of_3 : List UInt8 := [29, 184, 1, 38, 100, 172]
abbrev dktX0_of_3 : List UInt8 := dkwX0_of_3 ++ []
def dkwX0_of_2 : List UInt8 := [154, 0, 14, 29, 42, 180, 1, 10, 122, 4, 126, 167, 0, 18, 29, 154, 0, 7, 2, 167, 0, 10, 16, 31]
abbrev dktX0_of_2 : List UInt8 := dkwX0_of_2 ++ dktX0_of_3
def dkwX0_of_1 : List UInt8 := [180, 0, 188, 199, 0, 6, 16, 252, 172, 42, 27, 182, 1, 7, 42, 180, 0, 188, 4, 182, 1, 33, 62, 28]
abbrev dktX0_of_1 : List UInt8 := dkwX0_of_1 ++ dktX0_of_2
def dkwX0_of_0 : List UInt8 := [27, 184, 0, 248, 154, 0, 6, 16, 254, 172, 28, 133, 9, 10, 184, 0, 148, 154, 0, 6, 16, 253, 172, 42]
abbrev dktX0_of_0 : List UInt8 := dkwX0_of_0 ++ dktX0_of_1
theorem dksX0_of_0 : cX0_of.data.toList.drop 0 = dktX0_of_0 := by decide +kernel
theorem dksX0_of_1 : cX0_of.data.toList.drop 24 = dktX0_of_1 := dk_seg dksX0_of_0 24 rfl rfl
theorem dksX0_of_2 : cX0_of.data.toList.drop 48 = dktX0_of_2 := dk_seg dksX0_of_1 24 rfl rfl
theorem dksX0_of_3 : cX0_of.data.toList.drop 72 = dktX0_of_3 := dk_seg dksX0_of_2 24 rfl rfl
theorem dX0_of_0 : decode cX0_of 0 = .ok (.iload_n 1, 1) := dk_27 (dk_at dksX0_of_0 0 rfl rfl)
theorem dX0_of_1 : decode cX0_of 1 = .ok (.invokestatic 248, 3) := dk_184 0 248 (dk_at dksX0_of_0 1 rfl rfl)
theorem dX0_of_4 : decode cX0_of 4 = .ok (.ifCond .ne 6, 3) := dk_154 0 6 (dk_at dksX0_of_0 4 rfl rfl)
theorem dX0_of_7 : decode cX0_of 7 = .ok (.bipush (-2), 2) := dk_16 254 (dk_at dksX0_of_0 7 rfl rfl)
theorem dX0_of_9 : decode cX0_of 9 = .ok (.ireturn, 1) := dk_172 (dk_at dksX0_of_0 9 rfl rfl)
theorem dX0_of_10 : decode cX0_of 10 = .ok (.iload_n 2, 1) := dk_28 (dk_at dksX0_of_0 10 rfl rfl)
theorem dX0_of_11 : decode cX0_of 11 = .ok (.i2l, 1) := dk_133 (dk_at dksX0_of_0 11 rfl rfl)
theorem dX0_of_12 : decode cX0_of 12 = .ok (.lconst 0, 1) := dk_9 (dk_at dksX0_of_0 12 rfl rfl)
theorem dX0_of_13 : decode cX0_of 13 = .ok (.lconst 1, 1) := dk_10 (dk_at dksX0_of_0 13 rfl rfl)
theorem dX0_of_14 : decode cX0_of 14 = .ok (.invokestatic 148, 3) := dk_184 0 148 (dk_at dksX0_of_0 14 rfl rfl)
theorem dX0_of_17 : decode cX0_of 17 = .ok (.ifCond .ne 6, 3) := dk_154 0 6 (dk_at dksX0_of_0 17 rfl rfl)
theorem dX0_of_20 : decode cX0_of 20 = .ok (.bipush (-3), 2) := dk_16 253 (dk_at dksX0_of_0 20 rfl rfl)
theorem dX0_of_22 : decode cX0_of 22 = .ok (.ireturn, 1) := dk_172 (dk_at dksX0_of_0 22 rfl rfl)
theorem dX0_of_23 : decode cX0_of 23 = .ok (.aload_n 0, 1) := dk_42 (dk_at dksX0_of_0 23 rfl rfl)
theorem dX0_of_24 : decode cX0_of 24 = .ok (.getfield 188, 3) := dk_180 0 188 (dk_at dksX0_of_1 0 rfl rfl)
theorem dX0_of_27 : decode cX0_of 27 = .ok (.ifnonnull 6, 3) := dk_199 0 6 (dk_at dksX0_of_1 3 rfl rfl)
theorem dX0_of_30 : decode cX0_of 30 = .ok (.bipush (-4), 2) := dk_16 252 (dk_at dksX0_of_1 6 rfl rfl)
theorem dX0_of_32 : decode cX0_of 32 = .ok (.ireturn, 1) := dk_172 (dk_at dksX0_of_1 8 rfl rfl)
theorem dX0_of_33 : decode cX0_of 33 = .ok (.aload_n 0, 1) := dk_42 (dk_at dksX0_of_1 9 rfl rfl)
theorem dX0_of_34 : decode cX0_of 34 = .ok (.iload_n 1, 1) := dk_27 (dk_at dksX0_of_1 10 rfl rfl)
theorem dX0_of_35 : decode cX0_of 35 = .ok (.invokevirtual 263, 3) := dk_182 1 7 (dk_at dksX0_of_1 11 rfl rfl)
theorem dX0_of_38 : decode cX0_of 38 = .ok (.aload_n 0, 1) := dk_42 (dk_at dksX0_of_1 14 rfl rfl)
theorem dX0_of_39 : decode cX0_of 39 = .ok (.getfield 188, 3) := dk_180 0 188 (dk_at dksX0_of_1 15 rfl rfl)
theorem dX0_of_42 : decode cX0_of 42 = .ok (.iconst 1, 1) := dk_4 (dk_at dksX0_of_1 18 rfl rfl)
theorem dX0_of_43 : decode cX0_of 43 = .ok (.invokevirtual 289, 3) := dk_182 1 33 (dk_at dksX0_of_1 19 rfl rfl)
theorem dX0_of_46 : decode cX0_of 46 = .ok (.istore_n 3, 1) := dk_62 (dk_at dksX0_of_1 22 rfl rfl)
theorem dX0_of_47 : decode cX0_of 47 = .ok (.iload_n 2, 1) := dk_28 (dk_at dksX0_of_1 23 rfl rfl)
theorem dX0_of_48 : decode cX0_of 48 = .ok (.ifCond .ne 14, 3) := dk_154 0 14 (dk_at dksX0_of_2 0 rfl rfl)
theorem dX0_of_51 : decode cX0_of 51 = .ok (.iload_n 3, 1) := dk_29 (dk_at dksX0_of_2 3 rfl rfl)
theorem dX0_of_52 : decode cX0_of 52 = .ok (.aload_n 0, 1) := dk_42 (dk_at dksX0_of_2 4 rfl rfl)
theorem dX0_of_53 : decode cX0_of 53 = .ok (.getfield 266, 3) := dk_180 1 10 (dk_at dksX0_of_2 5 rfl rfl)
theorem dX0_of_56 : decode cX0_of 56 = .ok (.ishr, 1) := dk_122 (dk_at dksX0_of_2 8 rfl rfl)
theorem dX0_of_57 : decode cX0_of 57 = .ok (.iconst 1, 1) := dk_4 (dk_at dksX0_of_2 9 rfl rfl)
theorem dX0_of_58 : decode cX0_of 58 = .ok (.iand, 1) := dk_126 (dk_at dksX0_of_2 10 rfl rfl)
theorem dX0_of_59 : decode cX0_of 59 = .ok (.goto 18, 3) := dk_167 0 18 (dk_at dksX0_of_2 11 rfl rfl)
theorem dX0_of_62 : decode cX0_of 62 = .ok (.iload_n 3, 1) := dk_29 (dk_at dksX0_of_2 14 rfl rfl)
theorem dX0_of_63 : decode cX0_of 63 = .ok (.ifCond .ne 7, 3) := dk_154 0 7 (dk_at dksX0_of_2 15 rfl rfl)
theorem dX0_of_66 : decode cX0_of 66 = .ok (.iconst (-1), 1) := dk_2 (dk_at dksX0_of_2 18 rfl rfl)
theorem dX0_of_67 : decode cX0_of 67 = .ok (.goto 10, 3) := dk_167 0 10 (dk_at dksX0_of_2 19 rfl rfl)
theorem dX0_of_70 : decode cX0_of 70 = .ok (.bipush 31, 2) := dk_16 31 (dk_at dksX0_of_2 22 rfl rfl)
theorem dX0_of_72 : decode cX0_of 72 = .ok (.iload_n 3, 1) := dk_29 (dk_at dksX0_of_3 0 rfl rfl)
theorem dX0_of_73 : decode cX0_of 73 = .ok (.invokestatic 294, 3) := dk_184 1 38 (dk_at dksX0_of_3 1 rfl rfl)
theorem dX0_of_76 : decode cX0_of 76 = .ok (.isub, 1) := dk_100 (dk_at dksX0_of_3 4 rfl rfl)
theorem dX0_of_77 : decode cX0_of 77 = .ok (.ireturn, 1) := dk_172 (dk_at dksX0_of_3 5 rfl rfl)
abbrev cX0_left : ByteArray := prog_1_method_43_code
def yX0_left : MethodName := ⟨RX0, "left", "(III)I"⟩
def dkwX0_left_4 : List UInt8 := [29, 154, 0, 8, 21, 6, 167, 0, 5, 21, 5, 21, 6, 21, 5, 184, 0, 106, 108, 172]
abbrev dktX0_left_4 : List UInt8 := dkwX0_left_4 ++ []
def dkwX0_left_3 : List UInt8 := [28, 104, 54, 4, 21, 5, 16, 10, 104, 54, 5, 132, 6, 1, 167, 255, 215, 21, 5, 21, 4, 100, 54, 6]
abbrev dktX0_left_3 : List UInt8 := dkwX0_left_3 ++ dktX0_left_4
def dkwX0_left_2 : List UInt8 := [180, 0, 69, 162, 0, 38, 42, 180, 0, 27, 180, 0, 92, 21, 6, 50, 27, 51, 8, 161, 0, 16, 21, 4]
abbrev dktX0_left_2 : List UInt8 := dkwX0_left_2 ++ dktX0_left_3
def dkwX0_left_1 : List UInt8 := [9, 10, 184, 0, 148, 154, 0, 6, 16, 253, 172, 4, 54, 4, 4, 54, 5, 3, 54, 6, 21, 6, 42]
abbrev dktX0_left_1 : List UInt8 := dkwX0_left_1 ++ dktX0_left_2
def dkwX0_left_0 : List UInt8 := [27, 184, 0, 216, 154, 0, 6, 16, 254, 172, 28, 133, 9, 20, 1, 41, 184, 0, 148, 153, 0, 13, 29, 133]
abbrev dktX0_left_0 : List UInt8 := dkwX0_left_0 ++ dktX0_left_1
theorem dksX0_left_0 : cX0_left.data.toList.drop 0 = dktX0_left_0 := by decide +kernel
theorem dksX0_left_1 : cX0_left.data.toList.drop 24 = dktX0_left_1 := dk_seg dksX0_left_0 24 rfl rfl
theorem dksX0_left_2 : cX0_left.data.toList.drop 47 = dktX0_left_2 := dk_seg dksX0_left_1 23 rfl rfl
theorem dksX0_left_3 : cX0_left.data.toList.drop 71 = dktX0_left_3 := dk_seg dksX0_left_2 24 rfl rfl
theorem dksX0_left_4 : cX0_left.data.toList.drop 95 = dktX0_left_4 := dk_seg dksX0_left_3 24 rfl rfl
theorem dX0_left_0 : decode cX0_left 0 = .ok (.iload_n 1, 1) := dk_27 (dk_at dksX0_left_0 0 rfl rfl)
theorem dX0_left_1 : decode cX0_left 1 = .ok (.invokestatic 216, 3) := dk_184 0 216 (dk_at dksX0_left_0 1 rfl rfl)
theorem dX0_left_4 : decode cX0_left 4 = .ok (.ifCond .ne 6, 3) := dk_154 0 6 (dk_at dksX0_left_0 4 rfl rfl)
theorem dX0_left_7 : decode cX0_left 7 = .ok (.bipush (-2), 2) := dk_16 254 (dk_at dksX0_left_0 7 rfl rfl)
theorem dX0_left_9 : decode cX0_left 9 = .ok (.ireturn, 1) := dk_172 (dk_at dksX0_left_0 9 rfl rfl)
theorem dX0_left_10 : decode cX0_left 10 = .ok (.iload_n 2, 1) := dk_28 (dk_at dksX0_left_0 10 rfl rfl)
theorem dX0_left_11 : decode cX0_left 11 = .ok (.i2l, 1) := dk_133 (dk_at dksX0_left_0 11 rfl rfl)
theorem dX0_left_12 : decode cX0_left 12 = .ok (.lconst 0, 1) := dk_9 (dk_at dksX0_left_0 12 rfl rfl)
theorem dX0_left_13 : decode cX0_left 13 = .ok (.ldc2_w 297, 3) := dk_20 1 41 (dk_at dksX0_left_0 13 rfl rfl)
theorem dX0_left_16 : decode cX0_left 16 = .ok (.invokestatic 148, 3) := dk_184 0 148 (dk_at dksX0_left_0 16 rfl rfl)
theorem dX0_left_19 : decode cX0_left 19 = .ok (.ifCond .eq 13, 3) := dk_153 0 13 (dk_at dksX0_left_0 19 rfl rfl)
theorem dX0_left_22 : decode cX0_left 22 = .ok (.iload_n 3, 1) := dk_29 (dk_at dksX0_left_0 22 rfl rfl)
theorem dX0_left_23 : decode cX0_left 23 = .ok (.i2l, 1) := dk_133 (dk_at dksX0_left_0 23 rfl rfl)
theorem dX0_left_24 : decode cX0_left 24 = .ok (.lconst 0, 1) := dk_9 (dk_at dksX0_left_1 0 rfl rfl)
theorem dX0_left_25 : decode cX0_left 25 = .ok (.lconst 1, 1) := dk_10 (dk_at dksX0_left_1 1 rfl rfl)
theorem dX0_left_26 : decode cX0_left 26 = .ok (.invokestatic 148, 3) := dk_184 0 148 (dk_at dksX0_left_1 2 rfl rfl)
theorem dX0_left_29 : decode cX0_left 29 = .ok (.ifCond .ne 6, 3) := dk_154 0 6 (dk_at dksX0_left_1 5 rfl rfl)
theorem dX0_left_32 : decode cX0_left 32 = .ok (.bipush (-3), 2) := dk_16 253 (dk_at dksX0_left_1 8 rfl rfl)
theorem dX0_left_34 : decode cX0_left 34 = .ok (.ireturn, 1) := dk_172 (dk_at dksX0_left_1 10 rfl rfl)
theorem dX0_left_35 : decode cX0_left 35 = .ok (.iconst 1, 1) := dk_4 (dk_at dksX0_left_1 11 rfl rfl)
theorem dX0_left_36 : decode cX0_left 36 = .ok (.istore 4, 2) := dk_54 4 (dk_at dksX0_left_1 12 rfl rfl)
theorem dX0_left_38 : decode cX0_left 38 = .ok (.iconst 1, 1) := dk_4 (dk_at dksX0_left_1 14 rfl rfl)
theorem dX0_left_39 : decode cX0_left 39 = .ok (.istore 5, 2) := dk_54 5 (dk_at dksX0_left_1 15 rfl rfl)
theorem dX0_left_41 : decode cX0_left 41 = .ok (.iconst 0, 1) := dk_3 (dk_at dksX0_left_1 17 rfl rfl)
theorem dX0_left_42 : decode cX0_left 42 = .ok (.istore 6, 2) := dk_54 6 (dk_at dksX0_left_1 18 rfl rfl)
theorem dX0_left_44 : decode cX0_left 44 = .ok (.iload 6, 2) := dk_21 6 (dk_at dksX0_left_1 20 rfl rfl)
theorem dX0_left_46 : decode cX0_left 46 = .ok (.aload_n 0, 1) := dk_42 (dk_at dksX0_left_1 22 rfl rfl)
theorem dX0_left_47 : decode cX0_left 47 = .ok (.getfield 69, 3) := dk_180 0 69 (dk_at dksX0_left_2 0 rfl rfl)
theorem dX0_left_50 : decode cX0_left 50 = .ok (.if_icmp .ge 38, 3) := dk_162 0 38 (dk_at dksX0_left_2 3 rfl rfl)
theorem dX0_left_53 : decode cX0_left 53 = .ok (.aload_n 0, 1) := dk_42 (dk_at dksX0_left_2 6 rfl rfl)
theorem dX0_left_54 : decode cX0_left 54 = .ok (.getfield 27, 3) := dk_180 0 27 (dk_at dksX0_left_2 7 rfl rfl)
theorem dX0_left_57 : decode cX0_left 57 = .ok (.getfield 92, 3) := dk_180 0 92 (dk_at dksX0_left_2 10 rfl rfl)
theorem dX0_left_60 : decode cX0_left 60 = .ok (.iload 6, 2) := dk_21 6 (dk_at dksX0_left_2 13 rfl rfl)
theorem dX0_left_62 : decode cX0_left 62 = .ok (.aaload, 1) := dk_50 (dk_at dksX0_left_2 15 rfl rfl)
theorem dX0_left_63 : decode cX0_left 63 = .ok (.iload_n 1, 1) := dk_27 (dk_at dksX0_left_2 16 rfl rfl)
theorem dX0_left_64 : decode cX0_left 64 = .ok (.baload, 1) := dk_51 (dk_at dksX0_left_2 17 rfl rfl)
theorem dX0_left_65 : decode cX0_left 65 = .ok (.iconst 5, 1) := dk_8 (dk_at dksX0_left_2 18 rfl rfl)
theorem dX0_left_66 : decode cX0_left 66 = .ok (.if_icmp .lt 16, 3) := dk_161 0 16 (dk_at dksX0_left_2 19 rfl rfl)
theorem dX0_left_69 : decode cX0_left 69 = .ok (.iload 4, 2) := dk_21 4 (dk_at dksX0_left_2 22 rfl rfl)
theorem dX0_left_71 : decode cX0_left 71 = .ok (.iload_n 2, 1) := dk_28 (dk_at dksX0_left_3 0 rfl rfl)
theorem dX0_left_72 : decode cX0_left 72 = .ok (.imul, 1) := dk_104 (dk_at dksX0_left_3 1 rfl rfl)
theorem dX0_left_73 : decode cX0_left 73 = .ok (.istore 4, 2) := dk_54 4 (dk_at dksX0_left_3 2 rfl rfl)
theorem dX0_left_75 : decode cX0_left 75 = .ok (.iload 5, 2) := dk_21 5 (dk_at dksX0_left_3 4 rfl rfl)
theorem dX0_left_77 : decode cX0_left 77 = .ok (.bipush 10, 2) := dk_16 10 (dk_at dksX0_left_3 6 rfl rfl)
theorem dX0_left_79 : decode cX0_left 79 = .ok (.imul, 1) := dk_104 (dk_at dksX0_left_3 8 rfl rfl)
theorem dX0_left_80 : decode cX0_left 80 = .ok (.istore 5, 2) := dk_54 5 (dk_at dksX0_left_3 9 rfl rfl)
theorem dX0_left_82 : decode cX0_left 82 = .ok (.iinc 6 1, 3) := dk_132 6 1 (dk_at dksX0_left_3 11 rfl rfl)
theorem dX0_left_85 : decode cX0_left 85 = .ok (.goto (-41), 3) := dk_167 255 215 (dk_at dksX0_left_3 14 rfl rfl)
theorem dX0_left_88 : decode cX0_left 88 = .ok (.iload 5, 2) := dk_21 5 (dk_at dksX0_left_3 17 rfl rfl)
theorem dX0_left_90 : decode cX0_left 90 = .ok (.iload 4, 2) := dk_21 4 (dk_at dksX0_left_3 19 rfl rfl)
theorem dX0_left_92 : decode cX0_left 92 = .ok (.isub, 1) := dk_100 (dk_at dksX0_left_3 21 rfl rfl)
theorem dX0_left_93 : decode cX0_left 93 = .ok (.istore 6, 2) := dk_54 6 (dk_at dksX0_left_3 22 rfl rfl)
theorem dX0_left_95 : decode cX0_left 95 = .ok (.iload_n 3, 1) := dk_29 (dk_at dksX0_left_4 0 rfl rfl)
theorem dX0_left_96 : decode cX0_left 96 = .ok (.ifCond .ne 8, 3) := dk_154 0 8 (dk_at dksX0_left_4 1 rfl rfl)
theorem dX0_left_99 : decode cX0_left 99 = .ok (.iload 6, 2) := dk_21 6 (dk_at dksX0_left_4 4 rfl rfl)
theorem dX0_left_101 : decode cX0_left 101 = .ok (.goto 5, 3) := dk_167 0 5 (dk_at dksX0_left_4 6 rfl rfl)
theorem dX0_left_104 : decode cX0_left 104 = .ok (.iload 5, 2) := dk_21 5 (dk_at dksX0_left_4 9 rfl rfl)
theorem dX0_left_106 : decode cX0_left 106 = .ok (.iload 6, 2) := dk_21 6 (dk_at dksX0_left_4 11 rfl rfl)
theorem dX0_left_108 : decode cX0_left 108 = .ok (.iload 5, 2) := dk_21 5 (dk_at dksX0_left_4 13 rfl rfl)
theorem dX0_left_110 : decode cX0_left 110 = .ok (.invokestatic 106, 3) := dk_184 0 106 (dk_at dksX0_left_4 15 rfl rfl)
theorem dX0_left_113 : decode cX0_left 113 = .ok (.idiv, 1) := dk_108 (dk_at dksX0_left_4 18 rfl rfl)
theorem dX0_left_114 : decode cX0_left 114 = .ok (.ireturn, 1) := dk_172 (dk_at dksX0_left_4 19 rfl rfl)
abbrev cX0_gcd : ByteArray := prog_1_method_10_code
def yX0_gcd : MethodName := ⟨RX0, "gcd", "(II)I"⟩
def dkwX0_gcd_0 : List UInt8 := [27, 154, 0, 7, 26, 167, 0, 10, 27, 26, 27, 112, 184, 0, 106, 172]
abbrev dktX0_gcd_0 : List UInt8 := dkwX0_gcd_0 ++ []
theorem dksX0_gcd_0 : cX0_gcd.data.toList.drop 0 = dktX0_gcd_0 := by decide +kernel
theorem dX0_gcd_0 : decode cX0_gcd 0 = .ok (.iload_n 1, 1) := dk_27 (dk_at dksX0_gcd_0 0 rfl rfl)
theorem dX0_gcd_1 : decode cX0_gcd 1 = .ok (.ifCond .ne 7, 3) := dk_154 0 7 (dk_at dksX0_gcd_0 1 rfl rfl)
theorem dX0_gcd_4 : decode cX0_gcd 4 = .ok (.iload_n 0, 1) := dk_26 (dk_at dksX0_gcd_0 4 rfl rfl)
theorem dX0_gcd_5 : decode cX0_gcd 5 = .ok (.goto 10, 3) := dk_167 0 10 (dk_at dksX0_gcd_0 5 rfl rfl)
theorem dX0_gcd_8 : decode cX0_gcd 8 = .ok (.iload_n 1, 1) := dk_27 (dk_at dksX0_gcd_0 8 rfl rfl)
theorem dX0_gcd_9 : decode cX0_gcd 9 = .ok (.iload_n 0, 1) := dk_26 (dk_at dksX0_gcd_0 9 rfl rfl)
theorem dX0_gcd_10 : decode cX0_gcd 10 = .ok (.iload_n 1, 1) := dk_27 (dk_at dksX0_gcd_0 10 rfl rfl)
theorem dX0_gcd_11 : decode cX0_gcd 11 = .ok (.irem, 1) := dk_112 (dk_at dksX0_gcd_0 11 rfl rfl)
theorem dX0_gcd_12 : decode cX0_gcd 12 = .ok (.invokestatic 106, 3) := dk_184 0 106 (dk_at dksX0_gcd_0 12 rfl rfl)
theorem dX0_gcd_15 : decode cX0_gcd 15 = .ok (.ireturn, 1) := dk_172 (dk_at dksX0_gcd_0 15 rfl rfl)
abbrev cX0_seen : ByteArray := prog_1_method_44_code
def yX0_seen : MethodName := ⟨RX0, "seen", "(III)I"⟩
def dkwX0_seen_3 : List UInt8 := [83, 42, 89, 180, 0, 44, 4, 96, 90, 181, 0, 44, 172]
abbrev dktX0_seen_3 : List UInt8 := dkwX0_seen_3 ++ []
def dkwX0_seen_2 : List UInt8 := [172, 42, 180, 0, 124, 42, 180, 0, 44, 6, 188, 10, 89, 3, 27, 79, 89, 4, 28, 79, 89, 5, 29, 79]
abbrev dktX0_seen_2 : List UInt8 := dkwX0_seen_2 ++ dktX0_seen_3
def dkwX0_seen_1 : List UInt8 := [9, 20, 0, 154, 184, 0, 148, 154, 0, 6, 16, 253, 172, 42, 180, 0, 44, 16, 6, 160, 0, 6, 16, 251]
abbrev dktX0_seen_1 : List UInt8 := dkwX0_seen_1 ++ dktX0_seen_2
def dkwX0_seen_0 : List UInt8 := [27, 184, 0, 248, 153, 0, 15, 29, 2, 159, 0, 13, 29, 184, 0, 216, 154, 0, 6, 16, 254, 172, 28, 133]
abbrev dktX0_seen_0 : List UInt8 := dkwX0_seen_0 ++ dktX0_seen_1
theorem dksX0_seen_0 : cX0_seen.data.toList.drop 0 = dktX0_seen_0 := by decide +kernel
theorem dksX0_seen_1 : cX0_seen.data.toList.drop 24 = dktX0_seen_1 := dk_seg dksX0_seen_0 24 rfl rfl
theorem dksX0_seen_2 : cX0_seen.data.toList.drop 48 = dktX0_seen_2 := dk_seg dksX0_seen_1 24 rfl rfl
theorem dksX0_seen_3 : cX0_seen.data.toList.drop 72 = dktX0_seen_3 := dk_seg dksX0_seen_2 24 rfl rfl
theorem dX0_seen_0 : decode cX0_seen 0 = .ok (.iload_n 1, 1) := dk_27 (dk_at dksX0_seen_0 0 rfl rfl)
theorem dX0_seen_1 : decode cX0_seen 1 = .ok (.invokestatic 248, 3) := dk_184 0 248 (dk_at dksX0_seen_0 1 rfl rfl)
theorem dX0_seen_4 : decode cX0_seen 4 = .ok (.ifCond .eq 15, 3) := dk_153 0 15 (dk_at dksX0_seen_0 4 rfl rfl)
theorem dX0_seen_7 : decode cX0_seen 7 = .ok (.iload_n 3, 1) := dk_29 (dk_at dksX0_seen_0 7 rfl rfl)
theorem dX0_seen_8 : decode cX0_seen 8 = .ok (.iconst (-1), 1) := dk_2 (dk_at dksX0_seen_0 8 rfl rfl)
theorem dX0_seen_9 : decode cX0_seen 9 = .ok (.if_icmp .eq 13, 3) := dk_159 0 13 (dk_at dksX0_seen_0 9 rfl rfl)
theorem dX0_seen_12 : decode cX0_seen 12 = .ok (.iload_n 3, 1) := dk_29 (dk_at dksX0_seen_0 12 rfl rfl)
theorem dX0_seen_13 : decode cX0_seen 13 = .ok (.invokestatic 216, 3) := dk_184 0 216 (dk_at dksX0_seen_0 13 rfl rfl)
theorem dX0_seen_16 : decode cX0_seen 16 = .ok (.ifCond .ne 6, 3) := dk_154 0 6 (dk_at dksX0_seen_0 16 rfl rfl)
theorem dX0_seen_19 : decode cX0_seen 19 = .ok (.bipush (-2), 2) := dk_16 254 (dk_at dksX0_seen_0 19 rfl rfl)
theorem dX0_seen_21 : decode cX0_seen 21 = .ok (.ireturn, 1) := dk_172 (dk_at dksX0_seen_0 21 rfl rfl)
theorem dX0_seen_22 : decode cX0_seen 22 = .ok (.iload_n 2, 1) := dk_28 (dk_at dksX0_seen_0 22 rfl rfl)
theorem dX0_seen_23 : decode cX0_seen 23 = .ok (.i2l, 1) := dk_133 (dk_at dksX0_seen_0 23 rfl rfl)
theorem dX0_seen_24 : decode cX0_seen 24 = .ok (.lconst 0, 1) := dk_9 (dk_at dksX0_seen_1 0 rfl rfl)
theorem dX0_seen_25 : decode cX0_seen 25 = .ok (.ldc2_w 154, 3) := dk_20 0 154 (dk_at dksX0_seen_1 1 rfl rfl)
theorem dX0_seen_28 : decode cX0_seen 28 = .ok (.invokestatic 148, 3) := dk_184 0 148 (dk_at dksX0_seen_1 4 rfl rfl)
theorem dX0_seen_31 : decode cX0_seen 31 = .ok (.ifCond .ne 6, 3) := dk_154 0 6 (dk_at dksX0_seen_1 7 rfl rfl)
theorem dX0_seen_34 : decode cX0_seen 34 = .ok (.bipush (-3), 2) := dk_16 253 (dk_at dksX0_seen_1 10 rfl rfl)
theorem dX0_seen_36 : decode cX0_seen 36 = .ok (.ireturn, 1) := dk_172 (dk_at dksX0_seen_1 12 rfl rfl)
theorem dX0_seen_37 : decode cX0_seen 37 = .ok (.aload_n 0, 1) := dk_42 (dk_at dksX0_seen_1 13 rfl rfl)
theorem dX0_seen_38 : decode cX0_seen 38 = .ok (.getfield 44, 3) := dk_180 0 44 (dk_at dksX0_seen_1 14 rfl rfl)
theorem dX0_seen_41 : decode cX0_seen 41 = .ok (.bipush 6, 2) := dk_16 6 (dk_at dksX0_seen_1 17 rfl rfl)
theorem dX0_seen_43 : decode cX0_seen 43 = .ok (.if_icmp .ne 6, 3) := dk_160 0 6 (dk_at dksX0_seen_1 19 rfl rfl)
theorem dX0_seen_46 : decode cX0_seen 46 = .ok (.bipush (-5), 2) := dk_16 251 (dk_at dksX0_seen_1 22 rfl rfl)
theorem dX0_seen_48 : decode cX0_seen 48 = .ok (.ireturn, 1) := dk_172 (dk_at dksX0_seen_2 0 rfl rfl)
theorem dX0_seen_49 : decode cX0_seen 49 = .ok (.aload_n 0, 1) := dk_42 (dk_at dksX0_seen_2 1 rfl rfl)
theorem dX0_seen_50 : decode cX0_seen 50 = .ok (.getfield 124, 3) := dk_180 0 124 (dk_at dksX0_seen_2 2 rfl rfl)
theorem dX0_seen_53 : decode cX0_seen 53 = .ok (.aload_n 0, 1) := dk_42 (dk_at dksX0_seen_2 5 rfl rfl)
theorem dX0_seen_54 : decode cX0_seen 54 = .ok (.getfield 44, 3) := dk_180 0 44 (dk_at dksX0_seen_2 6 rfl rfl)
theorem dX0_seen_57 : decode cX0_seen 57 = .ok (.iconst 3, 1) := dk_6 (dk_at dksX0_seen_2 9 rfl rfl)
theorem dX0_seen_58 : decode cX0_seen 58 = .ok (.newarray .int, 2) := dk_188_10 (dk_at dksX0_seen_2 10 rfl rfl)
theorem dX0_seen_60 : decode cX0_seen 60 = .ok (.dup, 1) := dk_89 (dk_at dksX0_seen_2 12 rfl rfl)
theorem dX0_seen_61 : decode cX0_seen 61 = .ok (.iconst 0, 1) := dk_3 (dk_at dksX0_seen_2 13 rfl rfl)
theorem dX0_seen_62 : decode cX0_seen 62 = .ok (.iload_n 1, 1) := dk_27 (dk_at dksX0_seen_2 14 rfl rfl)
theorem dX0_seen_63 : decode cX0_seen 63 = .ok (.iastore, 1) := dk_79 (dk_at dksX0_seen_2 15 rfl rfl)
theorem dX0_seen_64 : decode cX0_seen 64 = .ok (.dup, 1) := dk_89 (dk_at dksX0_seen_2 16 rfl rfl)
theorem dX0_seen_65 : decode cX0_seen 65 = .ok (.iconst 1, 1) := dk_4 (dk_at dksX0_seen_2 17 rfl rfl)
theorem dX0_seen_66 : decode cX0_seen 66 = .ok (.iload_n 2, 1) := dk_28 (dk_at dksX0_seen_2 18 rfl rfl)
theorem dX0_seen_67 : decode cX0_seen 67 = .ok (.iastore, 1) := dk_79 (dk_at dksX0_seen_2 19 rfl rfl)
theorem dX0_seen_68 : decode cX0_seen 68 = .ok (.dup, 1) := dk_89 (dk_at dksX0_seen_2 20 rfl rfl)
theorem dX0_seen_69 : decode cX0_seen 69 = .ok (.iconst 2, 1) := dk_5 (dk_at dksX0_seen_2 21 rfl rfl)
theorem dX0_seen_70 : decode cX0_seen 70 = .ok (.iload_n 3, 1) := dk_29 (dk_at dksX0_seen_2 22 rfl rfl)
theorem dX0_seen_71 : decode cX0_seen 71 = .ok (.iastore, 1) := dk_79 (dk_at dksX0_seen_2 23 rfl rfl)
theorem dX0_seen_72 : decode cX0_seen 72 = .ok (.aastore, 1) := dk_83 (dk_at dksX0_seen_3 0 rfl rfl)
theorem dX0_seen_73 : decode cX0_seen 73 = .ok (.aload_n 0, 1) := dk_42 (dk_at dksX0_seen_3 1 rfl rfl)
theorem dX0_seen_74 : decode cX0_seen 74 = .ok (.dup, 1) := dk_89 (dk_at dksX0_seen_3 2 rfl rfl)
theorem dX0_seen_75 : decode cX0_seen 75 = .ok (.getfield 44, 3) := dk_180 0 44 (dk_at dksX0_seen_3 3 rfl rfl)
theorem dX0_seen_78 : decode cX0_seen 78 = .ok (.iconst 1, 1) := dk_4 (dk_at dksX0_seen_3 6 rfl rfl)
theorem dX0_seen_79 : decode cX0_seen 79 = .ok (.iadd, 1) := dk_96 (dk_at dksX0_seen_3 7 rfl rfl)
theorem dX0_seen_80 : decode cX0_seen 80 = .ok (.dup_x1, 1) := dk_90 (dk_at dksX0_seen_3 8 rfl rfl)
theorem dX0_seen_81 : decode cX0_seen 81 = .ok (.putfield 44, 3) := dk_181 0 44 (dk_at dksX0_seen_3 9 rfl rfl)
theorem dX0_seen_84 : decode cX0_seen 84 = .ok (.ireturn, 1) := dk_172 (dk_at dksX0_seen_3 12 rfl rfl)
abbrev cX0_forget : ByteArray := prog_1_method_45_code
def yX0_forget : MethodName := ⟨RX0, "forget", "()I"⟩
def dkwX0_forget_0 : List UInt8 := [42, 180, 0, 44, 60, 42, 3, 181, 0, 44, 27, 172]
abbrev dktX0_forget_0 : List UInt8 := dkwX0_forget_0 ++ []
theorem dksX0_forget_0 : cX0_forget.data.toList.drop 0 = dktX0_forget_0 := by decide +kernel
theorem dX0_forget_0 : decode cX0_forget 0 = .ok (.aload_n 0, 1) := dk_42 (dk_at dksX0_forget_0 0 rfl rfl)
theorem dX0_forget_1 : decode cX0_forget 1 = .ok (.getfield 44, 3) := dk_180 0 44 (dk_at dksX0_forget_0 1 rfl rfl)
theorem dX0_forget_4 : decode cX0_forget 4 = .ok (.istore_n 1, 1) := dk_60 (dk_at dksX0_forget_0 4 rfl rfl)
theorem dX0_forget_5 : decode cX0_forget 5 = .ok (.aload_n 0, 1) := dk_42 (dk_at dksX0_forget_0 5 rfl rfl)
theorem dX0_forget_6 : decode cX0_forget 6 = .ok (.iconst 0, 1) := dk_3 (dk_at dksX0_forget_0 6 rfl rfl)
theorem dX0_forget_7 : decode cX0_forget 7 = .ok (.putfield 44, 3) := dk_181 0 44 (dk_at dksX0_forget_0 7 rfl rfl)
theorem dX0_forget_10 : decode cX0_forget 10 = .ok (.iload_n 1, 1) := dk_27 (dk_at dksX0_forget_0 10 rfl rfl)
theorem dX0_forget_11 : decode cX0_forget 11 = .ok (.ireturn, 1) := dk_172 (dk_at dksX0_forget_0 11 rfl rfl)
abbrev cX0_kinds : ByteArray := prog_1_method_47_code
def yX0_kinds : MethodName := ⟨RX0, "kinds", "(I)I"⟩
def dkwX0_kinds_3 : List UInt8 := [180, 0, 21, 27, 44, 83, 21, 4, 172, 58, 5, 42, 180, 0, 21, 27, 44, 83, 25, 5, 191]
abbrev dktX0_kinds_3 : List UInt8 := dkwX0_kinds_3 ++ []
def dkwX0_kinds_2 : List UInt8 := [153, 0, 10, 4, 21, 4, 120, 167, 0, 4, 3, 128, 62, 132, 4, 1, 167, 255, 217, 29, 54, 4, 42]
abbrev dktX0_kinds_2 : List UInt8 := dkwX0_kinds_2 ++ dktX0_kinds_3
def dkwX0_kinds_1 : List UInt8 := [21, 4, 8, 162, 0, 39, 42, 180, 0, 21, 27, 21, 4, 27, 184, 0, 102, 83, 29, 42, 182, 1, 43]
abbrev dktX0_kinds_1 : List UInt8 := dkwX0_kinds_1 ++ dktX0_kinds_2
def dkwX0_kinds_0 : List UInt8 := [42, 27, 182, 0, 194, 154, 0, 6, 16, 254, 172, 42, 180, 0, 21, 27, 50, 77, 3, 62, 3, 54, 4]
abbrev dktX0_kinds_0 : List UInt8 := dkwX0_kinds_0 ++ dktX0_kinds_1
theorem dksX0_kinds_0 : cX0_kinds.data.toList.drop 0 = dktX0_kinds_0 := by decide +kernel
theorem dksX0_kinds_1 : cX0_kinds.data.toList.drop 23 = dktX0_kinds_1 := dk_seg dksX0_kinds_0 23 rfl rfl
theorem dksX0_kinds_2 : cX0_kinds.data.toList.drop 46 = dktX0_kinds_2 := dk_seg dksX0_kinds_1 23 rfl rfl
theorem dksX0_kinds_3 : cX0_kinds.data.toList.drop 69 = dktX0_kinds_3 := dk_seg dksX0_kinds_2 23 rfl rfl
theorem dX0_kinds_0 : decode cX0_kinds 0 = .ok (.aload_n 0, 1) := dk_42 (dk_at dksX0_kinds_0 0 rfl rfl)
theorem dX0_kinds_1 : decode cX0_kinds 1 = .ok (.iload_n 1, 1) := dk_27 (dk_at dksX0_kinds_0 1 rfl rfl)
theorem dX0_kinds_2 : decode cX0_kinds 2 = .ok (.invokevirtual 194, 3) := dk_182 0 194 (dk_at dksX0_kinds_0 2 rfl rfl)
theorem dX0_kinds_5 : decode cX0_kinds 5 = .ok (.ifCond .ne 6, 3) := dk_154 0 6 (dk_at dksX0_kinds_0 5 rfl rfl)
theorem dX0_kinds_8 : decode cX0_kinds 8 = .ok (.bipush (-2), 2) := dk_16 254 (dk_at dksX0_kinds_0 8 rfl rfl)
theorem dX0_kinds_10 : decode cX0_kinds 10 = .ok (.ireturn, 1) := dk_172 (dk_at dksX0_kinds_0 10 rfl rfl)
theorem dX0_kinds_11 : decode cX0_kinds 11 = .ok (.aload_n 0, 1) := dk_42 (dk_at dksX0_kinds_0 11 rfl rfl)
theorem dX0_kinds_12 : decode cX0_kinds 12 = .ok (.getfield 21, 3) := dk_180 0 21 (dk_at dksX0_kinds_0 12 rfl rfl)
theorem dX0_kinds_15 : decode cX0_kinds 15 = .ok (.iload_n 1, 1) := dk_27 (dk_at dksX0_kinds_0 15 rfl rfl)
theorem dX0_kinds_16 : decode cX0_kinds 16 = .ok (.aaload, 1) := dk_50 (dk_at dksX0_kinds_0 16 rfl rfl)
theorem dX0_kinds_17 : decode cX0_kinds 17 = .ok (.astore_n 2, 1) := dk_77 (dk_at dksX0_kinds_0 17 rfl rfl)
theorem dX0_kinds_18 : decode cX0_kinds 18 = .ok (.iconst 0, 1) := dk_3 (dk_at dksX0_kinds_0 18 rfl rfl)
theorem dX0_kinds_19 : decode cX0_kinds 19 = .ok (.istore_n 3, 1) := dk_62 (dk_at dksX0_kinds_0 19 rfl rfl)
theorem dX0_kinds_20 : decode cX0_kinds 20 = .ok (.iconst 0, 1) := dk_3 (dk_at dksX0_kinds_0 20 rfl rfl)
theorem dX0_kinds_21 : decode cX0_kinds 21 = .ok (.istore 4, 2) := dk_54 4 (dk_at dksX0_kinds_0 21 rfl rfl)
theorem dX0_kinds_23 : decode cX0_kinds 23 = .ok (.iload 4, 2) := dk_21 4 (dk_at dksX0_kinds_1 0 rfl rfl)
theorem dX0_kinds_25 : decode cX0_kinds 25 = .ok (.iconst 5, 1) := dk_8 (dk_at dksX0_kinds_1 2 rfl rfl)
theorem dX0_kinds_26 : decode cX0_kinds 26 = .ok (.if_icmp .ge 39, 3) := dk_162 0 39 (dk_at dksX0_kinds_1 3 rfl rfl)
theorem dX0_kinds_29 : decode cX0_kinds 29 = .ok (.aload_n 0, 1) := dk_42 (dk_at dksX0_kinds_1 6 rfl rfl)
theorem dX0_kinds_30 : decode cX0_kinds 30 = .ok (.getfield 21, 3) := dk_180 0 21 (dk_at dksX0_kinds_1 7 rfl rfl)
theorem dX0_kinds_33 : decode cX0_kinds 33 = .ok (.iload_n 1, 1) := dk_27 (dk_at dksX0_kinds_1 10 rfl rfl)
theorem dX0_kinds_34 : decode cX0_kinds 34 = .ok (.iload 4, 2) := dk_21 4 (dk_at dksX0_kinds_1 11 rfl rfl)
theorem dX0_kinds_36 : decode cX0_kinds 36 = .ok (.iload_n 1, 1) := dk_27 (dk_at dksX0_kinds_1 13 rfl rfl)
theorem dX0_kinds_37 : decode cX0_kinds 37 = .ok (.invokestatic 102, 3) := dk_184 0 102 (dk_at dksX0_kinds_1 14 rfl rfl)
theorem dX0_kinds_40 : decode cX0_kinds 40 = .ok (.aastore, 1) := dk_83 (dk_at dksX0_kinds_1 17 rfl rfl)
theorem dX0_kinds_41 : decode cX0_kinds 41 = .ok (.iload_n 3, 1) := dk_29 (dk_at dksX0_kinds_1 18 rfl rfl)
theorem dX0_kinds_42 : decode cX0_kinds 42 = .ok (.aload_n 0, 1) := dk_42 (dk_at dksX0_kinds_1 19 rfl rfl)
theorem dX0_kinds_43 : decode cX0_kinds 43 = .ok (.invokevirtual 299, 3) := dk_182 1 43 (dk_at dksX0_kinds_1 20 rfl rfl)
theorem dX0_kinds_46 : decode cX0_kinds 46 = .ok (.ifCond .eq 10, 3) := dk_153 0 10 (dk_at dksX0_kinds_2 0 rfl rfl)
theorem dX0_kinds_49 : decode cX0_kinds 49 = .ok (.iconst 1, 1) := dk_4 (dk_at dksX0_kinds_2 3 rfl rfl)
theorem dX0_kinds_50 : decode cX0_kinds 50 = .ok (.iload 4, 2) := dk_21 4 (dk_at dksX0_kinds_2 4 rfl rfl)
theorem dX0_kinds_52 : decode cX0_kinds 52 = .ok (.ishl, 1) := dk_120 (dk_at dksX0_kinds_2 6 rfl rfl)
theorem dX0_kinds_53 : decode cX0_kinds 53 = .ok (.goto 4, 3) := dk_167 0 4 (dk_at dksX0_kinds_2 7 rfl rfl)
theorem dX0_kinds_56 : decode cX0_kinds 56 = .ok (.iconst 0, 1) := dk_3 (dk_at dksX0_kinds_2 10 rfl rfl)
theorem dX0_kinds_57 : decode cX0_kinds 57 = .ok (.ior, 1) := dk_128 (dk_at dksX0_kinds_2 11 rfl rfl)
theorem dX0_kinds_58 : decode cX0_kinds 58 = .ok (.istore_n 3, 1) := dk_62 (dk_at dksX0_kinds_2 12 rfl rfl)
theorem dX0_kinds_59 : decode cX0_kinds 59 = .ok (.iinc 4 1, 3) := dk_132 4 1 (dk_at dksX0_kinds_2 13 rfl rfl)
theorem dX0_kinds_62 : decode cX0_kinds 62 = .ok (.goto (-39), 3) := dk_167 255 217 (dk_at dksX0_kinds_2 16 rfl rfl)
theorem dX0_kinds_65 : decode cX0_kinds 65 = .ok (.iload_n 3, 1) := dk_29 (dk_at dksX0_kinds_2 19 rfl rfl)
theorem dX0_kinds_66 : decode cX0_kinds 66 = .ok (.istore 4, 2) := dk_54 4 (dk_at dksX0_kinds_2 20 rfl rfl)
theorem dX0_kinds_68 : decode cX0_kinds 68 = .ok (.aload_n 0, 1) := dk_42 (dk_at dksX0_kinds_2 22 rfl rfl)
theorem dX0_kinds_69 : decode cX0_kinds 69 = .ok (.getfield 21, 3) := dk_180 0 21 (dk_at dksX0_kinds_3 0 rfl rfl)
theorem dX0_kinds_72 : decode cX0_kinds 72 = .ok (.iload_n 1, 1) := dk_27 (dk_at dksX0_kinds_3 3 rfl rfl)
theorem dX0_kinds_73 : decode cX0_kinds 73 = .ok (.aload_n 2, 1) := dk_44 (dk_at dksX0_kinds_3 4 rfl rfl)
theorem dX0_kinds_74 : decode cX0_kinds 74 = .ok (.aastore, 1) := dk_83 (dk_at dksX0_kinds_3 5 rfl rfl)
theorem dX0_kinds_75 : decode cX0_kinds 75 = .ok (.iload 4, 2) := dk_21 4 (dk_at dksX0_kinds_3 6 rfl rfl)
theorem dX0_kinds_77 : decode cX0_kinds 77 = .ok (.ireturn, 1) := dk_172 (dk_at dksX0_kinds_3 8 rfl rfl)
theorem dX0_kinds_78 : decode cX0_kinds 78 = .ok (.astore 5, 2) := dk_58 5 (dk_at dksX0_kinds_3 9 rfl rfl)
theorem dX0_kinds_80 : decode cX0_kinds 80 = .ok (.aload_n 0, 1) := dk_42 (dk_at dksX0_kinds_3 11 rfl rfl)
theorem dX0_kinds_81 : decode cX0_kinds 81 = .ok (.getfield 21, 3) := dk_180 0 21 (dk_at dksX0_kinds_3 12 rfl rfl)
theorem dX0_kinds_84 : decode cX0_kinds 84 = .ok (.iload_n 1, 1) := dk_27 (dk_at dksX0_kinds_3 15 rfl rfl)
theorem dX0_kinds_85 : decode cX0_kinds 85 = .ok (.aload_n 2, 1) := dk_44 (dk_at dksX0_kinds_3 16 rfl rfl)
theorem dX0_kinds_86 : decode cX0_kinds 86 = .ok (.aastore, 1) := dk_83 (dk_at dksX0_kinds_3 17 rfl rfl)
theorem dX0_kinds_87 : decode cX0_kinds 87 = .ok (.aload 5, 2) := dk_25 5 (dk_at dksX0_kinds_3 18 rfl rfl)
theorem dX0_kinds_89 : decode cX0_kinds 89 = .ok (.athrow, 1) := dk_191 (dk_at dksX0_kinds_3 20 rfl rfl)
abbrev cX0_isSo : ByteArray := prog_1_method_46_code
def yX0_isSo : MethodName := ⟨RX0, "isSo", "()Z"⟩
def dkwX0_isSo_3 : List UInt8 := [132, 1, 1, 167, 255, 186, 4, 172]
abbrev dktX0_isSo_3 : List UInt8 := dkwX0_isSo_3 ++ []
def dkwX0_isSo_2 : List UInt8 := [4, 46, 46, 167, 0, 4, 2, 61, 28, 42, 180, 0, 124, 27, 50, 5, 46, 159, 0, 5, 3, 172]
abbrev dktX0_isSo_2 : List UInt8 := dkwX0_isSo_2 ++ dktX0_isSo_3
def dkwX0_isSo_1 : List UInt8 := [180, 0, 124, 27, 50, 4, 46, 42, 180, 1, 10, 162, 0, 19, 42, 180, 0, 114, 42, 180, 0, 124, 27, 50]
abbrev dktX0_isSo_1 : List UInt8 := dkwX0_isSo_1 ++ dktX0_isSo_2
def dkwX0_isSo_0 : List UInt8 := [3, 60, 27, 42, 180, 0, 44, 162, 0, 68, 42, 42, 180, 0, 124, 27, 50, 3, 46, 182, 1, 7, 42]
abbrev dktX0_isSo_0 : List UInt8 := dkwX0_isSo_0 ++ dktX0_isSo_1
theorem dksX0_isSo_0 : cX0_isSo.data.toList.drop 0 = dktX0_isSo_0 := by decide +kernel
theorem dksX0_isSo_1 : cX0_isSo.data.toList.drop 23 = dktX0_isSo_1 := dk_seg dksX0_isSo_0 23 rfl rfl
theorem dksX0_isSo_2 : cX0_isSo.data.toList.drop 47 = dktX0_isSo_2 := dk_seg dksX0_isSo_1 24 rfl rfl
theorem dksX0_isSo_3 : cX0_isSo.data.toList.drop 69 = dktX0_isSo_3 := dk_seg dksX0_isSo_2 22 rfl rfl
theorem dX0_isSo_0 : decode cX0_isSo 0 = .ok (.iconst 0, 1) := dk_3 (dk_at dksX0_isSo_0 0 rfl rfl)
theorem dX0_isSo_1 : decode cX0_isSo 1 = .ok (.istore_n 1, 1) := dk_60 (dk_at dksX0_isSo_0 1 rfl rfl)
theorem dX0_isSo_2 : decode cX0_isSo 2 = .ok (.iload_n 1, 1) := dk_27 (dk_at dksX0_isSo_0 2 rfl rfl)
theorem dX0_isSo_3 : decode cX0_isSo 3 = .ok (.aload_n 0, 1) := dk_42 (dk_at dksX0_isSo_0 3 rfl rfl)
theorem dX0_isSo_4 : decode cX0_isSo 4 = .ok (.getfield 44, 3) := dk_180 0 44 (dk_at dksX0_isSo_0 4 rfl rfl)
theorem dX0_isSo_7 : decode cX0_isSo 7 = .ok (.if_icmp .ge 68, 3) := dk_162 0 68 (dk_at dksX0_isSo_0 7 rfl rfl)
theorem dX0_isSo_10 : decode cX0_isSo 10 = .ok (.aload_n 0, 1) := dk_42 (dk_at dksX0_isSo_0 10 rfl rfl)
theorem dX0_isSo_11 : decode cX0_isSo 11 = .ok (.aload_n 0, 1) := dk_42 (dk_at dksX0_isSo_0 11 rfl rfl)
theorem dX0_isSo_12 : decode cX0_isSo 12 = .ok (.getfield 124, 3) := dk_180 0 124 (dk_at dksX0_isSo_0 12 rfl rfl)
theorem dX0_isSo_15 : decode cX0_isSo 15 = .ok (.iload_n 1, 1) := dk_27 (dk_at dksX0_isSo_0 15 rfl rfl)
theorem dX0_isSo_16 : decode cX0_isSo 16 = .ok (.aaload, 1) := dk_50 (dk_at dksX0_isSo_0 16 rfl rfl)
theorem dX0_isSo_17 : decode cX0_isSo 17 = .ok (.iconst 0, 1) := dk_3 (dk_at dksX0_isSo_0 17 rfl rfl)
theorem dX0_isSo_18 : decode cX0_isSo 18 = .ok (.iaload, 1) := dk_46 (dk_at dksX0_isSo_0 18 rfl rfl)
theorem dX0_isSo_19 : decode cX0_isSo 19 = .ok (.invokevirtual 263, 3) := dk_182 1 7 (dk_at dksX0_isSo_0 19 rfl rfl)
theorem dX0_isSo_22 : decode cX0_isSo 22 = .ok (.aload_n 0, 1) := dk_42 (dk_at dksX0_isSo_0 22 rfl rfl)
theorem dX0_isSo_23 : decode cX0_isSo 23 = .ok (.getfield 124, 3) := dk_180 0 124 (dk_at dksX0_isSo_1 0 rfl rfl)
theorem dX0_isSo_26 : decode cX0_isSo 26 = .ok (.iload_n 1, 1) := dk_27 (dk_at dksX0_isSo_1 3 rfl rfl)
theorem dX0_isSo_27 : decode cX0_isSo 27 = .ok (.aaload, 1) := dk_50 (dk_at dksX0_isSo_1 4 rfl rfl)
theorem dX0_isSo_28 : decode cX0_isSo 28 = .ok (.iconst 1, 1) := dk_4 (dk_at dksX0_isSo_1 5 rfl rfl)
theorem dX0_isSo_29 : decode cX0_isSo 29 = .ok (.iaload, 1) := dk_46 (dk_at dksX0_isSo_1 6 rfl rfl)
theorem dX0_isSo_30 : decode cX0_isSo 30 = .ok (.aload_n 0, 1) := dk_42 (dk_at dksX0_isSo_1 7 rfl rfl)
theorem dX0_isSo_31 : decode cX0_isSo 31 = .ok (.getfield 266, 3) := dk_180 1 10 (dk_at dksX0_isSo_1 8 rfl rfl)
theorem dX0_isSo_34 : decode cX0_isSo 34 = .ok (.if_icmp .ge 19, 3) := dk_162 0 19 (dk_at dksX0_isSo_1 11 rfl rfl)
theorem dX0_isSo_37 : decode cX0_isSo 37 = .ok (.aload_n 0, 1) := dk_42 (dk_at dksX0_isSo_1 14 rfl rfl)
theorem dX0_isSo_38 : decode cX0_isSo 38 = .ok (.getfield 114, 3) := dk_180 0 114 (dk_at dksX0_isSo_1 15 rfl rfl)
theorem dX0_isSo_41 : decode cX0_isSo 41 = .ok (.aload_n 0, 1) := dk_42 (dk_at dksX0_isSo_1 18 rfl rfl)
theorem dX0_isSo_42 : decode cX0_isSo 42 = .ok (.getfield 124, 3) := dk_180 0 124 (dk_at dksX0_isSo_1 19 rfl rfl)
theorem dX0_isSo_45 : decode cX0_isSo 45 = .ok (.iload_n 1, 1) := dk_27 (dk_at dksX0_isSo_1 22 rfl rfl)
theorem dX0_isSo_46 : decode cX0_isSo 46 = .ok (.aaload, 1) := dk_50 (dk_at dksX0_isSo_1 23 rfl rfl)
theorem dX0_isSo_47 : decode cX0_isSo 47 = .ok (.iconst 1, 1) := dk_4 (dk_at dksX0_isSo_2 0 rfl rfl)
theorem dX0_isSo_48 : decode cX0_isSo 48 = .ok (.iaload, 1) := dk_46 (dk_at dksX0_isSo_2 1 rfl rfl)
theorem dX0_isSo_49 : decode cX0_isSo 49 = .ok (.iaload, 1) := dk_46 (dk_at dksX0_isSo_2 2 rfl rfl)
theorem dX0_isSo_50 : decode cX0_isSo 50 = .ok (.goto 4, 3) := dk_167 0 4 (dk_at dksX0_isSo_2 3 rfl rfl)
theorem dX0_isSo_53 : decode cX0_isSo 53 = .ok (.iconst (-1), 1) := dk_2 (dk_at dksX0_isSo_2 6 rfl rfl)
theorem dX0_isSo_54 : decode cX0_isSo 54 = .ok (.istore_n 2, 1) := dk_61 (dk_at dksX0_isSo_2 7 rfl rfl)
theorem dX0_isSo_55 : decode cX0_isSo 55 = .ok (.iload_n 2, 1) := dk_28 (dk_at dksX0_isSo_2 8 rfl rfl)
theorem dX0_isSo_56 : decode cX0_isSo 56 = .ok (.aload_n 0, 1) := dk_42 (dk_at dksX0_isSo_2 9 rfl rfl)
theorem dX0_isSo_57 : decode cX0_isSo 57 = .ok (.getfield 124, 3) := dk_180 0 124 (dk_at dksX0_isSo_2 10 rfl rfl)
theorem dX0_isSo_60 : decode cX0_isSo 60 = .ok (.iload_n 1, 1) := dk_27 (dk_at dksX0_isSo_2 13 rfl rfl)
theorem dX0_isSo_61 : decode cX0_isSo 61 = .ok (.aaload, 1) := dk_50 (dk_at dksX0_isSo_2 14 rfl rfl)
theorem dX0_isSo_62 : decode cX0_isSo 62 = .ok (.iconst 2, 1) := dk_5 (dk_at dksX0_isSo_2 15 rfl rfl)
theorem dX0_isSo_63 : decode cX0_isSo 63 = .ok (.iaload, 1) := dk_46 (dk_at dksX0_isSo_2 16 rfl rfl)
theorem dX0_isSo_64 : decode cX0_isSo 64 = .ok (.if_icmp .eq 5, 3) := dk_159 0 5 (dk_at dksX0_isSo_2 17 rfl rfl)
theorem dX0_isSo_67 : decode cX0_isSo 67 = .ok (.iconst 0, 1) := dk_3 (dk_at dksX0_isSo_2 20 rfl rfl)
theorem dX0_isSo_68 : decode cX0_isSo 68 = .ok (.ireturn, 1) := dk_172 (dk_at dksX0_isSo_2 21 rfl rfl)
theorem dX0_isSo_69 : decode cX0_isSo 69 = .ok (.iinc 1 1, 3) := dk_132 1 1 (dk_at dksX0_isSo_3 0 rfl rfl)
theorem dX0_isSo_72 : decode cX0_isSo 72 = .ok (.goto (-70), 3) := dk_167 255 186 (dk_at dksX0_isSo_3 3 rfl rfl)
theorem dX0_isSo_75 : decode cX0_isSo 75 = .ok (.iconst 1, 1) := dk_4 (dk_at dksX0_isSo_3 6 rfl rfl)
theorem dX0_isSo_76 : decode cX0_isSo 76 = .ok (.ireturn, 1) := dk_172 (dk_at dksX0_isSo_3 7 rfl rfl)
abbrev cX0_reel : ByteArray := prog_1_method_51_code
def yX0_reel : MethodName := ⟨RX0, "reel", "(III)I"⟩
def dkwX0_reel_2 : List UInt8 := [25, 4, 184, 1, 62, 172]
abbrev dktX0_reel_2 : List UInt8 := dkwX0_reel_2 ++ []
def dkwX0_reel_1 : List UInt8 := [16, 12, 164, 0, 6, 16, 253, 172, 42, 180, 0, 142, 27, 28, 29, 184, 1, 56, 83, 29, 172, 58, 4]
abbrev dktX0_reel_1 : List UInt8 := dkwX0_reel_1 ++ dktX0_reel_2
def dkwX0_reel_0 : List UInt8 := [27, 184, 1, 53, 154, 0, 6, 16, 254, 172, 28, 133, 9, 20, 0, 152, 184, 0, 148, 153, 0, 9, 29]
abbrev dktX0_reel_0 : List UInt8 := dkwX0_reel_0 ++ dktX0_reel_1
theorem dksX0_reel_0 : cX0_reel.data.toList.drop 0 = dktX0_reel_0 := by decide +kernel
theorem dksX0_reel_1 : cX0_reel.data.toList.drop 23 = dktX0_reel_1 := dk_seg dksX0_reel_0 23 rfl rfl
theorem dksX0_reel_2 : cX0_reel.data.toList.drop 46 = dktX0_reel_2 := dk_seg dksX0_reel_1 23 rfl rfl
theorem dX0_reel_0 : decode cX0_reel 0 = .ok (.iload_n 1, 1) := dk_27 (dk_at dksX0_reel_0 0 rfl rfl)
theorem dX0_reel_1 : decode cX0_reel 1 = .ok (.invokestatic 309, 3) := dk_184 1 53 (dk_at dksX0_reel_0 1 rfl rfl)
theorem dX0_reel_4 : decode cX0_reel 4 = .ok (.ifCond .ne 6, 3) := dk_154 0 6 (dk_at dksX0_reel_0 4 rfl rfl)
theorem dX0_reel_7 : decode cX0_reel 7 = .ok (.bipush (-2), 2) := dk_16 254 (dk_at dksX0_reel_0 7 rfl rfl)
theorem dX0_reel_9 : decode cX0_reel 9 = .ok (.ireturn, 1) := dk_172 (dk_at dksX0_reel_0 9 rfl rfl)
theorem dX0_reel_10 : decode cX0_reel 10 = .ok (.iload_n 2, 1) := dk_28 (dk_at dksX0_reel_0 10 rfl rfl)
theorem dX0_reel_11 : decode cX0_reel 11 = .ok (.i2l, 1) := dk_133 (dk_at dksX0_reel_0 11 rfl rfl)
theorem dX0_reel_12 : decode cX0_reel 12 = .ok (.lconst 0, 1) := dk_9 (dk_at dksX0_reel_0 12 rfl rfl)
theorem dX0_reel_13 : decode cX0_reel 13 = .ok (.ldc2_w 152, 3) := dk_20 0 152 (dk_at dksX0_reel_0 13 rfl rfl)
theorem dX0_reel_16 : decode cX0_reel 16 = .ok (.invokestatic 148, 3) := dk_184 0 148 (dk_at dksX0_reel_0 16 rfl rfl)
theorem dX0_reel_19 : decode cX0_reel 19 = .ok (.ifCond .eq 9, 3) := dk_153 0 9 (dk_at dksX0_reel_0 19 rfl rfl)
theorem dX0_reel_22 : decode cX0_reel 22 = .ok (.iload_n 3, 1) := dk_29 (dk_at dksX0_reel_0 22 rfl rfl)
theorem dX0_reel_23 : decode cX0_reel 23 = .ok (.bipush 12, 2) := dk_16 12 (dk_at dksX0_reel_1 0 rfl rfl)
theorem dX0_reel_25 : decode cX0_reel 25 = .ok (.if_icmp .le 6, 3) := dk_164 0 6 (dk_at dksX0_reel_1 2 rfl rfl)
theorem dX0_reel_28 : decode cX0_reel 28 = .ok (.bipush (-3), 2) := dk_16 253 (dk_at dksX0_reel_1 5 rfl rfl)
theorem dX0_reel_30 : decode cX0_reel 30 = .ok (.ireturn, 1) := dk_172 (dk_at dksX0_reel_1 7 rfl rfl)
theorem dX0_reel_31 : decode cX0_reel 31 = .ok (.aload_n 0, 1) := dk_42 (dk_at dksX0_reel_1 8 rfl rfl)
theorem dX0_reel_32 : decode cX0_reel 32 = .ok (.getfield 142, 3) := dk_180 0 142 (dk_at dksX0_reel_1 9 rfl rfl)
theorem dX0_reel_35 : decode cX0_reel 35 = .ok (.iload_n 1, 1) := dk_27 (dk_at dksX0_reel_1 12 rfl rfl)
theorem dX0_reel_36 : decode cX0_reel 36 = .ok (.iload_n 2, 1) := dk_28 (dk_at dksX0_reel_1 13 rfl rfl)
theorem dX0_reel_37 : decode cX0_reel 37 = .ok (.iload_n 3, 1) := dk_29 (dk_at dksX0_reel_1 14 rfl rfl)
theorem dX0_reel_38 : decode cX0_reel 38 = .ok (.invokestatic 312, 3) := dk_184 1 56 (dk_at dksX0_reel_1 15 rfl rfl)
theorem dX0_reel_41 : decode cX0_reel 41 = .ok (.aastore, 1) := dk_83 (dk_at dksX0_reel_1 18 rfl rfl)
theorem dX0_reel_42 : decode cX0_reel 42 = .ok (.iload_n 3, 1) := dk_29 (dk_at dksX0_reel_1 19 rfl rfl)
theorem dX0_reel_43 : decode cX0_reel 43 = .ok (.ireturn, 1) := dk_172 (dk_at dksX0_reel_1 20 rfl rfl)
theorem dX0_reel_44 : decode cX0_reel 44 = .ok (.astore 4, 2) := dk_58 4 (dk_at dksX0_reel_1 21 rfl rfl)
theorem dX0_reel_46 : decode cX0_reel 46 = .ok (.aload 4, 2) := dk_25 4 (dk_at dksX0_reel_2 0 rfl rfl)
theorem dX0_reel_48 : decode cX0_reel 48 = .ok (.invokestatic 318, 3) := dk_184 1 62 (dk_at dksX0_reel_2 2 rfl rfl)
theorem dX0_reel_51 : decode cX0_reel 51 = .ok (.ireturn, 1) := dk_172 (dk_at dksX0_reel_2 5 rfl rfl)
abbrev cX0_isReel : ByteArray := prog_1_method_48_code
def yX0_isReel : MethodName := ⟨RX0, "isReel", "(I)Z"⟩
def dkwX0_isReel_0 : List UInt8 := [26, 133, 9, 20, 1, 47, 184, 0, 148, 172]
abbrev dktX0_isReel_0 : List UInt8 := dkwX0_isReel_0 ++ []
theorem dksX0_isReel_0 : cX0_isReel.data.toList.drop 0 = dktX0_isReel_0 := by decide +kernel
theorem dX0_isReel_0 : decode cX0_isReel 0 = .ok (.iload_n 0, 1) := dk_26 (dk_at dksX0_isReel_0 0 rfl rfl)
theorem dX0_isReel_1 : decode cX0_isReel 1 = .ok (.i2l, 1) := dk_133 (dk_at dksX0_isReel_0 1 rfl rfl)
theorem dX0_isReel_2 : decode cX0_isReel 2 = .ok (.lconst 0, 1) := dk_9 (dk_at dksX0_isReel_0 2 rfl rfl)
theorem dX0_isReel_3 : decode cX0_isReel 3 = .ok (.ldc2_w 303, 3) := dk_20 1 47 (dk_at dksX0_isReel_0 3 rfl rfl)
theorem dX0_isReel_6 : decode cX0_isReel 6 = .ok (.invokestatic 148, 3) := dk_184 0 148 (dk_at dksX0_isReel_0 6 rfl rfl)
theorem dX0_isReel_9 : decode cX0_isReel 9 = .ok (.ireturn, 1) := dk_172 (dk_at dksX0_isReel_0 9 rfl rfl)
abbrev cX0_made : ByteArray := prog_1_method_50_code
def yX0_made : MethodName := ⟨RX0, "made", "(II)Ljava/lang/Object;"⟩
def dkwX0_made_2 : List UInt8 := [27, 188, 8, 176, 27, 188, 9, 176, 27, 188, 10, 176, 27, 189, 0, 19, 176]
abbrev dktX0_made_2 : List UInt8 := dkwX0_made_2 ++ []
def dkwX0_made_1 : List UInt8 := [170, 0, 0, 0, 0, 0, 39, 0, 0, 0, 0, 0, 0, 0, 2, 0, 0, 0, 27, 0, 0, 0, 31, 0, 0, 0, 35]
abbrev dktX0_made_1 : List UInt8 := dkwX0_made_1 ++ dktX0_made_2
def dkwX0_made_0 : List UInt8 := [26]
abbrev dktX0_made_0 : List UInt8 := dkwX0_made_0 ++ dktX0_made_1
theorem dksX0_made_0 : cX0_made.data.toList.drop 0 = dktX0_made_0 := by decide +kernel
theorem dksX0_made_1 : cX0_made.data.toList.drop 1 = dktX0_made_1 := dk_seg dksX0_made_0 1 rfl rfl
theorem dksX0_made_2 : cX0_made.data.toList.drop 28 = dktX0_made_2 := dk_seg dksX0_made_1 27 rfl rfl
theorem dX0_made_0 : decode cX0_made 0 = .ok (.iload_n 0, 1) := dk_26 (dk_at dksX0_made_0 0 rfl rfl)
theorem dX0_made_1 : decode cX0_made 1 = .ok (.tableswitch 39 0 2 #[27, 31, 35], 27) := by decide +kernel
theorem dX0_made_28 : decode cX0_made 28 = .ok (.iload_n 1, 1) := dk_27 (dk_at dksX0_made_2 0 rfl rfl)
theorem dX0_made_29 : decode cX0_made 29 = .ok (.newarray .byte, 2) := dk_188_8 (dk_at dksX0_made_2 1 rfl rfl)
theorem dX0_made_31 : decode cX0_made 31 = .ok (.areturn, 1) := dk_176 (dk_at dksX0_made_2 3 rfl rfl)
theorem dX0_made_32 : decode cX0_made 32 = .ok (.iload_n 1, 1) := dk_27 (dk_at dksX0_made_2 4 rfl rfl)
theorem dX0_made_33 : decode cX0_made 33 = .ok (.newarray .short, 2) := dk_188_9 (dk_at dksX0_made_2 5 rfl rfl)
theorem dX0_made_35 : decode cX0_made 35 = .ok (.areturn, 1) := dk_176 (dk_at dksX0_made_2 7 rfl rfl)
theorem dX0_made_36 : decode cX0_made 36 = .ok (.iload_n 1, 1) := dk_27 (dk_at dksX0_made_2 8 rfl rfl)
theorem dX0_made_37 : decode cX0_made 37 = .ok (.newarray .int, 2) := dk_188_10 (dk_at dksX0_made_2 9 rfl rfl)
theorem dX0_made_39 : decode cX0_made 39 = .ok (.areturn, 1) := dk_176 (dk_at dksX0_made_2 11 rfl rfl)
theorem dX0_made_40 : decode cX0_made 40 = .ok (.iload_n 1, 1) := dk_27 (dk_at dksX0_made_2 12 rfl rfl)
theorem dX0_made_41 : decode cX0_made 41 = .ok (.anewarray 19, 3) := dk_189 0 19 (dk_at dksX0_made_2 13 rfl rfl)
theorem dX0_made_44 : decode cX0_made 44 = .ok (.areturn, 1) := dk_176 (dk_at dksX0_made_2 16 rfl rfl)
abbrev cX0_found : ByteArray := prog_1_method_49_code
def yX0_found : MethodName := ⟨RX0, "found", "(Ljava/lang/RuntimeException;)I"⟩
def dkwX0_found_1 : List UInt8 := [153, 0, 6, 16, 243, 172, 42, 193, 1, 51, 153, 0, 8, 16, 242, 167, 0, 5, 16, 240, 172]
abbrev dktX0_found_1 : List UInt8 := dkwX0_found_1 ++ []
def dkwX0_found_0 : List UInt8 := [42, 193, 0, 255, 153, 0, 6, 16, 245, 172, 42, 193, 0, 234, 153, 0, 6, 16, 244, 172, 42, 193, 1, 49]
abbrev dktX0_found_0 : List UInt8 := dkwX0_found_0 ++ dktX0_found_1
theorem dksX0_found_0 : cX0_found.data.toList.drop 0 = dktX0_found_0 := by decide +kernel
theorem dksX0_found_1 : cX0_found.data.toList.drop 24 = dktX0_found_1 := dk_seg dksX0_found_0 24 rfl rfl
theorem dX0_found_0 : decode cX0_found 0 = .ok (.aload_n 0, 1) := dk_42 (dk_at dksX0_found_0 0 rfl rfl)
theorem dX0_found_1 : decode cX0_found 1 = .ok (.instanceof 255, 3) := dk_193 0 255 (dk_at dksX0_found_0 1 rfl rfl)
theorem dX0_found_4 : decode cX0_found 4 = .ok (.ifCond .eq 6, 3) := dk_153 0 6 (dk_at dksX0_found_0 4 rfl rfl)
theorem dX0_found_7 : decode cX0_found 7 = .ok (.bipush (-11), 2) := dk_16 245 (dk_at dksX0_found_0 7 rfl rfl)
theorem dX0_found_9 : decode cX0_found 9 = .ok (.ireturn, 1) := dk_172 (dk_at dksX0_found_0 9 rfl rfl)
theorem dX0_found_10 : decode cX0_found 10 = .ok (.aload_n 0, 1) := dk_42 (dk_at dksX0_found_0 10 rfl rfl)
theorem dX0_found_11 : decode cX0_found 11 = .ok (.instanceof 234, 3) := dk_193 0 234 (dk_at dksX0_found_0 11 rfl rfl)
theorem dX0_found_14 : decode cX0_found 14 = .ok (.ifCond .eq 6, 3) := dk_153 0 6 (dk_at dksX0_found_0 14 rfl rfl)
theorem dX0_found_17 : decode cX0_found 17 = .ok (.bipush (-12), 2) := dk_16 244 (dk_at dksX0_found_0 17 rfl rfl)
theorem dX0_found_19 : decode cX0_found 19 = .ok (.ireturn, 1) := dk_172 (dk_at dksX0_found_0 19 rfl rfl)
theorem dX0_found_20 : decode cX0_found 20 = .ok (.aload_n 0, 1) := dk_42 (dk_at dksX0_found_0 20 rfl rfl)
theorem dX0_found_21 : decode cX0_found 21 = .ok (.instanceof 305, 3) := dk_193 1 49 (dk_at dksX0_found_0 21 rfl rfl)
theorem dX0_found_24 : decode cX0_found 24 = .ok (.ifCond .eq 6, 3) := dk_153 0 6 (dk_at dksX0_found_1 0 rfl rfl)
theorem dX0_found_27 : decode cX0_found 27 = .ok (.bipush (-13), 2) := dk_16 243 (dk_at dksX0_found_1 3 rfl rfl)
theorem dX0_found_29 : decode cX0_found 29 = .ok (.ireturn, 1) := dk_172 (dk_at dksX0_found_1 5 rfl rfl)
theorem dX0_found_30 : decode cX0_found 30 = .ok (.aload_n 0, 1) := dk_42 (dk_at dksX0_found_1 6 rfl rfl)
theorem dX0_found_31 : decode cX0_found 31 = .ok (.instanceof 307, 3) := dk_193 1 51 (dk_at dksX0_found_1 7 rfl rfl)
theorem dX0_found_34 : decode cX0_found 34 = .ok (.ifCond .eq 8, 3) := dk_153 0 8 (dk_at dksX0_found_1 10 rfl rfl)
theorem dX0_found_37 : decode cX0_found 37 = .ok (.bipush (-14), 2) := dk_16 242 (dk_at dksX0_found_1 13 rfl rfl)
theorem dX0_found_39 : decode cX0_found 39 = .ok (.goto 5, 3) := dk_167 0 5 (dk_at dksX0_found_1 15 rfl rfl)
theorem dX0_found_42 : decode cX0_found 42 = .ok (.bipush (-16), 2) := dk_16 240 (dk_at dksX0_found_1 18 rfl rfl)
theorem dX0_found_44 : decode cX0_found 44 = .ok (.ireturn, 1) := dk_172 (dk_at dksX0_found_1 20 rfl rfl)
abbrev cX0_record : ByteArray := prog_1_method_53_code
def yX0_record : MethodName := ⟨RX0, "record", "(IIII)I"⟩
def dkwX0_record_2 : List UInt8 := [180, 0, 142, 27, 50, 28, 29, 21, 4, 182, 1, 72, 172, 58, 5, 25, 5, 184, 1, 62, 172]
abbrev dktX0_record_2 : List UInt8 := dkwX0_record_2 ++ []
def dkwX0_record_1 : List UInt8 := [154, 0, 6, 16, 254, 172, 28, 133, 9, 20, 0, 152, 184, 0, 148, 154, 0, 6, 16, 253, 172, 42, 42]
abbrev dktX0_record_1 : List UInt8 := dkwX0_record_1 ++ dktX0_record_2
def dkwX0_record_0 : List UInt8 := [27, 184, 1, 53, 153, 0, 23, 28, 6, 160, 0, 21, 21, 4, 2, 159, 0, 15, 42, 21, 4, 182, 0, 194]
abbrev dktX0_record_0 : List UInt8 := dkwX0_record_0 ++ dktX0_record_1
theorem dksX0_record_0 : cX0_record.data.toList.drop 0 = dktX0_record_0 := by decide +kernel
theorem dksX0_record_1 : cX0_record.data.toList.drop 24 = dktX0_record_1 := dk_seg dksX0_record_0 24 rfl rfl
theorem dksX0_record_2 : cX0_record.data.toList.drop 47 = dktX0_record_2 := dk_seg dksX0_record_1 23 rfl rfl
theorem dX0_record_0 : decode cX0_record 0 = .ok (.iload_n 1, 1) := dk_27 (dk_at dksX0_record_0 0 rfl rfl)
theorem dX0_record_1 : decode cX0_record 1 = .ok (.invokestatic 309, 3) := dk_184 1 53 (dk_at dksX0_record_0 1 rfl rfl)
theorem dX0_record_4 : decode cX0_record 4 = .ok (.ifCond .eq 23, 3) := dk_153 0 23 (dk_at dksX0_record_0 4 rfl rfl)
theorem dX0_record_7 : decode cX0_record 7 = .ok (.iload_n 2, 1) := dk_28 (dk_at dksX0_record_0 7 rfl rfl)
theorem dX0_record_8 : decode cX0_record 8 = .ok (.iconst 3, 1) := dk_6 (dk_at dksX0_record_0 8 rfl rfl)
theorem dX0_record_9 : decode cX0_record 9 = .ok (.if_icmp .ne 21, 3) := dk_160 0 21 (dk_at dksX0_record_0 9 rfl rfl)
theorem dX0_record_12 : decode cX0_record 12 = .ok (.iload 4, 2) := dk_21 4 (dk_at dksX0_record_0 12 rfl rfl)
theorem dX0_record_14 : decode cX0_record 14 = .ok (.iconst (-1), 1) := dk_2 (dk_at dksX0_record_0 14 rfl rfl)
theorem dX0_record_15 : decode cX0_record 15 = .ok (.if_icmp .eq 15, 3) := dk_159 0 15 (dk_at dksX0_record_0 15 rfl rfl)
theorem dX0_record_18 : decode cX0_record 18 = .ok (.aload_n 0, 1) := dk_42 (dk_at dksX0_record_0 18 rfl rfl)
theorem dX0_record_19 : decode cX0_record 19 = .ok (.iload 4, 2) := dk_21 4 (dk_at dksX0_record_0 19 rfl rfl)
theorem dX0_record_21 : decode cX0_record 21 = .ok (.invokevirtual 194, 3) := dk_182 0 194 (dk_at dksX0_record_0 21 rfl rfl)
theorem dX0_record_24 : decode cX0_record 24 = .ok (.ifCond .ne 6, 3) := dk_154 0 6 (dk_at dksX0_record_1 0 rfl rfl)
theorem dX0_record_27 : decode cX0_record 27 = .ok (.bipush (-2), 2) := dk_16 254 (dk_at dksX0_record_1 3 rfl rfl)
theorem dX0_record_29 : decode cX0_record 29 = .ok (.ireturn, 1) := dk_172 (dk_at dksX0_record_1 5 rfl rfl)
theorem dX0_record_30 : decode cX0_record 30 = .ok (.iload_n 2, 1) := dk_28 (dk_at dksX0_record_1 6 rfl rfl)
theorem dX0_record_31 : decode cX0_record 31 = .ok (.i2l, 1) := dk_133 (dk_at dksX0_record_1 7 rfl rfl)
theorem dX0_record_32 : decode cX0_record 32 = .ok (.lconst 0, 1) := dk_9 (dk_at dksX0_record_1 8 rfl rfl)
theorem dX0_record_33 : decode cX0_record 33 = .ok (.ldc2_w 152, 3) := dk_20 0 152 (dk_at dksX0_record_1 9 rfl rfl)
theorem dX0_record_36 : decode cX0_record 36 = .ok (.invokestatic 148, 3) := dk_184 0 148 (dk_at dksX0_record_1 12 rfl rfl)
theorem dX0_record_39 : decode cX0_record 39 = .ok (.ifCond .ne 6, 3) := dk_154 0 6 (dk_at dksX0_record_1 15 rfl rfl)
theorem dX0_record_42 : decode cX0_record 42 = .ok (.bipush (-3), 2) := dk_16 253 (dk_at dksX0_record_1 18 rfl rfl)
theorem dX0_record_44 : decode cX0_record 44 = .ok (.ireturn, 1) := dk_172 (dk_at dksX0_record_1 20 rfl rfl)
theorem dX0_record_45 : decode cX0_record 45 = .ok (.aload_n 0, 1) := dk_42 (dk_at dksX0_record_1 21 rfl rfl)
theorem dX0_record_46 : decode cX0_record 46 = .ok (.aload_n 0, 1) := dk_42 (dk_at dksX0_record_1 22 rfl rfl)
theorem dX0_record_47 : decode cX0_record 47 = .ok (.getfield 142, 3) := dk_180 0 142 (dk_at dksX0_record_2 0 rfl rfl)
theorem dX0_record_50 : decode cX0_record 50 = .ok (.iload_n 1, 1) := dk_27 (dk_at dksX0_record_2 3 rfl rfl)
theorem dX0_record_51 : decode cX0_record 51 = .ok (.aaload, 1) := dk_50 (dk_at dksX0_record_2 4 rfl rfl)
theorem dX0_record_52 : decode cX0_record 52 = .ok (.iload_n 2, 1) := dk_28 (dk_at dksX0_record_2 5 rfl rfl)
theorem dX0_record_53 : decode cX0_record 53 = .ok (.iload_n 3, 1) := dk_29 (dk_at dksX0_record_2 6 rfl rfl)
theorem dX0_record_54 : decode cX0_record 54 = .ok (.iload 4, 2) := dk_21 4 (dk_at dksX0_record_2 7 rfl rfl)
theorem dX0_record_56 : decode cX0_record 56 = .ok (.invokevirtual 328, 3) := dk_182 1 72 (dk_at dksX0_record_2 9 rfl rfl)
theorem dX0_record_59 : decode cX0_record 59 = .ok (.ireturn, 1) := dk_172 (dk_at dksX0_record_2 12 rfl rfl)
theorem dX0_record_60 : decode cX0_record 60 = .ok (.astore 5, 2) := dk_58 5 (dk_at dksX0_record_2 13 rfl rfl)
theorem dX0_record_62 : decode cX0_record 62 = .ok (.aload 5, 2) := dk_25 5 (dk_at dksX0_record_2 15 rfl rfl)
theorem dX0_record_64 : decode cX0_record 64 = .ok (.invokestatic 318, 3) := dk_184 1 62 (dk_at dksX0_record_2 17 rfl rfl)
theorem dX0_record_67 : decode cX0_record 67 = .ok (.ireturn, 1) := dk_172 (dk_at dksX0_record_2 20 rfl rfl)
abbrev cX0_recordIn : ByteArray := prog_1_method_52_code
def yX0_recordIn : MethodName := ⟨RX0, "recordIn", "(Ljava/lang/Object;III)I"⟩
def dkwX0_recordIn_4 : List UInt8 := [2, 160, 0, 7, 1, 167, 0, 9, 42, 21, 4, 182, 0, 198, 83, 21, 4, 172]
abbrev dktX0_recordIn_4 : List UInt8 := dkwX0_recordIn_4 ++ []
def dkwX0_recordIn_3 : List UInt8 := [21, 4, 147, 91, 86, 96, 172, 43, 192, 0, 123, 29, 21, 4, 79, 4, 172, 43, 192, 1, 70, 29, 21, 4]
abbrev dktX0_recordIn_3 : List UInt8 := dkwX0_recordIn_3 ++ dktX0_recordIn_4
def dkwX0_recordIn_2 : List UInt8 := [19, 1, 66, 43, 192, 1, 67, 29, 21, 4, 145, 91, 84, 96, 172, 19, 1, 66, 43, 192, 1, 68, 29]
abbrev dktX0_recordIn_2 : List UInt8 := dkwX0_recordIn_2 ++ dktX0_recordIn_3
def dkwX0_recordIn_1 : List UInt8 := [170, 0, 0, 0, 0, 0, 67, 0, 0, 0, 0, 0, 0, 0, 2, 0, 0, 0, 27, 0, 0, 0, 42, 0, 0, 0, 57]
abbrev dktX0_recordIn_1 : List UInt8 := dkwX0_recordIn_1 ++ dktX0_recordIn_2
def dkwX0_recordIn_0 : List UInt8 := [28]
abbrev dktX0_recordIn_0 : List UInt8 := dkwX0_recordIn_0 ++ dktX0_recordIn_1
theorem dksX0_recordIn_0 : cX0_recordIn.data.toList.drop 0 = dktX0_recordIn_0 := by decide +kernel
theorem dksX0_recordIn_1 : cX0_recordIn.data.toList.drop 1 = dktX0_recordIn_1 := dk_seg dksX0_recordIn_0 1 rfl rfl
theorem dksX0_recordIn_2 : cX0_recordIn.data.toList.drop 28 = dktX0_recordIn_2 := dk_seg dksX0_recordIn_1 27 rfl rfl
theorem dksX0_recordIn_3 : cX0_recordIn.data.toList.drop 51 = dktX0_recordIn_3 := dk_seg dksX0_recordIn_2 23 rfl rfl
theorem dksX0_recordIn_4 : cX0_recordIn.data.toList.drop 75 = dktX0_recordIn_4 := dk_seg dksX0_recordIn_3 24 rfl rfl
theorem dX0_recordIn_0 : decode cX0_recordIn 0 = .ok (.iload_n 2, 1) := dk_28 (dk_at dksX0_recordIn_0 0 rfl rfl)
theorem dX0_recordIn_1 : decode cX0_recordIn 1 = .ok (.tableswitch 67 0 2 #[27, 42, 57], 27) := by decide +kernel
theorem dX0_recordIn_28 : decode cX0_recordIn 28 = .ok (.ldc_w 322, 3) := dk_19 1 66 (dk_at dksX0_recordIn_2 0 rfl rfl)
theorem dX0_recordIn_31 : decode cX0_recordIn 31 = .ok (.aload_n 1, 1) := dk_43 (dk_at dksX0_recordIn_2 3 rfl rfl)
theorem dX0_recordIn_32 : decode cX0_recordIn 32 = .ok (.checkcast 323, 3) := dk_192 1 67 (dk_at dksX0_recordIn_2 4 rfl rfl)
theorem dX0_recordIn_35 : decode cX0_recordIn 35 = .ok (.iload_n 3, 1) := dk_29 (dk_at dksX0_recordIn_2 7 rfl rfl)
theorem dX0_recordIn_36 : decode cX0_recordIn 36 = .ok (.iload 4, 2) := dk_21 4 (dk_at dksX0_recordIn_2 8 rfl rfl)
theorem dX0_recordIn_38 : decode cX0_recordIn 38 = .ok (.i2b, 1) := dk_145 (dk_at dksX0_recordIn_2 10 rfl rfl)
theorem dX0_recordIn_39 : decode cX0_recordIn 39 = .ok (.dup_x2, 1) := dk_91 (dk_at dksX0_recordIn_2 11 rfl rfl)
theorem dX0_recordIn_40 : decode cX0_recordIn 40 = .ok (.bastore, 1) := dk_84 (dk_at dksX0_recordIn_2 12 rfl rfl)
theorem dX0_recordIn_41 : decode cX0_recordIn 41 = .ok (.iadd, 1) := dk_96 (dk_at dksX0_recordIn_2 13 rfl rfl)
theorem dX0_recordIn_42 : decode cX0_recordIn 42 = .ok (.ireturn, 1) := dk_172 (dk_at dksX0_recordIn_2 14 rfl rfl)
theorem dX0_recordIn_43 : decode cX0_recordIn 43 = .ok (.ldc_w 322, 3) := dk_19 1 66 (dk_at dksX0_recordIn_2 15 rfl rfl)
theorem dX0_recordIn_46 : decode cX0_recordIn 46 = .ok (.aload_n 1, 1) := dk_43 (dk_at dksX0_recordIn_2 18 rfl rfl)
theorem dX0_recordIn_47 : decode cX0_recordIn 47 = .ok (.checkcast 324, 3) := dk_192 1 68 (dk_at dksX0_recordIn_2 19 rfl rfl)
theorem dX0_recordIn_50 : decode cX0_recordIn 50 = .ok (.iload_n 3, 1) := dk_29 (dk_at dksX0_recordIn_2 22 rfl rfl)
theorem dX0_recordIn_51 : decode cX0_recordIn 51 = .ok (.iload 4, 2) := dk_21 4 (dk_at dksX0_recordIn_3 0 rfl rfl)
theorem dX0_recordIn_53 : decode cX0_recordIn 53 = .ok (.i2s, 1) := dk_147 (dk_at dksX0_recordIn_3 2 rfl rfl)
theorem dX0_recordIn_54 : decode cX0_recordIn 54 = .ok (.dup_x2, 1) := dk_91 (dk_at dksX0_recordIn_3 3 rfl rfl)
theorem dX0_recordIn_55 : decode cX0_recordIn 55 = .ok (.sastore, 1) := dk_86 (dk_at dksX0_recordIn_3 4 rfl rfl)
theorem dX0_recordIn_56 : decode cX0_recordIn 56 = .ok (.iadd, 1) := dk_96 (dk_at dksX0_recordIn_3 5 rfl rfl)
theorem dX0_recordIn_57 : decode cX0_recordIn 57 = .ok (.ireturn, 1) := dk_172 (dk_at dksX0_recordIn_3 6 rfl rfl)
theorem dX0_recordIn_58 : decode cX0_recordIn 58 = .ok (.aload_n 1, 1) := dk_43 (dk_at dksX0_recordIn_3 7 rfl rfl)
theorem dX0_recordIn_59 : decode cX0_recordIn 59 = .ok (.checkcast 123, 3) := dk_192 0 123 (dk_at dksX0_recordIn_3 8 rfl rfl)
theorem dX0_recordIn_62 : decode cX0_recordIn 62 = .ok (.iload_n 3, 1) := dk_29 (dk_at dksX0_recordIn_3 11 rfl rfl)
theorem dX0_recordIn_63 : decode cX0_recordIn 63 = .ok (.iload 4, 2) := dk_21 4 (dk_at dksX0_recordIn_3 12 rfl rfl)
theorem dX0_recordIn_65 : decode cX0_recordIn 65 = .ok (.iastore, 1) := dk_79 (dk_at dksX0_recordIn_3 14 rfl rfl)
theorem dX0_recordIn_66 : decode cX0_recordIn 66 = .ok (.iconst 1, 1) := dk_4 (dk_at dksX0_recordIn_3 15 rfl rfl)
theorem dX0_recordIn_67 : decode cX0_recordIn 67 = .ok (.ireturn, 1) := dk_172 (dk_at dksX0_recordIn_3 16 rfl rfl)
theorem dX0_recordIn_68 : decode cX0_recordIn 68 = .ok (.aload_n 1, 1) := dk_43 (dk_at dksX0_recordIn_3 17 rfl rfl)
theorem dX0_recordIn_69 : decode cX0_recordIn 69 = .ok (.checkcast 326, 3) := dk_192 1 70 (dk_at dksX0_recordIn_3 18 rfl rfl)
theorem dX0_recordIn_72 : decode cX0_recordIn 72 = .ok (.iload_n 3, 1) := dk_29 (dk_at dksX0_recordIn_3 21 rfl rfl)
theorem dX0_recordIn_73 : decode cX0_recordIn 73 = .ok (.iload 4, 2) := dk_21 4 (dk_at dksX0_recordIn_3 22 rfl rfl)
theorem dX0_recordIn_75 : decode cX0_recordIn 75 = .ok (.iconst (-1), 1) := dk_2 (dk_at dksX0_recordIn_4 0 rfl rfl)
theorem dX0_recordIn_76 : decode cX0_recordIn 76 = .ok (.if_icmp .ne 7, 3) := dk_160 0 7 (dk_at dksX0_recordIn_4 1 rfl rfl)
theorem dX0_recordIn_79 : decode cX0_recordIn 79 = .ok (.aconst_null, 1) := dk_1 (dk_at dksX0_recordIn_4 4 rfl rfl)
theorem dX0_recordIn_80 : decode cX0_recordIn 80 = .ok (.goto 9, 3) := dk_167 0 9 (dk_at dksX0_recordIn_4 5 rfl rfl)
theorem dX0_recordIn_83 : decode cX0_recordIn 83 = .ok (.aload_n 0, 1) := dk_42 (dk_at dksX0_recordIn_4 8 rfl rfl)
theorem dX0_recordIn_84 : decode cX0_recordIn 84 = .ok (.iload 4, 2) := dk_21 4 (dk_at dksX0_recordIn_4 9 rfl rfl)
theorem dX0_recordIn_86 : decode cX0_recordIn 86 = .ok (.invokevirtual 198, 3) := dk_182 0 198 (dk_at dksX0_recordIn_4 11 rfl rfl)
theorem dX0_recordIn_89 : decode cX0_recordIn 89 = .ok (.aastore, 1) := dk_83 (dk_at dksX0_recordIn_4 14 rfl rfl)
theorem dX0_recordIn_90 : decode cX0_recordIn 90 = .ok (.iload 4, 2) := dk_21 4 (dk_at dksX0_recordIn_4 15 rfl rfl)
theorem dX0_recordIn_92 : decode cX0_recordIn 92 = .ok (.ireturn, 1) := dk_172 (dk_at dksX0_recordIn_4 17 rfl rfl)
abbrev cX0_play : ByteArray := prog_1_method_55_code
def yX0_play : MethodName := ⟨RX0, "play", "(III)I"⟩
def dkwX0_play_1 : List UInt8 := [172, 42, 180, 0, 142, 27, 50, 28, 29, 184, 1, 81, 172, 58, 4, 25, 4, 184, 1, 62, 172]
abbrev dktX0_play_1 : List UInt8 := dkwX0_play_1 ++ []
def dkwX0_play_0 : List UInt8 := [27, 184, 1, 53, 154, 0, 6, 16, 254, 172, 28, 133, 9, 20, 0, 152, 184, 0, 148, 154, 0, 6, 16, 253]
abbrev dktX0_play_0 : List UInt8 := dkwX0_play_0 ++ dktX0_play_1
theorem dksX0_play_0 : cX0_play.data.toList.drop 0 = dktX0_play_0 := by decide +kernel
theorem dksX0_play_1 : cX0_play.data.toList.drop 24 = dktX0_play_1 := dk_seg dksX0_play_0 24 rfl rfl
theorem dX0_play_0 : decode cX0_play 0 = .ok (.iload_n 1, 1) := dk_27 (dk_at dksX0_play_0 0 rfl rfl)
theorem dX0_play_1 : decode cX0_play 1 = .ok (.invokestatic 309, 3) := dk_184 1 53 (dk_at dksX0_play_0 1 rfl rfl)
theorem dX0_play_4 : decode cX0_play 4 = .ok (.ifCond .ne 6, 3) := dk_154 0 6 (dk_at dksX0_play_0 4 rfl rfl)
theorem dX0_play_7 : decode cX0_play 7 = .ok (.bipush (-2), 2) := dk_16 254 (dk_at dksX0_play_0 7 rfl rfl)
theorem dX0_play_9 : decode cX0_play 9 = .ok (.ireturn, 1) := dk_172 (dk_at dksX0_play_0 9 rfl rfl)
theorem dX0_play_10 : decode cX0_play 10 = .ok (.iload_n 2, 1) := dk_28 (dk_at dksX0_play_0 10 rfl rfl)
theorem dX0_play_11 : decode cX0_play 11 = .ok (.i2l, 1) := dk_133 (dk_at dksX0_play_0 11 rfl rfl)
theorem dX0_play_12 : decode cX0_play 12 = .ok (.lconst 0, 1) := dk_9 (dk_at dksX0_play_0 12 rfl rfl)
theorem dX0_play_13 : decode cX0_play 13 = .ok (.ldc2_w 152, 3) := dk_20 0 152 (dk_at dksX0_play_0 13 rfl rfl)
theorem dX0_play_16 : decode cX0_play 16 = .ok (.invokestatic 148, 3) := dk_184 0 148 (dk_at dksX0_play_0 16 rfl rfl)
theorem dX0_play_19 : decode cX0_play 19 = .ok (.ifCond .ne 6, 3) := dk_154 0 6 (dk_at dksX0_play_0 19 rfl rfl)
theorem dX0_play_22 : decode cX0_play 22 = .ok (.bipush (-3), 2) := dk_16 253 (dk_at dksX0_play_0 22 rfl rfl)
theorem dX0_play_24 : decode cX0_play 24 = .ok (.ireturn, 1) := dk_172 (dk_at dksX0_play_1 0 rfl rfl)
theorem dX0_play_25 : decode cX0_play 25 = .ok (.aload_n 0, 1) := dk_42 (dk_at dksX0_play_1 1 rfl rfl)
theorem dX0_play_26 : decode cX0_play 26 = .ok (.getfield 142, 3) := dk_180 0 142 (dk_at dksX0_play_1 2 rfl rfl)
theorem dX0_play_29 : decode cX0_play 29 = .ok (.iload_n 1, 1) := dk_27 (dk_at dksX0_play_1 5 rfl rfl)
theorem dX0_play_30 : decode cX0_play 30 = .ok (.aaload, 1) := dk_50 (dk_at dksX0_play_1 6 rfl rfl)
theorem dX0_play_31 : decode cX0_play 31 = .ok (.iload_n 2, 1) := dk_28 (dk_at dksX0_play_1 7 rfl rfl)
theorem dX0_play_32 : decode cX0_play 32 = .ok (.iload_n 3, 1) := dk_29 (dk_at dksX0_play_1 8 rfl rfl)
theorem dX0_play_33 : decode cX0_play 33 = .ok (.invokestatic 337, 3) := dk_184 1 81 (dk_at dksX0_play_1 9 rfl rfl)
theorem dX0_play_36 : decode cX0_play 36 = .ok (.ireturn, 1) := dk_172 (dk_at dksX0_play_1 12 rfl rfl)
theorem dX0_play_37 : decode cX0_play 37 = .ok (.astore 4, 2) := dk_58 4 (dk_at dksX0_play_1 13 rfl rfl)
theorem dX0_play_39 : decode cX0_play 39 = .ok (.aload 4, 2) := dk_25 4 (dk_at dksX0_play_1 15 rfl rfl)
theorem dX0_play_41 : decode cX0_play 41 = .ok (.invokestatic 318, 3) := dk_184 1 62 (dk_at dksX0_play_1 17 rfl rfl)
theorem dX0_play_44 : decode cX0_play 44 = .ok (.ireturn, 1) := dk_172 (dk_at dksX0_play_1 20 rfl rfl)
abbrev cX0_playIn : ByteArray := prog_1_method_54_code
def yX0_playIn : MethodName := ⟨RX0, "playIn", "(Ljava/lang/Object;II)I"⟩
def dkwX0_playIn_5 : List UInt8 := [167, 0, 7, 45, 180, 1, 78, 172]
abbrev dktX0_playIn_5 : List UInt8 := dkwX0_playIn_5 ++ []
def dkwX0_playIn_4 : List UInt8 := [167, 0, 8, 29, 19, 1, 76, 112, 172, 42, 192, 1, 70, 28, 50, 78, 45, 199, 0, 8, 16, 241]
abbrev dktX0_playIn_4 : List UInt8 := dkwX0_playIn_4 ++ dktX0_playIn_5
def dkwX0_playIn_3 : List UInt8 := [192, 0, 123, 28, 46, 62, 29, 156, 0, 18, 29, 4, 96, 116, 19, 1, 76, 112, 19, 1, 77, 96]
abbrev dktX0_playIn_3 : List UInt8 := dkwX0_playIn_3 ++ dktX0_playIn_4
def dkwX0_playIn_2 : List UInt8 := [19, 1, 66, 42, 192, 1, 67, 28, 51, 96, 172, 19, 1, 66, 42, 192, 1, 68, 28, 53, 96, 172, 42]
abbrev dktX0_playIn_2 : List UInt8 := dkwX0_playIn_2 ++ dktX0_playIn_3
def dkwX0_playIn_1 : List UInt8 := [170, 0, 0, 0, 0, 0, 81, 0, 0, 0, 0, 0, 0, 0, 2, 0, 0, 0, 27, 0, 0, 0, 38, 0, 0, 0, 49]
abbrev dktX0_playIn_1 : List UInt8 := dkwX0_playIn_1 ++ dktX0_playIn_2
def dkwX0_playIn_0 : List UInt8 := [27]
abbrev dktX0_playIn_0 : List UInt8 := dkwX0_playIn_0 ++ dktX0_playIn_1
theorem dksX0_playIn_0 : cX0_playIn.data.toList.drop 0 = dktX0_playIn_0 := by decide +kernel
theorem dksX0_playIn_1 : cX0_playIn.data.toList.drop 1 = dktX0_playIn_1 := dk_seg dksX0_playIn_0 1 rfl rfl
theorem dksX0_playIn_2 : cX0_playIn.data.toList.drop 28 = dktX0_playIn_2 := dk_seg dksX0_playIn_1 27 rfl rfl
theorem dksX0_playIn_3 : cX0_playIn.data.toList.drop 51 = dktX0_playIn_3 := dk_seg dksX0_playIn_2 23 rfl rfl
theorem dksX0_playIn_4 : cX0_playIn.data.toList.drop 73 = dktX0_playIn_4 := dk_seg dksX0_playIn_3 22 rfl rfl
theorem dksX0_playIn_5 : cX0_playIn.data.toList.drop 95 = dktX0_playIn_5 := dk_seg dksX0_playIn_4 22 rfl rfl
theorem dX0_playIn_0 : decode cX0_playIn 0 = .ok (.iload_n 1, 1) := dk_27 (dk_at dksX0_playIn_0 0 rfl rfl)
theorem dX0_playIn_1 : decode cX0_playIn 1 = .ok (.tableswitch 81 0 2 #[27, 38, 49], 27) := by decide +kernel
theorem dX0_playIn_28 : decode cX0_playIn 28 = .ok (.ldc_w 322, 3) := dk_19 1 66 (dk_at dksX0_playIn_2 0 rfl rfl)
theorem dX0_playIn_31 : decode cX0_playIn 31 = .ok (.aload_n 0, 1) := dk_42 (dk_at dksX0_playIn_2 3 rfl rfl)
theorem dX0_playIn_32 : decode cX0_playIn 32 = .ok (.checkcast 323, 3) := dk_192 1 67 (dk_at dksX0_playIn_2 4 rfl rfl)
theorem dX0_playIn_35 : decode cX0_playIn 35 = .ok (.iload_n 2, 1) := dk_28 (dk_at dksX0_playIn_2 7 rfl rfl)
theorem dX0_playIn_36 : decode cX0_playIn 36 = .ok (.baload, 1) := dk_51 (dk_at dksX0_playIn_2 8 rfl rfl)
theorem dX0_playIn_37 : decode cX0_playIn 37 = .ok (.iadd, 1) := dk_96 (dk_at dksX0_playIn_2 9 rfl rfl)
theorem dX0_playIn_38 : decode cX0_playIn 38 = .ok (.ireturn, 1) := dk_172 (dk_at dksX0_playIn_2 10 rfl rfl)
theorem dX0_playIn_39 : decode cX0_playIn 39 = .ok (.ldc_w 322, 3) := dk_19 1 66 (dk_at dksX0_playIn_2 11 rfl rfl)
theorem dX0_playIn_42 : decode cX0_playIn 42 = .ok (.aload_n 0, 1) := dk_42 (dk_at dksX0_playIn_2 14 rfl rfl)
theorem dX0_playIn_43 : decode cX0_playIn 43 = .ok (.checkcast 324, 3) := dk_192 1 68 (dk_at dksX0_playIn_2 15 rfl rfl)
theorem dX0_playIn_46 : decode cX0_playIn 46 = .ok (.iload_n 2, 1) := dk_28 (dk_at dksX0_playIn_2 18 rfl rfl)
theorem dX0_playIn_47 : decode cX0_playIn 47 = .ok (.saload, 1) := dk_53 (dk_at dksX0_playIn_2 19 rfl rfl)
theorem dX0_playIn_48 : decode cX0_playIn 48 = .ok (.iadd, 1) := dk_96 (dk_at dksX0_playIn_2 20 rfl rfl)
theorem dX0_playIn_49 : decode cX0_playIn 49 = .ok (.ireturn, 1) := dk_172 (dk_at dksX0_playIn_2 21 rfl rfl)
theorem dX0_playIn_50 : decode cX0_playIn 50 = .ok (.aload_n 0, 1) := dk_42 (dk_at dksX0_playIn_2 22 rfl rfl)
theorem dX0_playIn_51 : decode cX0_playIn 51 = .ok (.checkcast 123, 3) := dk_192 0 123 (dk_at dksX0_playIn_3 0 rfl rfl)
theorem dX0_playIn_54 : decode cX0_playIn 54 = .ok (.iload_n 2, 1) := dk_28 (dk_at dksX0_playIn_3 3 rfl rfl)
theorem dX0_playIn_55 : decode cX0_playIn 55 = .ok (.iaload, 1) := dk_46 (dk_at dksX0_playIn_3 4 rfl rfl)
theorem dX0_playIn_56 : decode cX0_playIn 56 = .ok (.istore_n 3, 1) := dk_62 (dk_at dksX0_playIn_3 5 rfl rfl)
theorem dX0_playIn_57 : decode cX0_playIn 57 = .ok (.iload_n 3, 1) := dk_29 (dk_at dksX0_playIn_3 6 rfl rfl)
theorem dX0_playIn_58 : decode cX0_playIn 58 = .ok (.ifCond .ge 18, 3) := dk_156 0 18 (dk_at dksX0_playIn_3 7 rfl rfl)
theorem dX0_playIn_61 : decode cX0_playIn 61 = .ok (.iload_n 3, 1) := dk_29 (dk_at dksX0_playIn_3 10 rfl rfl)
theorem dX0_playIn_62 : decode cX0_playIn 62 = .ok (.iconst 1, 1) := dk_4 (dk_at dksX0_playIn_3 11 rfl rfl)
theorem dX0_playIn_63 : decode cX0_playIn 63 = .ok (.iadd, 1) := dk_96 (dk_at dksX0_playIn_3 12 rfl rfl)
theorem dX0_playIn_64 : decode cX0_playIn 64 = .ok (.ineg, 1) := dk_116 (dk_at dksX0_playIn_3 13 rfl rfl)
theorem dX0_playIn_65 : decode cX0_playIn 65 = .ok (.ldc_w 332, 3) := dk_19 1 76 (dk_at dksX0_playIn_3 14 rfl rfl)
theorem dX0_playIn_68 : decode cX0_playIn 68 = .ok (.irem, 1) := dk_112 (dk_at dksX0_playIn_3 17 rfl rfl)
theorem dX0_playIn_69 : decode cX0_playIn 69 = .ok (.ldc_w 333, 3) := dk_19 1 77 (dk_at dksX0_playIn_3 18 rfl rfl)
theorem dX0_playIn_72 : decode cX0_playIn 72 = .ok (.iadd, 1) := dk_96 (dk_at dksX0_playIn_3 21 rfl rfl)
theorem dX0_playIn_73 : decode cX0_playIn 73 = .ok (.goto 8, 3) := dk_167 0 8 (dk_at dksX0_playIn_4 0 rfl rfl)
theorem dX0_playIn_76 : decode cX0_playIn 76 = .ok (.iload_n 3, 1) := dk_29 (dk_at dksX0_playIn_4 3 rfl rfl)
theorem dX0_playIn_77 : decode cX0_playIn 77 = .ok (.ldc_w 332, 3) := dk_19 1 76 (dk_at dksX0_playIn_4 4 rfl rfl)
theorem dX0_playIn_80 : decode cX0_playIn 80 = .ok (.irem, 1) := dk_112 (dk_at dksX0_playIn_4 7 rfl rfl)
theorem dX0_playIn_81 : decode cX0_playIn 81 = .ok (.ireturn, 1) := dk_172 (dk_at dksX0_playIn_4 8 rfl rfl)
theorem dX0_playIn_82 : decode cX0_playIn 82 = .ok (.aload_n 0, 1) := dk_42 (dk_at dksX0_playIn_4 9 rfl rfl)
theorem dX0_playIn_83 : decode cX0_playIn 83 = .ok (.checkcast 326, 3) := dk_192 1 70 (dk_at dksX0_playIn_4 10 rfl rfl)
theorem dX0_playIn_86 : decode cX0_playIn 86 = .ok (.iload_n 2, 1) := dk_28 (dk_at dksX0_playIn_4 13 rfl rfl)
theorem dX0_playIn_87 : decode cX0_playIn 87 = .ok (.aaload, 1) := dk_50 (dk_at dksX0_playIn_4 14 rfl rfl)
theorem dX0_playIn_88 : decode cX0_playIn 88 = .ok (.astore_n 3, 1) := dk_78 (dk_at dksX0_playIn_4 15 rfl rfl)
theorem dX0_playIn_89 : decode cX0_playIn 89 = .ok (.aload_n 3, 1) := dk_45 (dk_at dksX0_playIn_4 16 rfl rfl)
theorem dX0_playIn_90 : decode cX0_playIn 90 = .ok (.ifnonnull 8, 3) := dk_199 0 8 (dk_at dksX0_playIn_4 17 rfl rfl)
theorem dX0_playIn_93 : decode cX0_playIn 93 = .ok (.bipush (-15), 2) := dk_16 241 (dk_at dksX0_playIn_4 20 rfl rfl)
theorem dX0_playIn_95 : decode cX0_playIn 95 = .ok (.goto 7, 3) := dk_167 0 7 (dk_at dksX0_playIn_5 0 rfl rfl)
theorem dX0_playIn_98 : decode cX0_playIn 98 = .ok (.aload_n 3, 1) := dk_45 (dk_at dksX0_playIn_5 3 rfl rfl)
theorem dX0_playIn_99 : decode cX0_playIn 99 = .ok (.getfield 334, 3) := dk_180 1 78 (dk_at dksX0_playIn_5 4 rfl rfl)
theorem dX0_playIn_102 : decode cX0_playIn 102 = .ok (.ireturn, 1) := dk_172 (dk_at dksX0_playIn_5 7 rfl rfl)
abbrev cX0_splice : ByteArray := prog_1_method_56_code
def yX0_splice : MethodName := ⟨RX0, "splice", "(IIIII)I"⟩
def dkwX0_splice_1 : List UInt8 := [42, 180, 0, 142, 29, 50, 21, 4, 21, 5, 184, 0, 60, 21, 5, 172, 58, 6, 25, 6, 184, 1, 62, 172]
abbrev dktX0_splice_1 : List UInt8 := dkwX0_splice_1 ++ []
def dkwX0_splice_0 : List UInt8 := [27, 184, 1, 53, 153, 0, 10, 29, 184, 1, 53, 154, 0, 6, 16, 254, 172, 42, 180, 0, 142, 27, 50, 28]
abbrev dktX0_splice_0 : List UInt8 := dkwX0_splice_0 ++ dktX0_splice_1
theorem dksX0_splice_0 : cX0_splice.data.toList.drop 0 = dktX0_splice_0 := by decide +kernel
theorem dksX0_splice_1 : cX0_splice.data.toList.drop 24 = dktX0_splice_1 := dk_seg dksX0_splice_0 24 rfl rfl
theorem dX0_splice_0 : decode cX0_splice 0 = .ok (.iload_n 1, 1) := dk_27 (dk_at dksX0_splice_0 0 rfl rfl)
theorem dX0_splice_1 : decode cX0_splice 1 = .ok (.invokestatic 309, 3) := dk_184 1 53 (dk_at dksX0_splice_0 1 rfl rfl)
theorem dX0_splice_4 : decode cX0_splice 4 = .ok (.ifCond .eq 10, 3) := dk_153 0 10 (dk_at dksX0_splice_0 4 rfl rfl)
theorem dX0_splice_7 : decode cX0_splice 7 = .ok (.iload_n 3, 1) := dk_29 (dk_at dksX0_splice_0 7 rfl rfl)
theorem dX0_splice_8 : decode cX0_splice 8 = .ok (.invokestatic 309, 3) := dk_184 1 53 (dk_at dksX0_splice_0 8 rfl rfl)
theorem dX0_splice_11 : decode cX0_splice 11 = .ok (.ifCond .ne 6, 3) := dk_154 0 6 (dk_at dksX0_splice_0 11 rfl rfl)
theorem dX0_splice_14 : decode cX0_splice 14 = .ok (.bipush (-2), 2) := dk_16 254 (dk_at dksX0_splice_0 14 rfl rfl)
theorem dX0_splice_16 : decode cX0_splice 16 = .ok (.ireturn, 1) := dk_172 (dk_at dksX0_splice_0 16 rfl rfl)
theorem dX0_splice_17 : decode cX0_splice 17 = .ok (.aload_n 0, 1) := dk_42 (dk_at dksX0_splice_0 17 rfl rfl)
theorem dX0_splice_18 : decode cX0_splice 18 = .ok (.getfield 142, 3) := dk_180 0 142 (dk_at dksX0_splice_0 18 rfl rfl)
theorem dX0_splice_21 : decode cX0_splice 21 = .ok (.iload_n 1, 1) := dk_27 (dk_at dksX0_splice_0 21 rfl rfl)
theorem dX0_splice_22 : decode cX0_splice 22 = .ok (.aaload, 1) := dk_50 (dk_at dksX0_splice_0 22 rfl rfl)
theorem dX0_splice_23 : decode cX0_splice 23 = .ok (.iload_n 2, 1) := dk_28 (dk_at dksX0_splice_0 23 rfl rfl)
theorem dX0_splice_24 : decode cX0_splice 24 = .ok (.aload_n 0, 1) := dk_42 (dk_at dksX0_splice_1 0 rfl rfl)
theorem dX0_splice_25 : decode cX0_splice 25 = .ok (.getfield 142, 3) := dk_180 0 142 (dk_at dksX0_splice_1 1 rfl rfl)
theorem dX0_splice_28 : decode cX0_splice 28 = .ok (.iload_n 3, 1) := dk_29 (dk_at dksX0_splice_1 4 rfl rfl)
theorem dX0_splice_29 : decode cX0_splice 29 = .ok (.aaload, 1) := dk_50 (dk_at dksX0_splice_1 5 rfl rfl)
theorem dX0_splice_30 : decode cX0_splice 30 = .ok (.iload 4, 2) := dk_21 4 (dk_at dksX0_splice_1 6 rfl rfl)
theorem dX0_splice_32 : decode cX0_splice 32 = .ok (.iload 5, 2) := dk_21 5 (dk_at dksX0_splice_1 8 rfl rfl)
theorem dX0_splice_34 : decode cX0_splice 34 = .ok (.invokestatic 60, 3) := dk_184 0 60 (dk_at dksX0_splice_1 10 rfl rfl)
theorem dX0_splice_37 : decode cX0_splice 37 = .ok (.iload 5, 2) := dk_21 5 (dk_at dksX0_splice_1 13 rfl rfl)
theorem dX0_splice_39 : decode cX0_splice 39 = .ok (.ireturn, 1) := dk_172 (dk_at dksX0_splice_1 15 rfl rfl)
theorem dX0_splice_40 : decode cX0_splice 40 = .ok (.astore 6, 2) := dk_58 6 (dk_at dksX0_splice_1 16 rfl rfl)
theorem dX0_splice_42 : decode cX0_splice 42 = .ok (.aload 6, 2) := dk_25 6 (dk_at dksX0_splice_1 18 rfl rfl)
theorem dX0_splice_44 : decode cX0_splice 44 = .ok (.invokestatic 318, 3) := dk_184 1 62 (dk_at dksX0_splice_1 20 rfl rfl)
theorem dX0_splice_47 : decode cX0_splice 47 = .ok (.ireturn, 1) := dk_172 (dk_at dksX0_splice_1 23 rfl rfl)
abbrev cX0_drop : ByteArray := prog_1_method_58_code
def yX0_drop : MethodName := ⟨RX0, "drop", "(I)I"⟩
def dkwX0_drop_2 : List UInt8 := [180, 0, 142, 27, 1, 83, 25, 4, 191]
abbrev dktX0_drop_2 : List UInt8 := dkwX0_drop_2 ++ []
def dkwX0_drop_1 : List UInt8 := [27, 1, 83, 28, 172, 77, 44, 184, 1, 62, 62, 42, 180, 0, 142, 27, 1, 83, 29, 172, 58, 4, 42]
abbrev dktX0_drop_1 : List UInt8 := dkwX0_drop_1 ++ dktX0_drop_2
def dkwX0_drop_0 : List UInt8 := [27, 184, 1, 53, 154, 0, 6, 16, 254, 172, 42, 180, 0, 142, 27, 50, 184, 1, 85, 61, 42, 180, 0, 142]
abbrev dktX0_drop_0 : List UInt8 := dkwX0_drop_0 ++ dktX0_drop_1
theorem dksX0_drop_0 : cX0_drop.data.toList.drop 0 = dktX0_drop_0 := by decide +kernel
theorem dksX0_drop_1 : cX0_drop.data.toList.drop 24 = dktX0_drop_1 := dk_seg dksX0_drop_0 24 rfl rfl
theorem dksX0_drop_2 : cX0_drop.data.toList.drop 47 = dktX0_drop_2 := dk_seg dksX0_drop_1 23 rfl rfl
theorem dX0_drop_0 : decode cX0_drop 0 = .ok (.iload_n 1, 1) := dk_27 (dk_at dksX0_drop_0 0 rfl rfl)
theorem dX0_drop_1 : decode cX0_drop 1 = .ok (.invokestatic 309, 3) := dk_184 1 53 (dk_at dksX0_drop_0 1 rfl rfl)
theorem dX0_drop_4 : decode cX0_drop 4 = .ok (.ifCond .ne 6, 3) := dk_154 0 6 (dk_at dksX0_drop_0 4 rfl rfl)
theorem dX0_drop_7 : decode cX0_drop 7 = .ok (.bipush (-2), 2) := dk_16 254 (dk_at dksX0_drop_0 7 rfl rfl)
theorem dX0_drop_9 : decode cX0_drop 9 = .ok (.ireturn, 1) := dk_172 (dk_at dksX0_drop_0 9 rfl rfl)
theorem dX0_drop_10 : decode cX0_drop 10 = .ok (.aload_n 0, 1) := dk_42 (dk_at dksX0_drop_0 10 rfl rfl)
theorem dX0_drop_11 : decode cX0_drop 11 = .ok (.getfield 142, 3) := dk_180 0 142 (dk_at dksX0_drop_0 11 rfl rfl)
theorem dX0_drop_14 : decode cX0_drop 14 = .ok (.iload_n 1, 1) := dk_27 (dk_at dksX0_drop_0 14 rfl rfl)
theorem dX0_drop_15 : decode cX0_drop 15 = .ok (.aaload, 1) := dk_50 (dk_at dksX0_drop_0 15 rfl rfl)
theorem dX0_drop_16 : decode cX0_drop 16 = .ok (.invokestatic 341, 3) := dk_184 1 85 (dk_at dksX0_drop_0 16 rfl rfl)
theorem dX0_drop_19 : decode cX0_drop 19 = .ok (.istore_n 2, 1) := dk_61 (dk_at dksX0_drop_0 19 rfl rfl)
theorem dX0_drop_20 : decode cX0_drop 20 = .ok (.aload_n 0, 1) := dk_42 (dk_at dksX0_drop_0 20 rfl rfl)
theorem dX0_drop_21 : decode cX0_drop 21 = .ok (.getfield 142, 3) := dk_180 0 142 (dk_at dksX0_drop_0 21 rfl rfl)
theorem dX0_drop_24 : decode cX0_drop 24 = .ok (.iload_n 1, 1) := dk_27 (dk_at dksX0_drop_1 0 rfl rfl)
theorem dX0_drop_25 : decode cX0_drop 25 = .ok (.aconst_null, 1) := dk_1 (dk_at dksX0_drop_1 1 rfl rfl)
theorem dX0_drop_26 : decode cX0_drop 26 = .ok (.aastore, 1) := dk_83 (dk_at dksX0_drop_1 2 rfl rfl)
theorem dX0_drop_27 : decode cX0_drop 27 = .ok (.iload_n 2, 1) := dk_28 (dk_at dksX0_drop_1 3 rfl rfl)
theorem dX0_drop_28 : decode cX0_drop 28 = .ok (.ireturn, 1) := dk_172 (dk_at dksX0_drop_1 4 rfl rfl)
theorem dX0_drop_29 : decode cX0_drop 29 = .ok (.astore_n 2, 1) := dk_77 (dk_at dksX0_drop_1 5 rfl rfl)
theorem dX0_drop_30 : decode cX0_drop 30 = .ok (.aload_n 2, 1) := dk_44 (dk_at dksX0_drop_1 6 rfl rfl)
theorem dX0_drop_31 : decode cX0_drop 31 = .ok (.invokestatic 318, 3) := dk_184 1 62 (dk_at dksX0_drop_1 7 rfl rfl)
theorem dX0_drop_34 : decode cX0_drop 34 = .ok (.istore_n 3, 1) := dk_62 (dk_at dksX0_drop_1 10 rfl rfl)
theorem dX0_drop_35 : decode cX0_drop 35 = .ok (.aload_n 0, 1) := dk_42 (dk_at dksX0_drop_1 11 rfl rfl)
theorem dX0_drop_36 : decode cX0_drop 36 = .ok (.getfield 142, 3) := dk_180 0 142 (dk_at dksX0_drop_1 12 rfl rfl)
theorem dX0_drop_39 : decode cX0_drop 39 = .ok (.iload_n 1, 1) := dk_27 (dk_at dksX0_drop_1 15 rfl rfl)
theorem dX0_drop_40 : decode cX0_drop 40 = .ok (.aconst_null, 1) := dk_1 (dk_at dksX0_drop_1 16 rfl rfl)
theorem dX0_drop_41 : decode cX0_drop 41 = .ok (.aastore, 1) := dk_83 (dk_at dksX0_drop_1 17 rfl rfl)
theorem dX0_drop_42 : decode cX0_drop 42 = .ok (.iload_n 3, 1) := dk_29 (dk_at dksX0_drop_1 18 rfl rfl)
theorem dX0_drop_43 : decode cX0_drop 43 = .ok (.ireturn, 1) := dk_172 (dk_at dksX0_drop_1 19 rfl rfl)
theorem dX0_drop_44 : decode cX0_drop 44 = .ok (.astore 4, 2) := dk_58 4 (dk_at dksX0_drop_1 20 rfl rfl)
theorem dX0_drop_46 : decode cX0_drop 46 = .ok (.aload_n 0, 1) := dk_42 (dk_at dksX0_drop_1 22 rfl rfl)
theorem dX0_drop_47 : decode cX0_drop 47 = .ok (.getfield 142, 3) := dk_180 0 142 (dk_at dksX0_drop_2 0 rfl rfl)
theorem dX0_drop_50 : decode cX0_drop 50 = .ok (.iload_n 1, 1) := dk_27 (dk_at dksX0_drop_2 3 rfl rfl)
theorem dX0_drop_51 : decode cX0_drop 51 = .ok (.aconst_null, 1) := dk_1 (dk_at dksX0_drop_2 4 rfl rfl)
theorem dX0_drop_52 : decode cX0_drop 52 = .ok (.aastore, 1) := dk_83 (dk_at dksX0_drop_2 5 rfl rfl)
theorem dX0_drop_53 : decode cX0_drop 53 = .ok (.aload 4, 2) := dk_25 4 (dk_at dksX0_drop_2 6 rfl rfl)
theorem dX0_drop_55 : decode cX0_drop 55 = .ok (.athrow, 1) := dk_191 (dk_at dksX0_drop_2 8 rfl rfl)
abbrev cX0_sizeOf : ByteArray := prog_1_method_57_code
def yX0_sizeOf : MethodName := ⟨RX0, "sizeOf", "(Ljava/lang/Object;)I"⟩
def dkwX0_sizeOf_2 : List UInt8 := [192, 1, 70, 190, 172]
abbrev dktX0_sizeOf_2 : List UInt8 := dkwX0_sizeOf_2 ++ []
def dkwX0_sizeOf_1 : List UInt8 := [192, 1, 68, 76, 43, 190, 172, 42, 193, 0, 123, 153, 0, 11, 42, 192, 0, 123, 76, 43, 190, 172, 42]
abbrev dktX0_sizeOf_1 : List UInt8 := dkwX0_sizeOf_1 ++ dktX0_sizeOf_2
def dkwX0_sizeOf_0 : List UInt8 := [42, 193, 1, 67, 153, 0, 11, 42, 192, 1, 67, 76, 43, 190, 172, 42, 193, 1, 68, 153, 0, 11, 42]
abbrev dktX0_sizeOf_0 : List UInt8 := dkwX0_sizeOf_0 ++ dktX0_sizeOf_1
theorem dksX0_sizeOf_0 : cX0_sizeOf.data.toList.drop 0 = dktX0_sizeOf_0 := by decide +kernel
theorem dksX0_sizeOf_1 : cX0_sizeOf.data.toList.drop 23 = dktX0_sizeOf_1 := dk_seg dksX0_sizeOf_0 23 rfl rfl
theorem dksX0_sizeOf_2 : cX0_sizeOf.data.toList.drop 46 = dktX0_sizeOf_2 := dk_seg dksX0_sizeOf_1 23 rfl rfl
theorem dX0_sizeOf_0 : decode cX0_sizeOf 0 = .ok (.aload_n 0, 1) := dk_42 (dk_at dksX0_sizeOf_0 0 rfl rfl)
theorem dX0_sizeOf_1 : decode cX0_sizeOf 1 = .ok (.instanceof 323, 3) := dk_193 1 67 (dk_at dksX0_sizeOf_0 1 rfl rfl)
theorem dX0_sizeOf_4 : decode cX0_sizeOf 4 = .ok (.ifCond .eq 11, 3) := dk_153 0 11 (dk_at dksX0_sizeOf_0 4 rfl rfl)
theorem dX0_sizeOf_7 : decode cX0_sizeOf 7 = .ok (.aload_n 0, 1) := dk_42 (dk_at dksX0_sizeOf_0 7 rfl rfl)
theorem dX0_sizeOf_8 : decode cX0_sizeOf 8 = .ok (.checkcast 323, 3) := dk_192 1 67 (dk_at dksX0_sizeOf_0 8 rfl rfl)
theorem dX0_sizeOf_11 : decode cX0_sizeOf 11 = .ok (.astore_n 1, 1) := dk_76 (dk_at dksX0_sizeOf_0 11 rfl rfl)
theorem dX0_sizeOf_12 : decode cX0_sizeOf 12 = .ok (.aload_n 1, 1) := dk_43 (dk_at dksX0_sizeOf_0 12 rfl rfl)
theorem dX0_sizeOf_13 : decode cX0_sizeOf 13 = .ok (.arraylength, 1) := dk_190 (dk_at dksX0_sizeOf_0 13 rfl rfl)
theorem dX0_sizeOf_14 : decode cX0_sizeOf 14 = .ok (.ireturn, 1) := dk_172 (dk_at dksX0_sizeOf_0 14 rfl rfl)
theorem dX0_sizeOf_15 : decode cX0_sizeOf 15 = .ok (.aload_n 0, 1) := dk_42 (dk_at dksX0_sizeOf_0 15 rfl rfl)
theorem dX0_sizeOf_16 : decode cX0_sizeOf 16 = .ok (.instanceof 324, 3) := dk_193 1 68 (dk_at dksX0_sizeOf_0 16 rfl rfl)
theorem dX0_sizeOf_19 : decode cX0_sizeOf 19 = .ok (.ifCond .eq 11, 3) := dk_153 0 11 (dk_at dksX0_sizeOf_0 19 rfl rfl)
theorem dX0_sizeOf_22 : decode cX0_sizeOf 22 = .ok (.aload_n 0, 1) := dk_42 (dk_at dksX0_sizeOf_0 22 rfl rfl)
theorem dX0_sizeOf_23 : decode cX0_sizeOf 23 = .ok (.checkcast 324, 3) := dk_192 1 68 (dk_at dksX0_sizeOf_1 0 rfl rfl)
theorem dX0_sizeOf_26 : decode cX0_sizeOf 26 = .ok (.astore_n 1, 1) := dk_76 (dk_at dksX0_sizeOf_1 3 rfl rfl)
theorem dX0_sizeOf_27 : decode cX0_sizeOf 27 = .ok (.aload_n 1, 1) := dk_43 (dk_at dksX0_sizeOf_1 4 rfl rfl)
theorem dX0_sizeOf_28 : decode cX0_sizeOf 28 = .ok (.arraylength, 1) := dk_190 (dk_at dksX0_sizeOf_1 5 rfl rfl)
theorem dX0_sizeOf_29 : decode cX0_sizeOf 29 = .ok (.ireturn, 1) := dk_172 (dk_at dksX0_sizeOf_1 6 rfl rfl)
theorem dX0_sizeOf_30 : decode cX0_sizeOf 30 = .ok (.aload_n 0, 1) := dk_42 (dk_at dksX0_sizeOf_1 7 rfl rfl)
theorem dX0_sizeOf_31 : decode cX0_sizeOf 31 = .ok (.instanceof 123, 3) := dk_193 0 123 (dk_at dksX0_sizeOf_1 8 rfl rfl)
theorem dX0_sizeOf_34 : decode cX0_sizeOf 34 = .ok (.ifCond .eq 11, 3) := dk_153 0 11 (dk_at dksX0_sizeOf_1 11 rfl rfl)
theorem dX0_sizeOf_37 : decode cX0_sizeOf 37 = .ok (.aload_n 0, 1) := dk_42 (dk_at dksX0_sizeOf_1 14 rfl rfl)
theorem dX0_sizeOf_38 : decode cX0_sizeOf 38 = .ok (.checkcast 123, 3) := dk_192 0 123 (dk_at dksX0_sizeOf_1 15 rfl rfl)
theorem dX0_sizeOf_41 : decode cX0_sizeOf 41 = .ok (.astore_n 1, 1) := dk_76 (dk_at dksX0_sizeOf_1 18 rfl rfl)
theorem dX0_sizeOf_42 : decode cX0_sizeOf 42 = .ok (.aload_n 1, 1) := dk_43 (dk_at dksX0_sizeOf_1 19 rfl rfl)
theorem dX0_sizeOf_43 : decode cX0_sizeOf 43 = .ok (.arraylength, 1) := dk_190 (dk_at dksX0_sizeOf_1 20 rfl rfl)
theorem dX0_sizeOf_44 : decode cX0_sizeOf 44 = .ok (.ireturn, 1) := dk_172 (dk_at dksX0_sizeOf_1 21 rfl rfl)
theorem dX0_sizeOf_45 : decode cX0_sizeOf 45 = .ok (.aload_n 0, 1) := dk_42 (dk_at dksX0_sizeOf_1 22 rfl rfl)
theorem dX0_sizeOf_46 : decode cX0_sizeOf 46 = .ok (.checkcast 326, 3) := dk_192 1 70 (dk_at dksX0_sizeOf_2 0 rfl rfl)
theorem dX0_sizeOf_49 : decode cX0_sizeOf 49 = .ok (.arraylength, 1) := dk_190 (dk_at dksX0_sizeOf_2 3 rfl rfl)
theorem dX0_sizeOf_50 : decode cX0_sizeOf 50 = .ok (.ireturn, 1) := dk_172 (dk_at dksX0_sizeOf_2 4 rfl rfl)
abbrev cX0_count : ByteArray := prog_1_method_62_code
def yX0_count : MethodName := ⟨RX0, "count", "(I)I"⟩
def dkwX0_count_4 : List UInt8 := [42, 180, 0, 158, 172, 42, 182, 1, 95, 172, 16, 253, 172]
abbrev dktX0_count_4 : List UInt8 := dkwX0_count_4 ++ []
def dkwX0_count_3 : List UInt8 := [180, 0, 75, 172, 42, 182, 1, 89, 172, 42, 180, 0, 44, 172, 42, 182, 1, 92, 172, 42, 180, 0, 40, 172]
abbrev dktX0_count_3 : List UInt8 := dkwX0_count_3 ++ dktX0_count_4
def dkwX0_count_2 : List UInt8 := [42, 180, 0, 69, 172, 42, 180, 0, 72, 172, 42, 180, 0, 27, 180, 0, 238, 172, 42, 180, 0, 27]
abbrev dktX0_count_2 : List UInt8 := dkwX0_count_2 ++ dktX0_count_3
def dkwX0_count_1 : List UInt8 := [170, 0, 0, 0, 0, 0, 111, 0, 0, 0, 0, 0, 0, 0, 9, 0, 0, 0, 55, 0, 0, 0, 60, 0, 0, 0, 65, 0, 0, 0, 73, 0, 0, 0, 81, 0, 0, 0, 86, 0, 0, 0, 91, 0, 0, 0, 96, 0, 0, 0, 101, 0, 0, 0, 106]
abbrev dktX0_count_1 : List UInt8 := dkwX0_count_1 ++ dktX0_count_2
def dkwX0_count_0 : List UInt8 := [27]
abbrev dktX0_count_0 : List UInt8 := dkwX0_count_0 ++ dktX0_count_1
theorem dksX0_count_0 : cX0_count.data.toList.drop 0 = dktX0_count_0 := by decide +kernel
theorem dksX0_count_1 : cX0_count.data.toList.drop 1 = dktX0_count_1 := dk_seg dksX0_count_0 1 rfl rfl
theorem dksX0_count_2 : cX0_count.data.toList.drop 56 = dktX0_count_2 := dk_seg dksX0_count_1 55 rfl rfl
theorem dksX0_count_3 : cX0_count.data.toList.drop 78 = dktX0_count_3 := dk_seg dksX0_count_2 22 rfl rfl
theorem dksX0_count_4 : cX0_count.data.toList.drop 102 = dktX0_count_4 := dk_seg dksX0_count_3 24 rfl rfl
theorem dX0_count_0 : decode cX0_count 0 = .ok (.iload_n 1, 1) := dk_27 (dk_at dksX0_count_0 0 rfl rfl)
theorem dX0_count_1 : decode cX0_count 1 = .ok (.tableswitch 111 0 9 #[55, 60, 65, 73, 81, 86, 91, 96, 101, 106], 55) := by decide +kernel
theorem dX0_count_56 : decode cX0_count 56 = .ok (.aload_n 0, 1) := dk_42 (dk_at dksX0_count_2 0 rfl rfl)
theorem dX0_count_57 : decode cX0_count 57 = .ok (.getfield 69, 3) := dk_180 0 69 (dk_at dksX0_count_2 1 rfl rfl)
theorem dX0_count_60 : decode cX0_count 60 = .ok (.ireturn, 1) := dk_172 (dk_at dksX0_count_2 4 rfl rfl)
theorem dX0_count_61 : decode cX0_count 61 = .ok (.aload_n 0, 1) := dk_42 (dk_at dksX0_count_2 5 rfl rfl)
theorem dX0_count_62 : decode cX0_count 62 = .ok (.getfield 72, 3) := dk_180 0 72 (dk_at dksX0_count_2 6 rfl rfl)
theorem dX0_count_65 : decode cX0_count 65 = .ok (.ireturn, 1) := dk_172 (dk_at dksX0_count_2 9 rfl rfl)
theorem dX0_count_66 : decode cX0_count 66 = .ok (.aload_n 0, 1) := dk_42 (dk_at dksX0_count_2 10 rfl rfl)
theorem dX0_count_67 : decode cX0_count 67 = .ok (.getfield 27, 3) := dk_180 0 27 (dk_at dksX0_count_2 11 rfl rfl)
theorem dX0_count_70 : decode cX0_count 70 = .ok (.getfield 238, 3) := dk_180 0 238 (dk_at dksX0_count_2 14 rfl rfl)
theorem dX0_count_73 : decode cX0_count 73 = .ok (.ireturn, 1) := dk_172 (dk_at dksX0_count_2 17 rfl rfl)
theorem dX0_count_74 : decode cX0_count 74 = .ok (.aload_n 0, 1) := dk_42 (dk_at dksX0_count_2 18 rfl rfl)
theorem dX0_count_75 : decode cX0_count 75 = .ok (.getfield 27, 3) := dk_180 0 27 (dk_at dksX0_count_2 19 rfl rfl)
theorem dX0_count_78 : decode cX0_count 78 = .ok (.getfield 75, 3) := dk_180 0 75 (dk_at dksX0_count_3 0 rfl rfl)
theorem dX0_count_81 : decode cX0_count 81 = .ok (.ireturn, 1) := dk_172 (dk_at dksX0_count_3 3 rfl rfl)
theorem dX0_count_82 : decode cX0_count 82 = .ok (.aload_n 0, 1) := dk_42 (dk_at dksX0_count_3 4 rfl rfl)
theorem dX0_count_83 : decode cX0_count 83 = .ok (.invokevirtual 345, 3) := dk_182 1 89 (dk_at dksX0_count_3 5 rfl rfl)
theorem dX0_count_86 : decode cX0_count 86 = .ok (.ireturn, 1) := dk_172 (dk_at dksX0_count_3 8 rfl rfl)
theorem dX0_count_87 : decode cX0_count 87 = .ok (.aload_n 0, 1) := dk_42 (dk_at dksX0_count_3 9 rfl rfl)
theorem dX0_count_88 : decode cX0_count 88 = .ok (.getfield 44, 3) := dk_180 0 44 (dk_at dksX0_count_3 10 rfl rfl)
theorem dX0_count_91 : decode cX0_count 91 = .ok (.ireturn, 1) := dk_172 (dk_at dksX0_count_3 13 rfl rfl)
theorem dX0_count_92 : decode cX0_count 92 = .ok (.aload_n 0, 1) := dk_42 (dk_at dksX0_count_3 14 rfl rfl)
theorem dX0_count_93 : decode cX0_count 93 = .ok (.invokevirtual 348, 3) := dk_182 1 92 (dk_at dksX0_count_3 15 rfl rfl)
theorem dX0_count_96 : decode cX0_count 96 = .ok (.ireturn, 1) := dk_172 (dk_at dksX0_count_3 18 rfl rfl)
theorem dX0_count_97 : decode cX0_count 97 = .ok (.aload_n 0, 1) := dk_42 (dk_at dksX0_count_3 19 rfl rfl)
theorem dX0_count_98 : decode cX0_count 98 = .ok (.getfield 40, 3) := dk_180 0 40 (dk_at dksX0_count_3 20 rfl rfl)
theorem dX0_count_101 : decode cX0_count 101 = .ok (.ireturn, 1) := dk_172 (dk_at dksX0_count_3 23 rfl rfl)
theorem dX0_count_102 : decode cX0_count 102 = .ok (.aload_n 0, 1) := dk_42 (dk_at dksX0_count_4 0 rfl rfl)
theorem dX0_count_103 : decode cX0_count 103 = .ok (.getfield 158, 3) := dk_180 0 158 (dk_at dksX0_count_4 1 rfl rfl)
theorem dX0_count_106 : decode cX0_count 106 = .ok (.ireturn, 1) := dk_172 (dk_at dksX0_count_4 4 rfl rfl)
theorem dX0_count_107 : decode cX0_count 107 = .ok (.aload_n 0, 1) := dk_42 (dk_at dksX0_count_4 5 rfl rfl)
theorem dX0_count_108 : decode cX0_count 108 = .ok (.invokevirtual 351, 3) := dk_182 1 95 (dk_at dksX0_count_4 6 rfl rfl)
theorem dX0_count_111 : decode cX0_count 111 = .ok (.ireturn, 1) := dk_172 (dk_at dksX0_count_4 9 rfl rfl)
theorem dX0_count_112 : decode cX0_count 112 = .ok (.bipush (-3), 2) := dk_16 253 (dk_at dksX0_count_4 10 rfl rfl)
theorem dX0_count_114 : decode cX0_count 114 = .ok (.ireturn, 1) := dk_172 (dk_at dksX0_count_4 12 rfl rfl)
abbrev cX0_wordsOfMen : ByteArray := prog_1_method_60_code
def yX0_wordsOfMen : MethodName := ⟨RX0, "wordsOfMen", "()I"⟩
def dkwX0_wordsOfMen_1 : List UInt8 := [184, 1, 13, 96, 60, 132, 2, 1, 167, 255, 230, 27, 172]
abbrev dktX0_wordsOfMen_1 : List UInt8 := dkwX0_wordsOfMen_1 ++ []
def dkwX0_wordsOfMen_0 : List UInt8 := [3, 60, 3, 61, 28, 42, 180, 0, 72, 162, 0, 24, 27, 42, 180, 0, 27, 180, 0, 89, 28, 46]
abbrev dktX0_wordsOfMen_0 : List UInt8 := dkwX0_wordsOfMen_0 ++ dktX0_wordsOfMen_1
theorem dksX0_wordsOfMen_0 : cX0_wordsOfMen.data.toList.drop 0 = dktX0_wordsOfMen_0 := by decide +kernel
theorem dksX0_wordsOfMen_1 : cX0_wordsOfMen.data.toList.drop 22 = dktX0_wordsOfMen_1 := dk_seg dksX0_wordsOfMen_0 22 rfl rfl
theorem dX0_wordsOfMen_0 : decode cX0_wordsOfMen 0 = .ok (.iconst 0, 1) := dk_3 (dk_at dksX0_wordsOfMen_0 0 rfl rfl)
theorem dX0_wordsOfMen_1 : decode cX0_wordsOfMen 1 = .ok (.istore_n 1, 1) := dk_60 (dk_at dksX0_wordsOfMen_0 1 rfl rfl)
theorem dX0_wordsOfMen_2 : decode cX0_wordsOfMen 2 = .ok (.iconst 0, 1) := dk_3 (dk_at dksX0_wordsOfMen_0 2 rfl rfl)
theorem dX0_wordsOfMen_3 : decode cX0_wordsOfMen 3 = .ok (.istore_n 2, 1) := dk_61 (dk_at dksX0_wordsOfMen_0 3 rfl rfl)
theorem dX0_wordsOfMen_4 : decode cX0_wordsOfMen 4 = .ok (.iload_n 2, 1) := dk_28 (dk_at dksX0_wordsOfMen_0 4 rfl rfl)
theorem dX0_wordsOfMen_5 : decode cX0_wordsOfMen 5 = .ok (.aload_n 0, 1) := dk_42 (dk_at dksX0_wordsOfMen_0 5 rfl rfl)
theorem dX0_wordsOfMen_6 : decode cX0_wordsOfMen 6 = .ok (.getfield 72, 3) := dk_180 0 72 (dk_at dksX0_wordsOfMen_0 6 rfl rfl)
theorem dX0_wordsOfMen_9 : decode cX0_wordsOfMen 9 = .ok (.if_icmp .ge 24, 3) := dk_162 0 24 (dk_at dksX0_wordsOfMen_0 9 rfl rfl)
theorem dX0_wordsOfMen_12 : decode cX0_wordsOfMen 12 = .ok (.iload_n 1, 1) := dk_27 (dk_at dksX0_wordsOfMen_0 12 rfl rfl)
theorem dX0_wordsOfMen_13 : decode cX0_wordsOfMen 13 = .ok (.aload_n 0, 1) := dk_42 (dk_at dksX0_wordsOfMen_0 13 rfl rfl)
theorem dX0_wordsOfMen_14 : decode cX0_wordsOfMen 14 = .ok (.getfield 27, 3) := dk_180 0 27 (dk_at dksX0_wordsOfMen_0 14 rfl rfl)
theorem dX0_wordsOfMen_17 : decode cX0_wordsOfMen 17 = .ok (.getfield 89, 3) := dk_180 0 89 (dk_at dksX0_wordsOfMen_0 17 rfl rfl)
theorem dX0_wordsOfMen_20 : decode cX0_wordsOfMen 20 = .ok (.iload_n 2, 1) := dk_28 (dk_at dksX0_wordsOfMen_0 20 rfl rfl)
theorem dX0_wordsOfMen_21 : decode cX0_wordsOfMen 21 = .ok (.iaload, 1) := dk_46 (dk_at dksX0_wordsOfMen_0 21 rfl rfl)
theorem dX0_wordsOfMen_22 : decode cX0_wordsOfMen 22 = .ok (.invokestatic 269, 3) := dk_184 1 13 (dk_at dksX0_wordsOfMen_1 0 rfl rfl)
theorem dX0_wordsOfMen_25 : decode cX0_wordsOfMen 25 = .ok (.iadd, 1) := dk_96 (dk_at dksX0_wordsOfMen_1 3 rfl rfl)
theorem dX0_wordsOfMen_26 : decode cX0_wordsOfMen 26 = .ok (.istore_n 1, 1) := dk_60 (dk_at dksX0_wordsOfMen_1 4 rfl rfl)
theorem dX0_wordsOfMen_27 : decode cX0_wordsOfMen 27 = .ok (.iinc 2 1, 3) := dk_132 2 1 (dk_at dksX0_wordsOfMen_1 5 rfl rfl)
theorem dX0_wordsOfMen_30 : decode cX0_wordsOfMen 30 = .ok (.goto (-26), 3) := dk_167 255 230 (dk_at dksX0_wordsOfMen_1 8 rfl rfl)
theorem dX0_wordsOfMen_33 : decode cX0_wordsOfMen 33 = .ok (.iload_n 1, 1) := dk_27 (dk_at dksX0_wordsOfMen_1 11 rfl rfl)
theorem dX0_wordsOfMen_34 : decode cX0_wordsOfMen 34 = .ok (.ireturn, 1) := dk_172 (dk_at dksX0_wordsOfMen_1 12 rfl rfl)
abbrev cX0_reelsThere : ByteArray := prog_1_method_59_code
def yX0_reelsThere : MethodName := ⟨RX0, "reelsThere", "()I"⟩
def dkwX0_reelsThere_1 : List UInt8 := [58, 5, 27, 25, 5, 199, 0, 7, 3, 167, 0, 4, 4, 96, 60, 132, 4, 1, 167, 255, 228, 27, 172]
abbrev dktX0_reelsThere_1 : List UInt8 := dkwX0_reelsThere_1 ++ []
def dkwX0_reelsThere_0 : List UInt8 := [3, 60, 42, 180, 0, 142, 77, 44, 190, 62, 3, 54, 4, 21, 4, 29, 162, 0, 28, 44, 21, 4, 50]
abbrev dktX0_reelsThere_0 : List UInt8 := dkwX0_reelsThere_0 ++ dktX0_reelsThere_1
theorem dksX0_reelsThere_0 : cX0_reelsThere.data.toList.drop 0 = dktX0_reelsThere_0 := by decide +kernel
theorem dksX0_reelsThere_1 : cX0_reelsThere.data.toList.drop 23 = dktX0_reelsThere_1 := dk_seg dksX0_reelsThere_0 23 rfl rfl
theorem dX0_reelsThere_0 : decode cX0_reelsThere 0 = .ok (.iconst 0, 1) := dk_3 (dk_at dksX0_reelsThere_0 0 rfl rfl)
theorem dX0_reelsThere_1 : decode cX0_reelsThere 1 = .ok (.istore_n 1, 1) := dk_60 (dk_at dksX0_reelsThere_0 1 rfl rfl)
theorem dX0_reelsThere_2 : decode cX0_reelsThere 2 = .ok (.aload_n 0, 1) := dk_42 (dk_at dksX0_reelsThere_0 2 rfl rfl)
theorem dX0_reelsThere_3 : decode cX0_reelsThere 3 = .ok (.getfield 142, 3) := dk_180 0 142 (dk_at dksX0_reelsThere_0 3 rfl rfl)
theorem dX0_reelsThere_6 : decode cX0_reelsThere 6 = .ok (.astore_n 2, 1) := dk_77 (dk_at dksX0_reelsThere_0 6 rfl rfl)
theorem dX0_reelsThere_7 : decode cX0_reelsThere 7 = .ok (.aload_n 2, 1) := dk_44 (dk_at dksX0_reelsThere_0 7 rfl rfl)
theorem dX0_reelsThere_8 : decode cX0_reelsThere 8 = .ok (.arraylength, 1) := dk_190 (dk_at dksX0_reelsThere_0 8 rfl rfl)
theorem dX0_reelsThere_9 : decode cX0_reelsThere 9 = .ok (.istore_n 3, 1) := dk_62 (dk_at dksX0_reelsThere_0 9 rfl rfl)
theorem dX0_reelsThere_10 : decode cX0_reelsThere 10 = .ok (.iconst 0, 1) := dk_3 (dk_at dksX0_reelsThere_0 10 rfl rfl)
theorem dX0_reelsThere_11 : decode cX0_reelsThere 11 = .ok (.istore 4, 2) := dk_54 4 (dk_at dksX0_reelsThere_0 11 rfl rfl)
theorem dX0_reelsThere_13 : decode cX0_reelsThere 13 = .ok (.iload 4, 2) := dk_21 4 (dk_at dksX0_reelsThere_0 13 rfl rfl)
theorem dX0_reelsThere_15 : decode cX0_reelsThere 15 = .ok (.iload_n 3, 1) := dk_29 (dk_at dksX0_reelsThere_0 15 rfl rfl)
theorem dX0_reelsThere_16 : decode cX0_reelsThere 16 = .ok (.if_icmp .ge 28, 3) := dk_162 0 28 (dk_at dksX0_reelsThere_0 16 rfl rfl)
theorem dX0_reelsThere_19 : decode cX0_reelsThere 19 = .ok (.aload_n 2, 1) := dk_44 (dk_at dksX0_reelsThere_0 19 rfl rfl)
theorem dX0_reelsThere_20 : decode cX0_reelsThere 20 = .ok (.iload 4, 2) := dk_21 4 (dk_at dksX0_reelsThere_0 20 rfl rfl)
theorem dX0_reelsThere_22 : decode cX0_reelsThere 22 = .ok (.aaload, 1) := dk_50 (dk_at dksX0_reelsThere_0 22 rfl rfl)
theorem dX0_reelsThere_23 : decode cX0_reelsThere 23 = .ok (.astore 5, 2) := dk_58 5 (dk_at dksX0_reelsThere_1 0 rfl rfl)
theorem dX0_reelsThere_25 : decode cX0_reelsThere 25 = .ok (.iload_n 1, 1) := dk_27 (dk_at dksX0_reelsThere_1 2 rfl rfl)
theorem dX0_reelsThere_26 : decode cX0_reelsThere 26 = .ok (.aload 5, 2) := dk_25 5 (dk_at dksX0_reelsThere_1 3 rfl rfl)
theorem dX0_reelsThere_28 : decode cX0_reelsThere 28 = .ok (.ifnonnull 7, 3) := dk_199 0 7 (dk_at dksX0_reelsThere_1 5 rfl rfl)
theorem dX0_reelsThere_31 : decode cX0_reelsThere 31 = .ok (.iconst 0, 1) := dk_3 (dk_at dksX0_reelsThere_1 8 rfl rfl)
theorem dX0_reelsThere_32 : decode cX0_reelsThere 32 = .ok (.goto 4, 3) := dk_167 0 4 (dk_at dksX0_reelsThere_1 9 rfl rfl)
theorem dX0_reelsThere_35 : decode cX0_reelsThere 35 = .ok (.iconst 1, 1) := dk_4 (dk_at dksX0_reelsThere_1 12 rfl rfl)
theorem dX0_reelsThere_36 : decode cX0_reelsThere 36 = .ok (.iadd, 1) := dk_96 (dk_at dksX0_reelsThere_1 13 rfl rfl)
theorem dX0_reelsThere_37 : decode cX0_reelsThere 37 = .ok (.istore_n 1, 1) := dk_60 (dk_at dksX0_reelsThere_1 14 rfl rfl)
theorem dX0_reelsThere_38 : decode cX0_reelsThere 38 = .ok (.iinc 4 1, 3) := dk_132 4 1 (dk_at dksX0_reelsThere_1 15 rfl rfl)
theorem dX0_reelsThere_41 : decode cX0_reelsThere 41 = .ok (.goto (-28), 3) := dk_167 255 228 (dk_at dksX0_reelsThere_1 18 rfl rfl)
theorem dX0_reelsThere_44 : decode cX0_reelsThere 44 = .ok (.iload_n 1, 1) := dk_27 (dk_at dksX0_reelsThere_1 21 rfl rfl)
theorem dX0_reelsThere_45 : decode cX0_reelsThere 45 = .ok (.ireturn, 1) := dk_172 (dk_at dksX0_reelsThere_1 22 rfl rfl)
abbrev cX0_wellKnown : ByteArray := prog_1_method_61_code
def yX0_wellKnown : MethodName := ⟨RX0, "wellKnown", "()I"⟩
def dkwX0_wellKnown_1 : List UInt8 := [132, 2, 1, 167, 255, 234, 27, 172]
abbrev dktX0_wellKnown_1 : List UInt8 := dkwX0_wellKnown_1 ++ []
def dkwX0_wellKnown_0 : List UInt8 := [3, 60, 3, 61, 28, 42, 180, 0, 69, 162, 0, 20, 27, 42, 180, 0, 27, 28, 182, 0, 210, 128, 60]
abbrev dktX0_wellKnown_0 : List UInt8 := dkwX0_wellKnown_0 ++ dktX0_wellKnown_1
theorem dksX0_wellKnown_0 : cX0_wellKnown.data.toList.drop 0 = dktX0_wellKnown_0 := by decide +kernel
theorem dksX0_wellKnown_1 : cX0_wellKnown.data.toList.drop 23 = dktX0_wellKnown_1 := dk_seg dksX0_wellKnown_0 23 rfl rfl
theorem dX0_wellKnown_0 : decode cX0_wellKnown 0 = .ok (.iconst 0, 1) := dk_3 (dk_at dksX0_wellKnown_0 0 rfl rfl)
theorem dX0_wellKnown_1 : decode cX0_wellKnown 1 = .ok (.istore_n 1, 1) := dk_60 (dk_at dksX0_wellKnown_0 1 rfl rfl)
theorem dX0_wellKnown_2 : decode cX0_wellKnown 2 = .ok (.iconst 0, 1) := dk_3 (dk_at dksX0_wellKnown_0 2 rfl rfl)
theorem dX0_wellKnown_3 : decode cX0_wellKnown 3 = .ok (.istore_n 2, 1) := dk_61 (dk_at dksX0_wellKnown_0 3 rfl rfl)
theorem dX0_wellKnown_4 : decode cX0_wellKnown 4 = .ok (.iload_n 2, 1) := dk_28 (dk_at dksX0_wellKnown_0 4 rfl rfl)
theorem dX0_wellKnown_5 : decode cX0_wellKnown 5 = .ok (.aload_n 0, 1) := dk_42 (dk_at dksX0_wellKnown_0 5 rfl rfl)
theorem dX0_wellKnown_6 : decode cX0_wellKnown 6 = .ok (.getfield 69, 3) := dk_180 0 69 (dk_at dksX0_wellKnown_0 6 rfl rfl)
theorem dX0_wellKnown_9 : decode cX0_wellKnown 9 = .ok (.if_icmp .ge 20, 3) := dk_162 0 20 (dk_at dksX0_wellKnown_0 9 rfl rfl)
theorem dX0_wellKnown_12 : decode cX0_wellKnown 12 = .ok (.iload_n 1, 1) := dk_27 (dk_at dksX0_wellKnown_0 12 rfl rfl)
theorem dX0_wellKnown_13 : decode cX0_wellKnown 13 = .ok (.aload_n 0, 1) := dk_42 (dk_at dksX0_wellKnown_0 13 rfl rfl)
theorem dX0_wellKnown_14 : decode cX0_wellKnown 14 = .ok (.getfield 27, 3) := dk_180 0 27 (dk_at dksX0_wellKnown_0 14 rfl rfl)
theorem dX0_wellKnown_17 : decode cX0_wellKnown 17 = .ok (.iload_n 2, 1) := dk_28 (dk_at dksX0_wellKnown_0 17 rfl rfl)
theorem dX0_wellKnown_18 : decode cX0_wellKnown 18 = .ok (.invokevirtual 210, 3) := dk_182 0 210 (dk_at dksX0_wellKnown_0 18 rfl rfl)
theorem dX0_wellKnown_21 : decode cX0_wellKnown 21 = .ok (.ior, 1) := dk_128 (dk_at dksX0_wellKnown_0 21 rfl rfl)
theorem dX0_wellKnown_22 : decode cX0_wellKnown 22 = .ok (.istore_n 1, 1) := dk_60 (dk_at dksX0_wellKnown_0 22 rfl rfl)
theorem dX0_wellKnown_23 : decode cX0_wellKnown 23 = .ok (.iinc 2 1, 3) := dk_132 2 1 (dk_at dksX0_wellKnown_1 0 rfl rfl)
theorem dX0_wellKnown_26 : decode cX0_wellKnown 26 = .ok (.goto (-22), 3) := dk_167 255 234 (dk_at dksX0_wellKnown_1 3 rfl rfl)
theorem dX0_wellKnown_29 : decode cX0_wellKnown 29 = .ok (.iload_n 1, 1) := dk_27 (dk_at dksX0_wellKnown_1 6 rfl rfl)
theorem dX0_wellKnown_30 : decode cX0_wellKnown 30 = .ok (.ireturn, 1) := dk_172 (dk_at dksX0_wellKnown_1 7 rfl rfl)
theorem q88 : (Jvm.Cond.initialized "ParrotSpeech") ∈ lw_all := lw_g (lw_at lw_m1 1 rfl) rfl
theorem q133 : (Jvm.Cond.instantiable "ParrotSpeech" (22 : Nat)) ∈ lw_all := lw_g (lw_at lw_m1 46 rfl) rfl
theorem q135 : (Jvm.Cond.instanceMethod ({ cls := "ParrotSpeech", name := "<init>", desc := "()V" } : Jvm.MethodName)) ∈ lw_all := lw_g (lw_at lw_m1 48 rfl) rfl
theorem q136 : (Jvm.Cond.code ({ cls := "ParrotSpeech", name := "<init>", desc := "()V" } : Jvm.MethodName) prog_1_method_11_code (1 : Nat) (Option.none : Option Jvm.ClassFile.FieldType)) ∈ lw_all := lw_g (lw_at lw_m1 49 rfl) rfl
theorem q137 : (Jvm.Cond.methodLink "ParrotSpeech" (110 : Nat) ({ cls := "java/lang/Object", name := "<init>", desc := "()V" } : Jvm.MethodName)) ∈ lw_all := lw_g (lw_at lw_m1 50 rfl) rfl
theorem q140 : (Jvm.Cond.classLink "ParrotSpeech" (111 : Nat) "java/lang/Object") ∈ lw_all := lw_g (lw_at lw_m1 53 rfl) rfl
theorem q142 : (Jvm.Cond.classLink "ParrotSpeech" (35 : Nat) "ParrotSpeech$State") ∈ lw_all := lw_g (lw_at lw_m1 55 rfl) rfl
theorem q144 : (Jvm.Cond.methodLinkNest "ParrotSpeech" (66 : Nat) ({ cls := "ParrotSpeech$State", name := "<init>", desc := "(LParrotSpeech;)V" } : Jvm.MethodName) "ParrotSpeech") ∈ lw_tbl := lw_at lw_m1 57 rfl
theorem q151 : (Jvm.Cond.fieldLink "ParrotSpeech" (92 : Nat) "ParrotSpeech$State" "known" "[[B") ∈ lw_all := lw_g (lw_at lw_m1 64 rfl) rfl
theorem q153 : (Jvm.Cond.fieldLink "ParrotSpeech" (99 : Nat) "ParrotSpeech$State" "perch" "[I") ∈ lw_all := lw_g (lw_at lw_m1 66 rfl) rfl
theorem q155 : (Jvm.Cond.fieldLink "ParrotSpeech" (89 : Nat) "ParrotSpeech$State" "has" "[I") ∈ lw_all := lw_g (lw_at lw_m1 68 rfl) rfl
theorem q158 : (Jvm.Cond.fieldLink "ParrotSpeech" (78 : Nat) "ParrotSpeech$State" "by" "[I") ∈ lw_all := lw_g (lw_at lw_m1 71 rfl) rfl
theorem q160 : (Jvm.Cond.fieldLink "ParrotSpeech" (75 : Nat) "ParrotSpeech$State" "covered" "I") ∈ lw_all := lw_g (lw_at lw_m1 73 rfl) rfl
theorem q162 : (Jvm.Cond.fieldLink "ParrotSpeech" (238 : Nat) "ParrotSpeech$State" "evening" "I") ∈ lw_all := lw_g (lw_at lw_m1 75 rfl) rfl
theorem q182 : (Jvm.Cond.classLink "ParrotSpeech" (123 : Nat) "[I") ∈ lw_all := lw_g (lw_at lw_m1 95 rfl) rfl
theorem q184 : (Jvm.Cond.classLink "ParrotSpeech" (132 : Nat) "[[I") ∈ lw_all := lw_g (lw_at lw_m1 97 rfl) rfl
theorem q185 : (Jvm.Cond.methodLink "ParrotSpeech" (85 : Nat) ({ cls := "ParrotSpeech", name := "empty", desc := "()V" } : Jvm.MethodName)) ∈ lw_all := lw_g (lw_at lw_m1 98 rfl) rfl
theorem q186 : (Jvm.Cond.privateMethod ({ cls := "ParrotSpeech", name := "empty", desc := "()V" } : Jvm.MethodName)) ∈ lw_tbl := lw_at lw_m1 99 rfl
theorem q187 : (Jvm.Cond.instanceMethod ({ cls := "ParrotSpeech", name := "empty", desc := "()V" } : Jvm.MethodName)) ∈ lw_all := lw_g (lw_at lw_m1 100 rfl) rfl
theorem q188 : (Jvm.Cond.code ({ cls := "ParrotSpeech", name := "empty", desc := "()V" } : Jvm.MethodName) prog_1_method_8_code (1 : Nat) (Option.none : Option Jvm.ClassFile.FieldType)) ∈ lw_all := lw_g (lw_at lw_m1 101 rfl) rfl
theorem q189 : (Jvm.Cond.methodLink "ParrotSpeech" (82 : Nat) ({ cls := "java/util/Arrays", name := "fill", desc := "([II)V" } : Jvm.MethodName)) ∈ lw_all := lw_g (lw_at lw_m1 102 rfl) rfl
theorem q192 : (Jvm.Cond.methodLink "ParrotSpeech" (145 : Nat) ({ cls := "ParrotSpeech", name := "begin", desc := "()V" } : Jvm.MethodName)) ∈ lw_all := lw_g (lw_at lw_m1 105 rfl) rfl
theorem q193 : (Jvm.Cond.privateMethod ({ cls := "ParrotSpeech", name := "begin", desc := "()V" } : Jvm.MethodName)) ∈ lw_tbl := lw_at lw_m1 106 rfl
theorem q194 : (Jvm.Cond.instanceMethod ({ cls := "ParrotSpeech", name := "begin", desc := "()V" } : Jvm.MethodName)) ∈ lw_all := lw_g (lw_at lw_m1 107 rfl) rfl
theorem q195 : (Jvm.Cond.code ({ cls := "ParrotSpeech", name := "begin", desc := "()V" } : Jvm.MethodName) prog_1_method_6_code (1 : Nat) (Option.none : Option Jvm.ClassFile.FieldType)) ∈ lw_all := lw_g (lw_at lw_m1 108 rfl) rfl
theorem q196 : (Jvm.Cond.methodLink "ParrotSpeech" (34 : Nat) ({ cls := "ParrotSpeech$State", name := "set", desc := "(LParrotSpeech$State;)LParrotSpeech$State;" } : Jvm.MethodName)) ∈ lw_all := lw_g (lw_at lw_m1 109 rfl) rfl
theorem q203 : (Jvm.Cond.methodLink "ParrotSpeech" (51 : Nat) ({ cls := "java/util/Arrays", name := "fill", desc := "([Ljava/lang/Object;Ljava/lang/Object;)V" } : Jvm.MethodName)) ∈ lw_all := lw_g (lw_at lw_m1 116 rfl) rfl
theorem q206 : (Jvm.Cond.fieldLink "ParrotSpeech" (21 : Nat) "ParrotSpeech" "birds" "[Ljava/lang/Object;") ∈ lw_all := lw_g (lw_at lw_m1 119 rfl) rfl
theorem q208 : (Jvm.Cond.fieldLink "ParrotSpeech" (69 : Nat) "ParrotSpeech" "many" "I") ∈ lw_all := lw_g (lw_at lw_m1 121 rfl) rfl
theorem q212 : (Jvm.Cond.fieldLink "ParrotSpeech" (72 : Nat) "ParrotSpeech" "menMany" "I") ∈ lw_all := lw_g (lw_at lw_m1 125 rfl) rfl
theorem q215 : (Jvm.Cond.fieldLink "ParrotSpeech" (114 : Nat) "ParrotSpeech" "said" "[I") ∈ lw_all := lw_g (lw_at lw_m1 128 rfl) rfl
theorem q218 : (Jvm.Cond.fieldLink "ParrotSpeech" (266 : Nat) "ParrotSpeech" "saidMany" "I") ∈ lw_all := lw_g (lw_at lw_m1 131 rfl) rfl
theorem q220 : (Jvm.Cond.fieldLink "ParrotSpeech" (117 : Nat) "ParrotSpeech" "listened" "I") ∈ lw_all := lw_g (lw_at lw_m1 133 rfl) rfl
theorem q222 : (Jvm.Cond.fieldLink "ParrotSpeech" (31 : Nat) "ParrotSpeech" "told" "LParrotSpeech$State;") ∈ lw_all := lw_g (lw_at lw_m1 135 rfl) rfl
theorem q223 : (Jvm.Cond.fieldLink "ParrotSpeech" (27 : Nat) "ParrotSpeech" "now" "LParrotSpeech$State;") ∈ lw_all := lw_g (lw_at lw_m1 136 rfl) rfl
theorem q224 : (Jvm.Cond.fieldLink "ParrotSpeech" (120 : Nat) "ParrotSpeech" "tried" "LParrotSpeech$State;") ∈ lw_all := lw_g (lw_at lw_m1 137 rfl) rfl
theorem q225 : (Jvm.Cond.fieldLink "ParrotSpeech" (47 : Nat) "ParrotSpeech" "kept" "[LParrotSpeech$State;") ∈ lw_all := lw_g (lw_at lw_m1 138 rfl) rfl
theorem q226 : (Jvm.Cond.fieldLink "ParrotSpeech" (57 : Nat) "ParrotSpeech" "backs" "[LParrotSpeech$State;") ∈ lw_all := lw_g (lw_at lw_m1 139 rfl) rfl
theorem q227 : (Jvm.Cond.fieldLink "ParrotSpeech" (40 : Nat) "ParrotSpeech" "backMany" "I") ∈ lw_all := lw_g (lw_at lw_m1 140 rfl) rfl
theorem q228 : (Jvm.Cond.fieldLink "ParrotSpeech" (124 : Nat) "ParrotSpeech" "sights" "[[I") ∈ lw_all := lw_g (lw_at lw_m1 141 rfl) rfl
theorem q229 : (Jvm.Cond.fieldLink "ParrotSpeech" (44 : Nat) "ParrotSpeech" "sightMany" "I") ∈ lw_all := lw_g (lw_at lw_m1 142 rfl) rfl
theorem q230 : (Jvm.Cond.fieldLink "ParrotSpeech" (188 : Nat) "ParrotSpeech" "tongue" "LParrotSpeech$Part;") ∈ lw_all := lw_g (lw_at lw_m1 143 rfl) rfl
theorem q232 : (Jvm.Cond.fieldLink "ParrotSpeech" (128 : Nat) "ParrotSpeech" "text" "[B") ∈ lw_all := lw_g (lw_at lw_m1 145 rfl) rfl
theorem q234 : (Jvm.Cond.fieldLink "ParrotSpeech" (158 : Nat) "ParrotSpeech" "letters" "I") ∈ lw_all := lw_g (lw_at lw_m1 147 rfl) rfl
theorem q235 : (Jvm.Cond.fieldLink "ParrotSpeech" (133 : Nat) "ParrotSpeech" "keep" "[[I") ∈ lw_all := lw_g (lw_at lw_m1 148 rfl) rfl
theorem q236 : (Jvm.Cond.fieldLink "ParrotSpeech" (136 : Nat) "ParrotSpeech" "row" "[I") ∈ lw_all := lw_g (lw_at lw_m1 149 rfl) rfl
theorem q237 : (Jvm.Cond.fieldLink "ParrotSpeech" (139 : Nat) "ParrotSpeech" "bestRow" "[I") ∈ lw_all := lw_g (lw_at lw_m1 150 rfl) rfl
theorem q238 : (Jvm.Cond.fieldLink "ParrotSpeech" (280 : Nat) "ParrotSpeech" "bestSum" "I") ∈ lw_all := lw_g (lw_at lw_m1 151 rfl) rfl
theorem q239 : (Jvm.Cond.fieldLink "ParrotSpeech" (142 : Nat) "ParrotSpeech" "reels" "[Ljava/lang/Object;") ∈ lw_all := lw_g (lw_at lw_m1 152 rfl) rfl
theorem q240 : (Jvm.Cond.laysFinal "ParrotSpeech" "ParrotSpeech" "birds" "[Ljava/lang/Object;") ∈ lw_all := lw_g (lw_at lw_m1 153 rfl) rfl
theorem q241 : (Jvm.Cond.soleField "ParrotSpeech" "birds") ∈ lw_all := lw_g (lw_at lw_m1 154 rfl) rfl
theorem q242 : (Jvm.Cond.lays "ParrotSpeech" "ParrotSpeech" "many" "I") ∈ lw_all := lw_g (lw_at lw_m1 155 rfl) rfl
theorem q243 : (Jvm.Cond.soleField "ParrotSpeech" "many") ∈ lw_all := lw_g (lw_at lw_m1 156 rfl) rfl
theorem q244 : (Jvm.Cond.lays "ParrotSpeech" "ParrotSpeech" "menMany" "I") ∈ lw_all := lw_g (lw_at lw_m1 157 rfl) rfl
theorem q245 : (Jvm.Cond.soleField "ParrotSpeech" "menMany") ∈ lw_all := lw_g (lw_at lw_m1 158 rfl) rfl
theorem q246 : (Jvm.Cond.laysFinal "ParrotSpeech" "ParrotSpeech" "said" "[I") ∈ lw_all := lw_g (lw_at lw_m1 159 rfl) rfl
theorem q247 : (Jvm.Cond.soleField "ParrotSpeech" "said") ∈ lw_all := lw_g (lw_at lw_m1 160 rfl) rfl
theorem q248 : (Jvm.Cond.lays "ParrotSpeech" "ParrotSpeech" "saidMany" "I") ∈ lw_all := lw_g (lw_at lw_m1 161 rfl) rfl
theorem q249 : (Jvm.Cond.soleField "ParrotSpeech" "saidMany") ∈ lw_all := lw_g (lw_at lw_m1 162 rfl) rfl
theorem q250 : (Jvm.Cond.lays "ParrotSpeech" "ParrotSpeech" "listened" "I") ∈ lw_all := lw_g (lw_at lw_m1 163 rfl) rfl
theorem q251 : (Jvm.Cond.soleField "ParrotSpeech" "listened") ∈ lw_all := lw_g (lw_at lw_m1 164 rfl) rfl
theorem q252 : (Jvm.Cond.laysFinal "ParrotSpeech" "ParrotSpeech" "told" "LParrotSpeech$State;") ∈ lw_all := lw_g (lw_at lw_m1 165 rfl) rfl
theorem q253 : (Jvm.Cond.soleField "ParrotSpeech" "told") ∈ lw_all := lw_g (lw_at lw_m1 166 rfl) rfl
theorem q254 : (Jvm.Cond.laysFinal "ParrotSpeech" "ParrotSpeech" "now" "LParrotSpeech$State;") ∈ lw_all := lw_g (lw_at lw_m1 167 rfl) rfl
theorem q255 : (Jvm.Cond.soleField "ParrotSpeech" "now") ∈ lw_all := lw_g (lw_at lw_m1 168 rfl) rfl
theorem q256 : (Jvm.Cond.laysFinal "ParrotSpeech" "ParrotSpeech" "tried" "LParrotSpeech$State;") ∈ lw_all := lw_g (lw_at lw_m1 169 rfl) rfl
theorem q257 : (Jvm.Cond.soleField "ParrotSpeech" "tried") ∈ lw_all := lw_g (lw_at lw_m1 170 rfl) rfl
theorem q258 : (Jvm.Cond.laysFinal "ParrotSpeech" "ParrotSpeech" "kept" "[LParrotSpeech$State;") ∈ lw_all := lw_g (lw_at lw_m1 171 rfl) rfl
theorem q259 : (Jvm.Cond.soleField "ParrotSpeech" "kept") ∈ lw_all := lw_g (lw_at lw_m1 172 rfl) rfl
theorem q260 : (Jvm.Cond.laysFinal "ParrotSpeech" "ParrotSpeech" "backs" "[LParrotSpeech$State;") ∈ lw_all := lw_g (lw_at lw_m1 173 rfl) rfl
theorem q261 : (Jvm.Cond.soleField "ParrotSpeech" "backs") ∈ lw_all := lw_g (lw_at lw_m1 174 rfl) rfl
theorem q262 : (Jvm.Cond.lays "ParrotSpeech" "ParrotSpeech" "backMany" "I") ∈ lw_all := lw_g (lw_at lw_m1 175 rfl) rfl
theorem q263 : (Jvm.Cond.soleField "ParrotSpeech" "backMany") ∈ lw_all := lw_g (lw_at lw_m1 176 rfl) rfl
theorem q264 : (Jvm.Cond.laysFinal "ParrotSpeech" "ParrotSpeech" "sights" "[[I") ∈ lw_all := lw_g (lw_at lw_m1 177 rfl) rfl
theorem q265 : (Jvm.Cond.soleField "ParrotSpeech" "sights") ∈ lw_all := lw_g (lw_at lw_m1 178 rfl) rfl
theorem q266 : (Jvm.Cond.lays "ParrotSpeech" "ParrotSpeech" "sightMany" "I") ∈ lw_all := lw_g (lw_at lw_m1 179 rfl) rfl
theorem q267 : (Jvm.Cond.soleField "ParrotSpeech" "sightMany") ∈ lw_all := lw_g (lw_at lw_m1 180 rfl) rfl
theorem q268 : (Jvm.Cond.lays "ParrotSpeech" "ParrotSpeech" "tongue" "LParrotSpeech$Part;") ∈ lw_all := lw_g (lw_at lw_m1 181 rfl) rfl
theorem q269 : (Jvm.Cond.soleField "ParrotSpeech" "tongue") ∈ lw_all := lw_g (lw_at lw_m1 182 rfl) rfl
theorem q270 : (Jvm.Cond.laysFinal "ParrotSpeech" "ParrotSpeech" "text" "[B") ∈ lw_all := lw_g (lw_at lw_m1 183 rfl) rfl
theorem q271 : (Jvm.Cond.soleField "ParrotSpeech" "text") ∈ lw_all := lw_g (lw_at lw_m1 184 rfl) rfl
theorem q272 : (Jvm.Cond.lays "ParrotSpeech" "ParrotSpeech" "letters" "I") ∈ lw_all := lw_g (lw_at lw_m1 185 rfl) rfl
theorem q273 : (Jvm.Cond.soleField "ParrotSpeech" "letters") ∈ lw_all := lw_g (lw_at lw_m1 186 rfl) rfl
theorem q274 : (Jvm.Cond.laysFinal "ParrotSpeech" "ParrotSpeech" "keep" "[[I") ∈ lw_all := lw_g (lw_at lw_m1 187 rfl) rfl
theorem q275 : (Jvm.Cond.soleField "ParrotSpeech" "keep") ∈ lw_all := lw_g (lw_at lw_m1 188 rfl) rfl
theorem q276 : (Jvm.Cond.laysFinal "ParrotSpeech" "ParrotSpeech" "row" "[I") ∈ lw_all := lw_g (lw_at lw_m1 189 rfl) rfl
theorem q277 : (Jvm.Cond.soleField "ParrotSpeech" "row") ∈ lw_all := lw_g (lw_at lw_m1 190 rfl) rfl
theorem q278 : (Jvm.Cond.laysFinal "ParrotSpeech" "ParrotSpeech" "bestRow" "[I") ∈ lw_all := lw_g (lw_at lw_m1 191 rfl) rfl
theorem q279 : (Jvm.Cond.soleField "ParrotSpeech" "bestRow") ∈ lw_all := lw_g (lw_at lw_m1 192 rfl) rfl
theorem q280 : (Jvm.Cond.lays "ParrotSpeech" "ParrotSpeech" "bestSum" "I") ∈ lw_all := lw_g (lw_at lw_m1 193 rfl) rfl
theorem q281 : (Jvm.Cond.soleField "ParrotSpeech" "bestSum") ∈ lw_all := lw_g (lw_at lw_m1 194 rfl) rfl
theorem q282 : (Jvm.Cond.laysFinal "ParrotSpeech" "ParrotSpeech" "reels" "[Ljava/lang/Object;") ∈ lw_all := lw_g (lw_at lw_m1 195 rfl) rfl
theorem q283 : (Jvm.Cond.soleField "ParrotSpeech" "reels") ∈ lw_all := lw_g (lw_at lw_m1 196 rfl) rfl
theorem q284 : (Jvm.Cond.superclass "ParrotSpeech" "java/lang/Object") ∈ lw_all := lw_g (lw_at lw_m1 197 rfl) rfl
theorem q286 : (Jvm.Cond.instanceMethod ({ cls := "ParrotSpeech", name := "write", desc := "(I)I" } : Jvm.MethodName)) ∈ lw_all := lw_g (lw_at lw_m1 199 rfl) rfl
theorem q287 : (Jvm.Cond.selects "ParrotSpeech" ({ cls := "ParrotSpeech", name := "write", desc := "(I)I" } : Jvm.MethodName) ({ cls := "ParrotSpeech", name := "write", desc := "(I)I" } : Jvm.MethodName)) ∈ lw_all := lw_g (lw_at lw_m1 200 rfl) rfl
theorem q288 : (Jvm.Cond.code ({ cls := "ParrotSpeech", name := "write", desc := "(I)I" } : Jvm.MethodName) prog_1_method_16_code (2 : Nat) (Option.some Jvm.ClassFile.FieldType.int)) ∈ lw_all := lw_g (lw_at lw_m1 201 rfl) rfl
theorem q289 : (Jvm.Cond.constantLong "ParrotSpeech" (156 : Nat) (255 : Int64)) ∈ lw_all := lw_g (lw_at lw_m1 202 rfl) rfl
theorem q290 : (Jvm.Cond.methodLink "ParrotSpeech" (148 : Nat) ({ cls := "ParrotSpeech", name := "in", desc := "(JJJ)Z" } : Jvm.MethodName)) ∈ lw_all := lw_g (lw_at lw_m1 203 rfl) rfl
theorem q291 : (Jvm.Cond.static ({ cls := "ParrotSpeech", name := "in", desc := "(JJJ)Z" } : Jvm.MethodName)) ∈ lw_all := lw_g (lw_at lw_m1 204 rfl) rfl
theorem q292 : (Jvm.Cond.code ({ cls := "ParrotSpeech", name := "in", desc := "(JJJ)Z" } : Jvm.MethodName) prog_1_method_1_code (6 : Nat) (Option.some Jvm.ClassFile.FieldType.boolean)) ∈ lw_all := lw_g (lw_at lw_m1 205 rfl) rfl
theorem q294 : (Jvm.Cond.instanceMethod ({ cls := "ParrotSpeech", name := "erase", desc := "()I" } : Jvm.MethodName)) ∈ lw_all := lw_g (lw_at lw_m1 207 rfl) rfl
theorem q295 : (Jvm.Cond.selects "ParrotSpeech" ({ cls := "ParrotSpeech", name := "erase", desc := "()I" } : Jvm.MethodName) ({ cls := "ParrotSpeech", name := "erase", desc := "()I" } : Jvm.MethodName)) ∈ lw_all := lw_g (lw_at lw_m1 208 rfl) rfl
theorem q296 : (Jvm.Cond.code ({ cls := "ParrotSpeech", name := "erase", desc := "()I" } : Jvm.MethodName) prog_1_method_17_code (2 : Nat) (Option.some Jvm.ClassFile.FieldType.int)) ∈ lw_all := lw_g (lw_at lw_m1 209 rfl) rfl
theorem q298 : (Jvm.Cond.instanceMethod ({ cls := "ParrotSpeech", name := "fault", desc := "(I)I" } : Jvm.MethodName)) ∈ lw_all := lw_g (lw_at lw_m1 211 rfl) rfl
theorem q299 : (Jvm.Cond.selects "ParrotSpeech" ({ cls := "ParrotSpeech", name := "fault", desc := "(I)I" } : Jvm.MethodName) ({ cls := "ParrotSpeech", name := "fault", desc := "(I)I" } : Jvm.MethodName)) ∈ lw_all := lw_g (lw_at lw_m1 212 rfl) rfl
theorem q300 : (Jvm.Cond.codeWith ({ cls := "ParrotSpeech", name := "fault", desc := "(I)I" } : Jvm.MethodName) prog_1_method_18_code (3 : Nat) (Option.some Jvm.ClassFile.FieldType.int) [((13 : Nat), (47 : Nat), (48 : Nat), (174 : Nat))]) ∈ lw_all := lw_g (lw_at lw_m1 213 rfl) rfl
theorem q301 : (Jvm.Cond.classLink "ParrotSpeech" (174 : Nat) "ParrotSpeech$Fault") ∈ lw_all := lw_g (lw_at lw_m1 214 rfl) rfl
theorem q302 : (Jvm.Cond.classLink "ParrotSpeech" (161 : Nat) "ParrotSpeech$Reader") ∈ lw_all := lw_g (lw_at lw_m1 215 rfl) rfl
theorem q304 : (Jvm.Cond.methodLink "ParrotSpeech" (163 : Nat) ({ cls := "ParrotSpeech$Reader", name := "<init>", desc := "(LParrotSpeech;Z)V" } : Jvm.MethodName)) ∈ lw_all := lw_g (lw_at lw_m1 217 rfl) rfl
theorem q325 : (Jvm.Cond.fieldLinkNest "ParrotSpeech" (191 : Nat) "ParrotSpeech$Reader" "leaves" "I" "ParrotSpeech") ∈ lw_tbl := lw_at lw_m1 238 rfl
theorem q327 : (Jvm.Cond.fieldLink "ParrotSpeech" (181 : Nat) "ParrotSpeech$Reader" "clauses" "[[I") ∈ lw_all := lw_g (lw_at lw_m2 0 rfl) rfl
theorem q329 : (Jvm.Cond.fieldLink "ParrotSpeech" (179 : Nat) "ParrotSpeech$Reader" "read" "I") ∈ lw_all := lw_g (lw_at lw_m2 2 rfl) rfl
theorem q356 : (Jvm.Cond.methodLink "ParrotSpeech" (166 : Nat) ({ cls := "ParrotSpeech$Reader", name := "read", desc := "()LParrotSpeech$Reader;" } : Jvm.MethodName)) ∈ lw_all := lw_g (lw_at lw_m2 29 rfl) rfl
theorem q642 : (Jvm.Cond.laysStatic "ParrotSpeech" "HEADS" "[Ljava/lang/String;") ∈ lw_tbl := lw_at lw_m3 75 rfl
theorem q709 : (Jvm.Cond.selects "ParrotSpeech" ({ cls := "java/lang/Object", name := "equals", desc := "(Ljava/lang/Object;)Z" } : Jvm.MethodName) ({ cls := "java/lang/Object", name := "equals", desc := "(Ljava/lang/Object;)Z" } : Jvm.MethodName)) ∈ lw_all := lw_g (lw_at lw_m3 142 rfl) rfl
theorem q768 : (Jvm.Cond.fieldLink "ParrotSpeech" (176 : Nat) "ParrotSpeech$Fault" "at" "I") ∈ lw_all := lw_g (lw_at lw_m3 201 rfl) rfl
theorem q830 : (Jvm.Cond.methodLink "ParrotSpeech" (170 : Nat) ({ cls := "ParrotSpeech$Reader", name := "tongue", desc := "()LParrotSpeech$Part;" } : Jvm.MethodName)) ∈ lw_all := lw_g (lw_at lw_m4 23 rfl) rfl
theorem q966 : (Jvm.Cond.selects "ParrotSpeech" ({ cls := "java/lang/Object", name := "getClass", desc := "()Ljava/lang/Class;" } : Jvm.MethodName) ({ cls := "java/lang/Object", name := "getClass", desc := "()Ljava/lang/Class;" } : Jvm.MethodName)) ∈ lw_all := lw_g (lw_at lw_m4 159 rfl) rfl
theorem q1125 : (Jvm.Cond.instanceMethod ({ cls := "ParrotSpeech", name := "harbour", desc := "()I" } : Jvm.MethodName)) ∈ lw_all := lw_g (lw_at lw_m5 78 rfl) rfl
theorem q1126 : (Jvm.Cond.selects "ParrotSpeech" ({ cls := "ParrotSpeech", name := "harbour", desc := "()I" } : Jvm.MethodName) ({ cls := "ParrotSpeech", name := "harbour", desc := "()I" } : Jvm.MethodName)) ∈ lw_all := lw_g (lw_at lw_m5 79 rfl) rfl
theorem q1127 : (Jvm.Cond.codeWith ({ cls := "ParrotSpeech", name := "harbour", desc := "()I" } : Jvm.MethodName) prog_1_method_19_code (4 : Nat) (Option.some Jvm.ClassFile.FieldType.int) [((10 : Nat), (15 : Nat), (18 : Nat), (174 : Nat)), ((22 : Nat), (53 : Nat), (64 : Nat), (0 : Nat))]) ∈ lw_all := lw_g (lw_at lw_m5 80 rfl) rfl
theorem q1128 : (Jvm.Cond.methodLink "ParrotSpeech" (184 : Nat) ({ cls := "ParrotSpeech", name := "tell", desc := "([I)V" } : Jvm.MethodName)) ∈ lw_all := lw_g (lw_at lw_m5 81 rfl) rfl
theorem q1129 : (Jvm.Cond.privateMethod ({ cls := "ParrotSpeech", name := "tell", desc := "([I)V" } : Jvm.MethodName)) ∈ lw_tbl := lw_at lw_m5 82 rfl
theorem q1130 : (Jvm.Cond.instanceMethod ({ cls := "ParrotSpeech", name := "tell", desc := "([I)V" } : Jvm.MethodName)) ∈ lw_all := lw_g (lw_at lw_m5 83 rfl) rfl
theorem q1131 : (Jvm.Cond.code ({ cls := "ParrotSpeech", name := "tell", desc := "([I)V" } : Jvm.MethodName) prog_1_method_9_code (2 : Nat) (Option.none : Option Jvm.ClassFile.FieldType)) ∈ lw_all := lw_g (lw_at lw_m5 84 rfl) rfl
theorem q1132 : (Jvm.Cond.methodLink "ParrotSpeech" (96 : Nat) ({ cls := "java/util/Arrays", name := "fill", desc := "([BB)V" } : Jvm.MethodName)) ∈ lw_all := lw_g (lw_at lw_m5 85 rfl) rfl
theorem q1135 : (Jvm.Cond.methodLink "ParrotSpeech" (102 : Nat) ({ cls := "ParrotSpeech", name := "called", desc := "(II)LParrotSpeech$Bird;" } : Jvm.MethodName)) ∈ lw_all := lw_g (lw_at lw_m5 88 rfl) rfl
theorem q1136 : (Jvm.Cond.static ({ cls := "ParrotSpeech", name := "called", desc := "(II)LParrotSpeech$Bird;" } : Jvm.MethodName)) ∈ lw_all := lw_g (lw_at lw_m5 89 rfl) rfl
theorem q1137 : (Jvm.Cond.code ({ cls := "ParrotSpeech", name := "called", desc := "(II)LParrotSpeech$Bird;" } : Jvm.MethodName) prog_1_method_3_code (2 : Nat) (Option.some (Jvm.ClassFile.FieldType.object "ParrotSpeech$Bird"))) ∈ lw_all := lw_g (lw_at lw_m5 90 rfl) rfl
theorem q1138 : (Jvm.Cond.classLink "ParrotSpeech" (1 : Nat) "ParrotSpeech$Parrot") ∈ lw_all := lw_g (lw_at lw_m5 91 rfl) rfl
theorem q1140 : (Jvm.Cond.methodLink "ParrotSpeech" (3 : Nat) ({ cls := "ParrotSpeech$Parrot", name := "<init>", desc := "(I)V" } : Jvm.MethodName)) ∈ lw_all := lw_g (lw_at lw_m5 93 rfl) rfl
theorem q1148 : (Jvm.Cond.fieldLink "ParrotSpeech" (334 : Nat) "ParrotSpeech$Bird" "number" "I") ∈ lw_all := lw_g (lw_at lw_m5 101 rfl) rfl
theorem q1152 : (Jvm.Cond.classLink "ParrotSpeech" (7 : Nat) "ParrotSpeech$Grey") ∈ lw_all := lw_g (lw_at lw_m5 105 rfl) rfl
theorem q1154 : (Jvm.Cond.methodLink "ParrotSpeech" (9 : Nat) ({ cls := "ParrotSpeech$Grey", name := "<init>", desc := "(I)V" } : Jvm.MethodName)) ∈ lw_all := lw_g (lw_at lw_m5 107 rfl) rfl
theorem q1160 : (Jvm.Cond.classLink "ParrotSpeech" (10 : Nat) "ParrotSpeech$Cockatoo") ∈ lw_all := lw_g (lw_at lw_m5 113 rfl) rfl
theorem q1162 : (Jvm.Cond.methodLink "ParrotSpeech" (12 : Nat) ({ cls := "ParrotSpeech$Cockatoo", name := "<init>", desc := "(I)V" } : Jvm.MethodName)) ∈ lw_all := lw_g (lw_at lw_m5 115 rfl) rfl
theorem q1168 : (Jvm.Cond.classLink "ParrotSpeech" (13 : Nat) "ParrotSpeech$Hawk") ∈ lw_all := lw_g (lw_at lw_m5 121 rfl) rfl
theorem q1170 : (Jvm.Cond.methodLink "ParrotSpeech" (15 : Nat) ({ cls := "ParrotSpeech$Hawk", name := "<init>", desc := "(I)V" } : Jvm.MethodName)) ∈ lw_all := lw_g (lw_at lw_m5 123 rfl) rfl
theorem q1176 : (Jvm.Cond.classLink "ParrotSpeech" (16 : Nat) "ParrotSpeech$Green") ∈ lw_all := lw_g (lw_at lw_m5 129 rfl) rfl
theorem q1178 : (Jvm.Cond.methodLink "ParrotSpeech" (18 : Nat) ({ cls := "ParrotSpeech$Green", name := "<init>", desc := "(I)V" } : Jvm.MethodName)) ∈ lw_all := lw_g (lw_at lw_m5 131 rfl) rfl
theorem q1185 : (Jvm.Cond.instanceMethod ({ cls := "ParrotSpeech", name := "tongue", desc := "()I" } : Jvm.MethodName)) ∈ lw_all := lw_g (lw_at lw_m5 138 rfl) rfl
theorem q1186 : (Jvm.Cond.selects "ParrotSpeech" ({ cls := "ParrotSpeech", name := "tongue", desc := "()I" } : Jvm.MethodName) ({ cls := "ParrotSpeech", name := "tongue", desc := "()I" } : Jvm.MethodName)) ∈ lw_all := lw_g (lw_at lw_m5 139 rfl) rfl
theorem q1187 : (Jvm.Cond.codeWith ({ cls := "ParrotSpeech", name := "tongue", desc := "()I" } : Jvm.MethodName) prog_1_method_20_code (3 : Nat) (Option.some Jvm.ClassFile.FieldType.int) [((10 : Nat), (27 : Nat), (28 : Nat), (174 : Nat))]) ∈ lw_all := lw_g (lw_at lw_m5 140 rfl) rfl
theorem q1189 : (Jvm.Cond.instanceMethod ({ cls := "ParrotSpeech", name := "bird", desc := "(II)I" } : Jvm.MethodName)) ∈ lw_all := lw_g (lw_at lw_m5 142 rfl) rfl
theorem q1190 : (Jvm.Cond.selects "ParrotSpeech" ({ cls := "ParrotSpeech", name := "bird", desc := "(II)I" } : Jvm.MethodName) ({ cls := "ParrotSpeech", name := "bird", desc := "(II)I" } : Jvm.MethodName)) ∈ lw_all := lw_g (lw_at lw_m5 143 rfl) rfl
theorem q1191 : (Jvm.Cond.code ({ cls := "ParrotSpeech", name := "bird", desc := "(II)I" } : Jvm.MethodName) prog_1_method_21_code (3 : Nat) (Option.some Jvm.ClassFile.FieldType.int)) ∈ lw_all := lw_g (lw_at lw_m5 144 rfl) rfl
theorem q1192 : (Jvm.Cond.methodLink "ParrotSpeech" (194 : Nat) ({ cls := "ParrotSpeech", name := "isBird", desc := "(I)Z" } : Jvm.MethodName)) ∈ lw_all := lw_g (lw_at lw_m5 145 rfl) rfl
theorem q1193 : (Jvm.Cond.privateMethod ({ cls := "ParrotSpeech", name := "isBird", desc := "(I)Z" } : Jvm.MethodName)) ∈ lw_tbl := lw_at lw_m5 146 rfl
theorem q1194 : (Jvm.Cond.instanceMethod ({ cls := "ParrotSpeech", name := "isBird", desc := "(I)Z" } : Jvm.MethodName)) ∈ lw_all := lw_g (lw_at lw_m5 147 rfl) rfl
theorem q1195 : (Jvm.Cond.code ({ cls := "ParrotSpeech", name := "isBird", desc := "(I)Z" } : Jvm.MethodName) prog_1_method_12_code (2 : Nat) (Option.some Jvm.ClassFile.FieldType.boolean)) ∈ lw_all := lw_g (lw_at lw_m5 148 rfl) rfl
theorem q1196 : (Jvm.Cond.methodLink "ParrotSpeech" (198 : Nat) ({ cls := "ParrotSpeech", name := "bird", desc := "(I)LParrotSpeech$Bird;" } : Jvm.MethodName)) ∈ lw_all := lw_g (lw_at lw_m5 149 rfl) rfl
theorem q1197 : (Jvm.Cond.privateMethod ({ cls := "ParrotSpeech", name := "bird", desc := "(I)LParrotSpeech$Bird;" } : Jvm.MethodName)) ∈ lw_tbl := lw_at lw_m5 150 rfl
theorem q1198 : (Jvm.Cond.instanceMethod ({ cls := "ParrotSpeech", name := "bird", desc := "(I)LParrotSpeech$Bird;" } : Jvm.MethodName)) ∈ lw_all := lw_g (lw_at lw_m5 151 rfl) rfl
theorem q1199 : (Jvm.Cond.code ({ cls := "ParrotSpeech", name := "bird", desc := "(I)LParrotSpeech$Bird;" } : Jvm.MethodName) prog_1_method_5_code (2 : Nat) (Option.some (Jvm.ClassFile.FieldType.object "ParrotSpeech$Bird"))) ∈ lw_all := lw_g (lw_at lw_m5 152 rfl) rfl
theorem q1200 : (Jvm.Cond.classLink "ParrotSpeech" (19 : Nat) "ParrotSpeech$Bird") ∈ lw_all := lw_g (lw_at lw_m5 153 rfl) rfl
theorem q1201 : (Jvm.Cond.methodLink "ParrotSpeech" (202 : Nat) ({ cls := "ParrotSpeech$Bird", name := "kind", desc := "()I" } : Jvm.MethodName)) ∈ lw_all := lw_g (lw_at lw_m5 154 rfl) rfl
theorem q1222 : (Jvm.Cond.methodLink "ParrotSpeech" (206 : Nat) ({ cls := "ParrotSpeech$State", name := "owner", desc := "(I)I" } : Jvm.MethodName)) ∈ lw_all := lw_g (lw_at lw_m5 175 rfl) rfl
theorem q1226 : (Jvm.Cond.methodLink "ParrotSpeech" (210 : Nat) ({ cls := "ParrotSpeech$State", name := "well", desc := "(I)I" } : Jvm.MethodName)) ∈ lw_all := lw_g (lw_at lw_m5 179 rfl) rfl
theorem q1231 : (Jvm.Cond.instanceMethod ({ cls := "ParrotSpeech", name := "man", desc := "(II)I" } : Jvm.MethodName)) ∈ lw_all := lw_g (lw_at lw_m5 184 rfl) rfl
theorem q1232 : (Jvm.Cond.selects "ParrotSpeech" ({ cls := "ParrotSpeech", name := "man", desc := "(II)I" } : Jvm.MethodName) ({ cls := "ParrotSpeech", name := "man", desc := "(II)I" } : Jvm.MethodName)) ∈ lw_all := lw_g (lw_at lw_m5 185 rfl) rfl
theorem q1233 : (Jvm.Cond.code ({ cls := "ParrotSpeech", name := "man", desc := "(II)I" } : Jvm.MethodName) prog_1_method_22_code (3 : Nat) (Option.some Jvm.ClassFile.FieldType.int)) ∈ lw_all := lw_g (lw_at lw_m5 186 rfl) rfl
theorem q1234 : (Jvm.Cond.methodLink "ParrotSpeech" (213 : Nat) ({ cls := "ParrotSpeech", name := "isMan", desc := "(I)Z" } : Jvm.MethodName)) ∈ lw_all := lw_g (lw_at lw_m5 187 rfl) rfl
theorem q1235 : (Jvm.Cond.privateMethod ({ cls := "ParrotSpeech", name := "isMan", desc := "(I)Z" } : Jvm.MethodName)) ∈ lw_tbl := lw_at lw_m5 188 rfl
theorem q1236 : (Jvm.Cond.instanceMethod ({ cls := "ParrotSpeech", name := "isMan", desc := "(I)Z" } : Jvm.MethodName)) ∈ lw_all := lw_g (lw_at lw_m5 189 rfl) rfl
theorem q1237 : (Jvm.Cond.code ({ cls := "ParrotSpeech", name := "isMan", desc := "(I)Z" } : Jvm.MethodName) prog_1_method_13_code (2 : Nat) (Option.some Jvm.ClassFile.FieldType.boolean)) ∈ lw_all := lw_g (lw_at lw_m5 190 rfl) rfl
theorem q1239 : (Jvm.Cond.instanceMethod ({ cls := "ParrotSpeech", name := "known", desc := "(III)I" } : Jvm.MethodName)) ∈ lw_all := lw_g (lw_at lw_m5 192 rfl) rfl
theorem q1240 : (Jvm.Cond.selects "ParrotSpeech" ({ cls := "ParrotSpeech", name := "known", desc := "(III)I" } : Jvm.MethodName) ({ cls := "ParrotSpeech", name := "known", desc := "(III)I" } : Jvm.MethodName)) ∈ lw_all := lw_g (lw_at lw_m5 193 rfl) rfl
theorem q1241 : (Jvm.Cond.code ({ cls := "ParrotSpeech", name := "known", desc := "(III)I" } : Jvm.MethodName) prog_1_method_23_code (4 : Nat) (Option.some Jvm.ClassFile.FieldType.int)) ∈ lw_all := lw_g (lw_at lw_m5 194 rfl) rfl
theorem q1242 : (Jvm.Cond.methodLink "ParrotSpeech" (216 : Nat) ({ cls := "ParrotSpeech", name := "isWord", desc := "(I)Z" } : Jvm.MethodName)) ∈ lw_all := lw_g (lw_at lw_m5 195 rfl) rfl
theorem q1243 : (Jvm.Cond.static ({ cls := "ParrotSpeech", name := "isWord", desc := "(I)Z" } : Jvm.MethodName)) ∈ lw_all := lw_g (lw_at lw_m5 196 rfl) rfl
theorem q1244 : (Jvm.Cond.code ({ cls := "ParrotSpeech", name := "isWord", desc := "(I)Z" } : Jvm.MethodName) prog_1_method_15_code (1 : Nat) (Option.some Jvm.ClassFile.FieldType.boolean)) ∈ lw_all := lw_g (lw_at lw_m5 197 rfl) rfl
theorem q1245 : (Jvm.Cond.constantLong "ParrotSpeech" (154 : Nat) (9 : Int64)) ∈ lw_all := lw_g (lw_at lw_m5 198 rfl) rfl
theorem q1246 : (Jvm.Cond.constantLong "ParrotSpeech" (219 : Nat) (60 : Int64)) ∈ lw_all := lw_g (lw_at lw_m5 199 rfl) rfl
theorem q1247 : (Jvm.Cond.methodLink "ParrotSpeech" (221 : Nat) ({ cls := "ParrotSpeech$State", name := "go", desc := "(I)LParrotSpeech$State;" } : Jvm.MethodName)) ∈ lw_all := lw_g (lw_at lw_m5 200 rfl) rfl
theorem q1260 : (Jvm.Cond.static ({ cls := "ParrotSpeech", name := "has", desc := "(II)Z" } : Jvm.MethodName)) ∈ lw_all := lw_g (lw_at lw_m5 213 rfl) rfl
theorem q1261 : (Jvm.Cond.code ({ cls := "ParrotSpeech", name := "has", desc := "(II)Z" } : Jvm.MethodName) prog_1_method_2_code (2 : Nat) (Option.some Jvm.ClassFile.FieldType.boolean)) ∈ lw_all := lw_g (lw_at lw_m5 214 rfl) rfl
theorem q1382 : (Jvm.Cond.instanceMethod ({ cls := "ParrotSpeech", name := "as", desc := "(II)I" } : Jvm.MethodName)) ∈ lw_all := lw_g (lw_at lw_m6 95 rfl) rfl
theorem q1383 : (Jvm.Cond.selects "ParrotSpeech" ({ cls := "ParrotSpeech", name := "as", desc := "(II)I" } : Jvm.MethodName) ({ cls := "ParrotSpeech", name := "as", desc := "(II)I" } : Jvm.MethodName)) ∈ lw_all := lw_g (lw_at lw_m6 96 rfl) rfl
theorem q1384 : (Jvm.Cond.codeWith ({ cls := "ParrotSpeech", name := "as", desc := "(II)I" } : Jvm.MethodName) prog_1_method_24_code (4 : Nat) (Option.some Jvm.ClassFile.FieldType.int) [((26 : Nat), (39 : Nat), (40 : Nat), (234 : Nat))]) ∈ lw_all := lw_g (lw_at lw_m6 97 rfl) rfl
theorem q1385 : (Jvm.Cond.classLink "ParrotSpeech" (234 : Nat) "java/lang/ClassCastException") ∈ lw_all := lw_g (lw_at lw_m6 98 rfl) rfl
theorem q1399 : (Jvm.Cond.constantLong "ParrotSpeech" (225 : Nat) (5 : Int64)) ∈ lw_all := lw_g (lw_at lw_m6 112 rfl) rfl
theorem q1400 : (Jvm.Cond.methodLink "ParrotSpeech" (227 : Nat) ({ cls := "ParrotSpeech", name := "castTo", desc := "(Ljava/lang/Object;I)LParrotSpeech$Bird;" } : Jvm.MethodName)) ∈ lw_all := lw_g (lw_at lw_m6 113 rfl) rfl
theorem q1401 : (Jvm.Cond.static ({ cls := "ParrotSpeech", name := "castTo", desc := "(Ljava/lang/Object;I)LParrotSpeech$Bird;" } : Jvm.MethodName)) ∈ lw_all := lw_g (lw_at lw_m6 114 rfl) rfl
theorem q1402 : (Jvm.Cond.code ({ cls := "ParrotSpeech", name := "castTo", desc := "(Ljava/lang/Object;I)LParrotSpeech$Bird;" } : Jvm.MethodName) prog_1_method_4_code (2 : Nat) (Option.some (Jvm.ClassFile.FieldType.object "ParrotSpeech$Bird"))) ∈ lw_all := lw_g (lw_at lw_m6 115 rfl) rfl
theorem q1404 : (Jvm.Cond.instanceMethod ({ cls := "ParrotSpeech", name := "evening", desc := "(I)I" } : Jvm.MethodName)) ∈ lw_all := lw_g (lw_at lw_m6 117 rfl) rfl
theorem q1405 : (Jvm.Cond.selects "ParrotSpeech" ({ cls := "ParrotSpeech", name := "evening", desc := "(I)I" } : Jvm.MethodName) ({ cls := "ParrotSpeech", name := "evening", desc := "(I)I" } : Jvm.MethodName)) ∈ lw_all := lw_g (lw_at lw_m6 118 rfl) rfl
theorem q1406 : (Jvm.Cond.code ({ cls := "ParrotSpeech", name := "evening", desc := "(I)I" } : Jvm.MethodName) prog_1_method_25_code (2 : Nat) (Option.some Jvm.ClassFile.FieldType.int)) ∈ lw_all := lw_g (lw_at lw_m6 119 rfl) rfl
theorem q1407 : (Jvm.Cond.constantLong "ParrotSpeech" (236 : Nat) (12 : Int64)) ∈ lw_all := lw_g (lw_at lw_m6 120 rfl) rfl
theorem q1408 : (Jvm.Cond.methodLink "ParrotSpeech" (241 : Nat) ({ cls := "ParrotSpeech", name := "note", desc := "()V" } : Jvm.MethodName)) ∈ lw_all := lw_g (lw_at lw_m6 121 rfl) rfl
theorem q1409 : (Jvm.Cond.privateMethod ({ cls := "ParrotSpeech", name := "note", desc := "()V" } : Jvm.MethodName)) ∈ lw_tbl := lw_at lw_m6 122 rfl
theorem q1410 : (Jvm.Cond.instanceMethod ({ cls := "ParrotSpeech", name := "note", desc := "()V" } : Jvm.MethodName)) ∈ lw_all := lw_g (lw_at lw_m6 123 rfl) rfl
theorem q1411 : (Jvm.Cond.code ({ cls := "ParrotSpeech", name := "note", desc := "()V" } : Jvm.MethodName) prog_1_method_7_code (2 : Nat) (Option.none : Option Jvm.ClassFile.FieldType)) ∈ lw_all := lw_g (lw_at lw_m6 124 rfl) rfl
theorem q1412 : (Jvm.Cond.methodLink "ParrotSpeech" (60 : Nat) ({ cls := "java/lang/System", name := "arraycopy", desc := "(Ljava/lang/Object;ILjava/lang/Object;II)V" } : Jvm.MethodName)) ∈ lw_all := lw_g (lw_at lw_m6 125 rfl) rfl
theorem q1414 : (Jvm.Cond.instanceMethod ({ cls := "ParrotSpeech", name := "teach", desc := "(II)I" } : Jvm.MethodName)) ∈ lw_all := lw_g (lw_at lw_m6 127 rfl) rfl
theorem q1415 : (Jvm.Cond.selects "ParrotSpeech" ({ cls := "ParrotSpeech", name := "teach", desc := "(II)I" } : Jvm.MethodName) ({ cls := "ParrotSpeech", name := "teach", desc := "(II)I" } : Jvm.MethodName)) ∈ lw_all := lw_g (lw_at lw_m6 128 rfl) rfl
theorem q1416 : (Jvm.Cond.code ({ cls := "ParrotSpeech", name := "teach", desc := "(II)I" } : Jvm.MethodName) prog_1_method_26_code (3 : Nat) (Option.some Jvm.ClassFile.FieldType.int)) ∈ lw_all := lw_g (lw_at lw_m6 129 rfl) rfl
theorem q1417 : (Jvm.Cond.methodLink "ParrotSpeech" (244 : Nat) ({ cls := "ParrotSpeech$State", name := "gains", desc := "(III)V" } : Jvm.MethodName)) ∈ lw_all := lw_g (lw_at lw_m6 130 rfl) rfl
theorem q1419 : (Jvm.Cond.instanceMethod ({ cls := "ParrotSpeech", name := "moult", desc := "(I)I" } : Jvm.MethodName)) ∈ lw_all := lw_g (lw_at lw_m6 132 rfl) rfl
theorem q1420 : (Jvm.Cond.selects "ParrotSpeech" ({ cls := "ParrotSpeech", name := "moult", desc := "(I)I" } : Jvm.MethodName) ({ cls := "ParrotSpeech", name := "moult", desc := "(I)I" } : Jvm.MethodName)) ∈ lw_all := lw_g (lw_at lw_m6 133 rfl) rfl
theorem q1421 : (Jvm.Cond.code ({ cls := "ParrotSpeech", name := "moult", desc := "(I)I" } : Jvm.MethodName) prog_1_method_27_code (4 : Nat) (Option.some Jvm.ClassFile.FieldType.int)) ∈ lw_all := lw_g (lw_at lw_m6 134 rfl) rfl
theorem q1423 : (Jvm.Cond.instanceMethod ({ cls := "ParrotSpeech", name := "perch", desc := "(II)I" } : Jvm.MethodName)) ∈ lw_all := lw_g (lw_at lw_m6 136 rfl) rfl
theorem q1424 : (Jvm.Cond.selects "ParrotSpeech" ({ cls := "ParrotSpeech", name := "perch", desc := "(II)I" } : Jvm.MethodName) ({ cls := "ParrotSpeech", name := "perch", desc := "(II)I" } : Jvm.MethodName)) ∈ lw_all := lw_g (lw_at lw_m6 137 rfl) rfl
theorem q1425 : (Jvm.Cond.code ({ cls := "ParrotSpeech", name := "perch", desc := "(II)I" } : Jvm.MethodName) prog_1_method_28_code (4 : Nat) (Option.some Jvm.ClassFile.FieldType.int)) ∈ lw_all := lw_g (lw_at lw_m6 138 rfl) rfl
theorem q1426 : (Jvm.Cond.methodLink "ParrotSpeech" (248 : Nat) ({ cls := "ParrotSpeech", name := "isPerch", desc := "(I)Z" } : Jvm.MethodName)) ∈ lw_all := lw_g (lw_at lw_m6 139 rfl) rfl
theorem q1427 : (Jvm.Cond.static ({ cls := "ParrotSpeech", name := "isPerch", desc := "(I)Z" } : Jvm.MethodName)) ∈ lw_all := lw_g (lw_at lw_m6 140 rfl) rfl
theorem q1428 : (Jvm.Cond.code ({ cls := "ParrotSpeech", name := "isPerch", desc := "(I)Z" } : Jvm.MethodName) prog_1_method_14_code (1 : Nat) (Option.some Jvm.ClassFile.FieldType.boolean)) ∈ lw_all := lw_g (lw_at lw_m6 141 rfl) rfl
theorem q1429 : (Jvm.Cond.constantLong "ParrotSpeech" (152 : Nat) (3 : Int64)) ∈ lw_all := lw_g (lw_at lw_m6 142 rfl) rfl
theorem q1431 : (Jvm.Cond.instanceMethod ({ cls := "ParrotSpeech", name := "cover", desc := "(I)I" } : Jvm.MethodName)) ∈ lw_all := lw_g (lw_at lw_m6 144 rfl) rfl
theorem q1432 : (Jvm.Cond.selects "ParrotSpeech" ({ cls := "ParrotSpeech", name := "cover", desc := "(I)I" } : Jvm.MethodName) ({ cls := "ParrotSpeech", name := "cover", desc := "(I)I" } : Jvm.MethodName)) ∈ lw_all := lw_g (lw_at lw_m6 145 rfl) rfl
theorem q1433 : (Jvm.Cond.code ({ cls := "ParrotSpeech", name := "cover", desc := "(I)I" } : Jvm.MethodName) prog_1_method_29_code (2 : Nat) (Option.some Jvm.ClassFile.FieldType.int)) ∈ lw_all := lw_g (lw_at lw_m6 146 rfl) rfl
theorem q1435 : (Jvm.Cond.instanceMethod ({ cls := "ParrotSpeech", name := "sit", desc := "(II)I" } : Jvm.MethodName)) ∈ lw_all := lw_g (lw_at lw_m6 148 rfl) rfl
theorem q1436 : (Jvm.Cond.selects "ParrotSpeech" ({ cls := "ParrotSpeech", name := "sit", desc := "(II)I" } : Jvm.MethodName) ({ cls := "ParrotSpeech", name := "sit", desc := "(II)I" } : Jvm.MethodName)) ∈ lw_all := lw_g (lw_at lw_m6 149 rfl) rfl
theorem q1437 : (Jvm.Cond.code ({ cls := "ParrotSpeech", name := "sit", desc := "(II)I" } : Jvm.MethodName) prog_1_method_30_code (4 : Nat) (Option.some Jvm.ClassFile.FieldType.int)) ∈ lw_all := lw_g (lw_at lw_m6 150 rfl) rfl
theorem q1438 : (Jvm.Cond.methodLink "ParrotSpeech" (251 : Nat) ({ cls := "ParrotSpeech$State", name := "sit", desc := "(II)V" } : Jvm.MethodName)) ∈ lw_all := lw_g (lw_at lw_m6 151 rfl) rfl
theorem q1444 : (Jvm.Cond.instanceMethod ({ cls := "ParrotSpeech", name := "undo", desc := "()I" } : Jvm.MethodName)) ∈ lw_all := lw_g (lw_at lw_m6 157 rfl) rfl
theorem q1445 : (Jvm.Cond.selects "ParrotSpeech" ({ cls := "ParrotSpeech", name := "undo", desc := "()I" } : Jvm.MethodName) ({ cls := "ParrotSpeech", name := "undo", desc := "()I" } : Jvm.MethodName)) ∈ lw_all := lw_g (lw_at lw_m6 158 rfl) rfl
theorem q1446 : (Jvm.Cond.code ({ cls := "ParrotSpeech", name := "undo", desc := "()I" } : Jvm.MethodName) prog_1_method_31_code (1 : Nat) (Option.some Jvm.ClassFile.FieldType.int)) ∈ lw_all := lw_g (lw_at lw_m6 159 rfl) rfl
theorem q1448 : (Jvm.Cond.instanceMethod ({ cls := "ParrotSpeech", name := "keep", desc := "(I)I" } : Jvm.MethodName)) ∈ lw_all := lw_g (lw_at lw_m6 161 rfl) rfl
theorem q1449 : (Jvm.Cond.selects "ParrotSpeech" ({ cls := "ParrotSpeech", name := "keep", desc := "(I)I" } : Jvm.MethodName) ({ cls := "ParrotSpeech", name := "keep", desc := "(I)I" } : Jvm.MethodName)) ∈ lw_all := lw_g (lw_at lw_m6 162 rfl) rfl
theorem q1450 : (Jvm.Cond.code ({ cls := "ParrotSpeech", name := "keep", desc := "(I)I" } : Jvm.MethodName) prog_1_method_32_code (2 : Nat) (Option.some Jvm.ClassFile.FieldType.int)) ∈ lw_all := lw_g (lw_at lw_m6 163 rfl) rfl
theorem q1452 : (Jvm.Cond.instanceMethod ({ cls := "ParrotSpeech", name := "back", desc := "(I)I" } : Jvm.MethodName)) ∈ lw_all := lw_g (lw_at lw_m6 165 rfl) rfl
theorem q1453 : (Jvm.Cond.selects "ParrotSpeech" ({ cls := "ParrotSpeech", name := "back", desc := "(I)I" } : Jvm.MethodName) ({ cls := "ParrotSpeech", name := "back", desc := "(I)I" } : Jvm.MethodName)) ∈ lw_all := lw_g (lw_at lw_m6 166 rfl) rfl
theorem q1454 : (Jvm.Cond.codeWith ({ cls := "ParrotSpeech", name := "back", desc := "(I)I" } : Jvm.MethodName) prog_1_method_33_code (3 : Nat) (Option.some Jvm.ClassFile.FieldType.int) [((13 : Nat), (27 : Nat), (30 : Nat), (255 : Nat))]) ∈ lw_all := lw_g (lw_at lw_m6 167 rfl) rfl
theorem q1455 : (Jvm.Cond.classLink "ParrotSpeech" (255 : Nat) "java/lang/NullPointerException") ∈ lw_all := lw_g (lw_at lw_m6 168 rfl) rfl
theorem q1458 : (Jvm.Cond.instanceMethod ({ cls := "ParrotSpeech", name := "said", desc := "(II)I" } : Jvm.MethodName)) ∈ lw_all := lw_g (lw_at lw_m6 171 rfl) rfl
theorem q1459 : (Jvm.Cond.selects "ParrotSpeech" ({ cls := "ParrotSpeech", name := "said", desc := "(II)I" } : Jvm.MethodName) ({ cls := "ParrotSpeech", name := "said", desc := "(II)I" } : Jvm.MethodName)) ∈ lw_all := lw_g (lw_at lw_m6 172 rfl) rfl
theorem q1460 : (Jvm.Cond.code ({ cls := "ParrotSpeech", name := "said", desc := "(II)I" } : Jvm.MethodName) prog_1_method_35_code (3 : Nat) (Option.some Jvm.ClassFile.FieldType.int)) ∈ lw_all := lw_g (lw_at lw_m6 173 rfl) rfl
theorem q1461 : (Jvm.Cond.constantLong "ParrotSpeech" (261 : Nat) (15 : Int64)) ∈ lw_all := lw_g (lw_at lw_m6 174 rfl) rfl
theorem q1462 : (Jvm.Cond.methodLink "ParrotSpeech" (263 : Nat) ({ cls := "ParrotSpeech", name := "listen", desc := "(I)V" } : Jvm.MethodName)) ∈ lw_all := lw_g (lw_at lw_m6 175 rfl) rfl
theorem q1463 : (Jvm.Cond.privateMethod ({ cls := "ParrotSpeech", name := "listen", desc := "(I)V" } : Jvm.MethodName)) ∈ lw_tbl := lw_at lw_m6 176 rfl
theorem q1464 : (Jvm.Cond.instanceMethod ({ cls := "ParrotSpeech", name := "listen", desc := "(I)V" } : Jvm.MethodName)) ∈ lw_all := lw_g (lw_at lw_m6 177 rfl) rfl
theorem q1465 : (Jvm.Cond.codeWith ({ cls := "ParrotSpeech", name := "listen", desc := "(I)V" } : Jvm.MethodName) prog_1_method_34_code (3 : Nat) (Option.none : Option Jvm.ClassFile.FieldType) [((5 : Nat), (20 : Nat), (28 : Nat), (0 : Nat))]) ∈ lw_all := lw_g (lw_at lw_m6 178 rfl) rfl
theorem q1466 : (Jvm.Cond.methodLink "ParrotSpeech" (257 : Nat) ({ cls := "ParrotSpeech$State", name := "pass", desc := "()LParrotSpeech$State;" } : Jvm.MethodName)) ∈ lw_all := lw_g (lw_at lw_m6 179 rfl) rfl
theorem q1468 : (Jvm.Cond.instanceMethod ({ cls := "ParrotSpeech", name := "when", desc := "(III)I" } : Jvm.MethodName)) ∈ lw_all := lw_g (lw_at lw_m6 181 rfl) rfl
theorem q1469 : (Jvm.Cond.selects "ParrotSpeech" ({ cls := "ParrotSpeech", name := "when", desc := "(III)I" } : Jvm.MethodName) ({ cls := "ParrotSpeech", name := "when", desc := "(III)I" } : Jvm.MethodName)) ∈ lw_all := lw_g (lw_at lw_m6 182 rfl) rfl
theorem q1470 : (Jvm.Cond.code ({ cls := "ParrotSpeech", name := "when", desc := "(III)I" } : Jvm.MethodName) prog_1_method_36_code (5 : Nat) (Option.some Jvm.ClassFile.FieldType.int)) ∈ lw_all := lw_g (lw_at lw_m6 183 rfl) rfl
theorem q1472 : (Jvm.Cond.instanceMethod ({ cls := "ParrotSpeech", name := "keeps", desc := "(III)I" } : Jvm.MethodName)) ∈ lw_all := lw_g (lw_at lw_m6 185 rfl) rfl
theorem q1473 : (Jvm.Cond.selects "ParrotSpeech" ({ cls := "ParrotSpeech", name := "keeps", desc := "(III)I" } : Jvm.MethodName) ({ cls := "ParrotSpeech", name := "keeps", desc := "(III)I" } : Jvm.MethodName)) ∈ lw_all := lw_g (lw_at lw_m6 186 rfl) rfl
theorem q1474 : (Jvm.Cond.code ({ cls := "ParrotSpeech", name := "keeps", desc := "(III)I" } : Jvm.MethodName) prog_1_method_38_code (4 : Nat) (Option.some Jvm.ClassFile.FieldType.int)) ∈ lw_all := lw_g (lw_at lw_m6 187 rfl) rfl
theorem q1475 : (Jvm.Cond.constantLong "ParrotSpeech" (274 : Nat) (20 : Int64)) ∈ lw_all := lw_g (lw_at lw_m6 188 rfl) rfl
theorem q1476 : (Jvm.Cond.methodLink "ParrotSpeech" (276 : Nat) ({ cls := "ParrotSpeech", name := "keepsOf", desc := "(III)I" } : Jvm.MethodName)) ∈ lw_all := lw_g (lw_at lw_m6 189 rfl) rfl
theorem q1477 : (Jvm.Cond.privateMethod ({ cls := "ParrotSpeech", name := "keepsOf", desc := "(III)I" } : Jvm.MethodName)) ∈ lw_tbl := lw_at lw_m6 190 rfl
theorem q1478 : (Jvm.Cond.instanceMethod ({ cls := "ParrotSpeech", name := "keepsOf", desc := "(III)I" } : Jvm.MethodName)) ∈ lw_all := lw_g (lw_at lw_m6 191 rfl) rfl
theorem q1479 : (Jvm.Cond.code ({ cls := "ParrotSpeech", name := "keepsOf", desc := "(III)I" } : Jvm.MethodName) prog_1_method_37_code (5 : Nat) (Option.some Jvm.ClassFile.FieldType.int)) ∈ lw_all := lw_g (lw_at lw_m6 192 rfl) rfl
theorem q1480 : (Jvm.Cond.methodLink "ParrotSpeech" (269 : Nat) ({ cls := "java/lang/Integer", name := "bitCount", desc := "(I)I" } : Jvm.MethodName)) ∈ lw_all := lw_g (lw_at lw_m6 193 rfl) rfl
theorem q1482 : (Jvm.Cond.instanceMethod ({ cls := "ParrotSpeech", name := "match", desc := "(II)I" } : Jvm.MethodName)) ∈ lw_all := lw_g (lw_at lw_m6 195 rfl) rfl
theorem q1483 : (Jvm.Cond.selects "ParrotSpeech" ({ cls := "ParrotSpeech", name := "match", desc := "(II)I" } : Jvm.MethodName) ({ cls := "ParrotSpeech", name := "match", desc := "(II)I" } : Jvm.MethodName)) ∈ lw_all := lw_g (lw_at lw_m6 196 rfl) rfl
theorem q1484 : (Jvm.Cond.code ({ cls := "ParrotSpeech", name := "match", desc := "(II)I" } : Jvm.MethodName) prog_1_method_40_code (5 : Nat) (Option.some Jvm.ClassFile.FieldType.int)) ∈ lw_all := lw_g (lw_at lw_m6 197 rfl) rfl
theorem q1485 : (Jvm.Cond.methodLink "ParrotSpeech" (286 : Nat) ({ cls := "ParrotSpeech", name := "matchOn", desc := "(III)V" } : Jvm.MethodName)) ∈ lw_all := lw_g (lw_at lw_m6 198 rfl) rfl
theorem q1486 : (Jvm.Cond.privateMethod ({ cls := "ParrotSpeech", name := "matchOn", desc := "(III)V" } : Jvm.MethodName)) ∈ lw_tbl := lw_at lw_m6 199 rfl
theorem q1487 : (Jvm.Cond.instanceMethod ({ cls := "ParrotSpeech", name := "matchOn", desc := "(III)V" } : Jvm.MethodName)) ∈ lw_all := lw_g (lw_at lw_m6 200 rfl) rfl
theorem q1488 : (Jvm.Cond.code ({ cls := "ParrotSpeech", name := "matchOn", desc := "(III)V" } : Jvm.MethodName) prog_1_method_39_code (5 : Nat) (Option.none : Option Jvm.ClassFile.FieldType)) ∈ lw_all := lw_g (lw_at lw_m6 201 rfl) rfl
theorem q1489 : (Jvm.Cond.methodLink "ParrotSpeech" (283 : Nat) ({ cls := "ParrotSpeech", name := "has", desc := "(II)Z" } : Jvm.MethodName)) ∈ lw_all := lw_g (lw_at lw_m6 202 rfl) rfl
theorem q1491 : (Jvm.Cond.instanceMethod ({ cls := "ParrotSpeech", name := "clean", desc := "(III)I" } : Jvm.MethodName)) ∈ lw_all := lw_g (lw_at lw_m6 204 rfl) rfl
theorem q1492 : (Jvm.Cond.selects "ParrotSpeech" ({ cls := "ParrotSpeech", name := "clean", desc := "(III)I" } : Jvm.MethodName) ({ cls := "ParrotSpeech", name := "clean", desc := "(III)I" } : Jvm.MethodName)) ∈ lw_all := lw_g (lw_at lw_m6 205 rfl) rfl
theorem q1493 : (Jvm.Cond.code ({ cls := "ParrotSpeech", name := "clean", desc := "(III)I" } : Jvm.MethodName) prog_1_method_41_code (7 : Nat) (Option.some Jvm.ClassFile.FieldType.int)) ∈ lw_all := lw_g (lw_at lw_m6 206 rfl) rfl
theorem q1495 : (Jvm.Cond.instanceMethod ({ cls := "ParrotSpeech", name := "of", desc := "(II)I" } : Jvm.MethodName)) ∈ lw_all := lw_g (lw_at lw_m6 208 rfl) rfl
theorem q1496 : (Jvm.Cond.selects "ParrotSpeech" ({ cls := "ParrotSpeech", name := "of", desc := "(II)I" } : Jvm.MethodName) ({ cls := "ParrotSpeech", name := "of", desc := "(II)I" } : Jvm.MethodName)) ∈ lw_all := lw_g (lw_at lw_m6 209 rfl) rfl
theorem q1497 : (Jvm.Cond.code ({ cls := "ParrotSpeech", name := "of", desc := "(II)I" } : Jvm.MethodName) prog_1_method_42_code (4 : Nat) (Option.some Jvm.ClassFile.FieldType.int)) ∈ lw_all := lw_g (lw_at lw_m6 210 rfl) rfl
theorem q1498 : (Jvm.Cond.methodLink "ParrotSpeech" (289 : Nat) ({ cls := "ParrotSpeech$Part", name := "ends", desc := "(I)I" } : Jvm.MethodName)) ∈ lw_all := lw_g (lw_at lw_m6 211 rfl) rfl
theorem q1605 : (Jvm.Cond.methodLink "ParrotSpeech" (294 : Nat) ({ cls := "java/lang/Integer", name := "numberOfLeadingZeros", desc := "(I)I" } : Jvm.MethodName)) ∈ lw_all := lw_g (lw_at lw_m7 78 rfl) rfl
theorem q1609 : (Jvm.Cond.instanceMethod ({ cls := "ParrotSpeech", name := "left", desc := "(III)I" } : Jvm.MethodName)) ∈ lw_all := lw_g (lw_at lw_m7 82 rfl) rfl
theorem q1610 : (Jvm.Cond.selects "ParrotSpeech" ({ cls := "ParrotSpeech", name := "left", desc := "(III)I" } : Jvm.MethodName) ({ cls := "ParrotSpeech", name := "left", desc := "(III)I" } : Jvm.MethodName)) ∈ lw_all := lw_g (lw_at lw_m7 83 rfl) rfl
theorem q1611 : (Jvm.Cond.code ({ cls := "ParrotSpeech", name := "left", desc := "(III)I" } : Jvm.MethodName) prog_1_method_43_code (7 : Nat) (Option.some Jvm.ClassFile.FieldType.int)) ∈ lw_all := lw_g (lw_at lw_m7 84 rfl) rfl
theorem q1612 : (Jvm.Cond.constantLong "ParrotSpeech" (297 : Nat) (10 : Int64)) ∈ lw_all := lw_g (lw_at lw_m7 85 rfl) rfl
theorem q1613 : (Jvm.Cond.methodLink "ParrotSpeech" (106 : Nat) ({ cls := "ParrotSpeech", name := "gcd", desc := "(II)I" } : Jvm.MethodName)) ∈ lw_all := lw_g (lw_at lw_m7 86 rfl) rfl
theorem q1614 : (Jvm.Cond.static ({ cls := "ParrotSpeech", name := "gcd", desc := "(II)I" } : Jvm.MethodName)) ∈ lw_all := lw_g (lw_at lw_m7 87 rfl) rfl
theorem q1615 : (Jvm.Cond.code ({ cls := "ParrotSpeech", name := "gcd", desc := "(II)I" } : Jvm.MethodName) prog_1_method_10_code (2 : Nat) (Option.some Jvm.ClassFile.FieldType.int)) ∈ lw_all := lw_g (lw_at lw_m7 88 rfl) rfl
theorem q1617 : (Jvm.Cond.instanceMethod ({ cls := "ParrotSpeech", name := "seen", desc := "(III)I" } : Jvm.MethodName)) ∈ lw_all := lw_g (lw_at lw_m7 90 rfl) rfl
theorem q1618 : (Jvm.Cond.selects "ParrotSpeech" ({ cls := "ParrotSpeech", name := "seen", desc := "(III)I" } : Jvm.MethodName) ({ cls := "ParrotSpeech", name := "seen", desc := "(III)I" } : Jvm.MethodName)) ∈ lw_all := lw_g (lw_at lw_m7 91 rfl) rfl
theorem q1619 : (Jvm.Cond.code ({ cls := "ParrotSpeech", name := "seen", desc := "(III)I" } : Jvm.MethodName) prog_1_method_44_code (4 : Nat) (Option.some Jvm.ClassFile.FieldType.int)) ∈ lw_all := lw_g (lw_at lw_m7 92 rfl) rfl
theorem q1621 : (Jvm.Cond.instanceMethod ({ cls := "ParrotSpeech", name := "forget", desc := "()I" } : Jvm.MethodName)) ∈ lw_all := lw_g (lw_at lw_m7 94 rfl) rfl
theorem q1622 : (Jvm.Cond.selects "ParrotSpeech" ({ cls := "ParrotSpeech", name := "forget", desc := "()I" } : Jvm.MethodName) ({ cls := "ParrotSpeech", name := "forget", desc := "()I" } : Jvm.MethodName)) ∈ lw_all := lw_g (lw_at lw_m7 95 rfl) rfl
theorem q1623 : (Jvm.Cond.code ({ cls := "ParrotSpeech", name := "forget", desc := "()I" } : Jvm.MethodName) prog_1_method_45_code (2 : Nat) (Option.some Jvm.ClassFile.FieldType.int)) ∈ lw_all := lw_g (lw_at lw_m7 96 rfl) rfl
theorem q1625 : (Jvm.Cond.instanceMethod ({ cls := "ParrotSpeech", name := "kinds", desc := "(I)I" } : Jvm.MethodName)) ∈ lw_all := lw_g (lw_at lw_m7 98 rfl) rfl
theorem q1626 : (Jvm.Cond.selects "ParrotSpeech" ({ cls := "ParrotSpeech", name := "kinds", desc := "(I)I" } : Jvm.MethodName) ({ cls := "ParrotSpeech", name := "kinds", desc := "(I)I" } : Jvm.MethodName)) ∈ lw_all := lw_g (lw_at lw_m7 99 rfl) rfl
theorem q1627 : (Jvm.Cond.codeWith ({ cls := "ParrotSpeech", name := "kinds", desc := "(I)I" } : Jvm.MethodName) prog_1_method_47_code (6 : Nat) (Option.some Jvm.ClassFile.FieldType.int) [((20 : Nat), (68 : Nat), (78 : Nat), (0 : Nat)), ((78 : Nat), (80 : Nat), (78 : Nat), (0 : Nat))]) ∈ lw_all := lw_g (lw_at lw_m7 100 rfl) rfl
theorem q1628 : (Jvm.Cond.methodLink "ParrotSpeech" (299 : Nat) ({ cls := "ParrotSpeech", name := "isSo", desc := "()Z" } : Jvm.MethodName)) ∈ lw_all := lw_g (lw_at lw_m7 101 rfl) rfl
theorem q1629 : (Jvm.Cond.privateMethod ({ cls := "ParrotSpeech", name := "isSo", desc := "()Z" } : Jvm.MethodName)) ∈ lw_tbl := lw_at lw_m7 102 rfl
theorem q1630 : (Jvm.Cond.instanceMethod ({ cls := "ParrotSpeech", name := "isSo", desc := "()Z" } : Jvm.MethodName)) ∈ lw_all := lw_g (lw_at lw_m7 103 rfl) rfl
theorem q1631 : (Jvm.Cond.code ({ cls := "ParrotSpeech", name := "isSo", desc := "()Z" } : Jvm.MethodName) prog_1_method_46_code (3 : Nat) (Option.some Jvm.ClassFile.FieldType.boolean)) ∈ lw_all := lw_g (lw_at lw_m7 104 rfl) rfl
theorem q1633 : (Jvm.Cond.instanceMethod ({ cls := "ParrotSpeech", name := "reel", desc := "(III)I" } : Jvm.MethodName)) ∈ lw_all := lw_g (lw_at lw_m7 106 rfl) rfl
theorem q1634 : (Jvm.Cond.selects "ParrotSpeech" ({ cls := "ParrotSpeech", name := "reel", desc := "(III)I" } : Jvm.MethodName) ({ cls := "ParrotSpeech", name := "reel", desc := "(III)I" } : Jvm.MethodName)) ∈ lw_all := lw_g (lw_at lw_m7 107 rfl) rfl
theorem q1635 : (Jvm.Cond.codeWith ({ cls := "ParrotSpeech", name := "reel", desc := "(III)I" } : Jvm.MethodName) prog_1_method_51_code (5 : Nat) (Option.some Jvm.ClassFile.FieldType.int) [((31 : Nat), (43 : Nat), (44 : Nat), (316 : Nat))]) ∈ lw_all := lw_g (lw_at lw_m7 108 rfl) rfl
theorem q1636 : (Jvm.Cond.classLink "ParrotSpeech" (316 : Nat) "java/lang/NegativeArraySizeException") ∈ lw_all := lw_g (lw_at lw_m7 109 rfl) rfl
theorem q1640 : (Jvm.Cond.methodLink "ParrotSpeech" (309 : Nat) ({ cls := "ParrotSpeech", name := "isReel", desc := "(I)Z" } : Jvm.MethodName)) ∈ lw_all := lw_g (lw_at lw_m7 113 rfl) rfl
theorem q1641 : (Jvm.Cond.static ({ cls := "ParrotSpeech", name := "isReel", desc := "(I)Z" } : Jvm.MethodName)) ∈ lw_all := lw_g (lw_at lw_m7 114 rfl) rfl
theorem q1642 : (Jvm.Cond.code ({ cls := "ParrotSpeech", name := "isReel", desc := "(I)Z" } : Jvm.MethodName) prog_1_method_48_code (1 : Nat) (Option.some Jvm.ClassFile.FieldType.boolean)) ∈ lw_all := lw_g (lw_at lw_m7 115 rfl) rfl
theorem q1643 : (Jvm.Cond.constantLong "ParrotSpeech" (303 : Nat) (2 : Int64)) ∈ lw_all := lw_g (lw_at lw_m7 116 rfl) rfl
theorem q1644 : (Jvm.Cond.methodLink "ParrotSpeech" (312 : Nat) ({ cls := "ParrotSpeech", name := "made", desc := "(II)Ljava/lang/Object;" } : Jvm.MethodName)) ∈ lw_all := lw_g (lw_at lw_m7 117 rfl) rfl
theorem q1645 : (Jvm.Cond.static ({ cls := "ParrotSpeech", name := "made", desc := "(II)Ljava/lang/Object;" } : Jvm.MethodName)) ∈ lw_all := lw_g (lw_at lw_m7 118 rfl) rfl
theorem q1646 : (Jvm.Cond.code ({ cls := "ParrotSpeech", name := "made", desc := "(II)Ljava/lang/Object;" } : Jvm.MethodName) prog_1_method_50_code (2 : Nat) (Option.some (Jvm.ClassFile.FieldType.object "java/lang/Object"))) ∈ lw_all := lw_g (lw_at lw_m7 119 rfl) rfl
theorem q1648 : (Jvm.Cond.methodLink "ParrotSpeech" (318 : Nat) ({ cls := "ParrotSpeech", name := "found", desc := "(Ljava/lang/RuntimeException;)I" } : Jvm.MethodName)) ∈ lw_all := lw_g (lw_at lw_m7 121 rfl) rfl
theorem q1649 : (Jvm.Cond.static ({ cls := "ParrotSpeech", name := "found", desc := "(Ljava/lang/RuntimeException;)I" } : Jvm.MethodName)) ∈ lw_all := lw_g (lw_at lw_m7 122 rfl) rfl
theorem q1650 : (Jvm.Cond.code ({ cls := "ParrotSpeech", name := "found", desc := "(Ljava/lang/RuntimeException;)I" } : Jvm.MethodName) prog_1_method_49_code (1 : Nat) (Option.some Jvm.ClassFile.FieldType.int)) ∈ lw_all := lw_g (lw_at lw_m7 123 rfl) rfl
theorem q1651 : (Jvm.Cond.classLink "ParrotSpeech" (305 : Nat) "java/lang/ArrayStoreException") ∈ lw_all := lw_g (lw_at lw_m7 124 rfl) rfl
theorem q1652 : (Jvm.Cond.classLink "ParrotSpeech" (307 : Nat) "java/lang/IndexOutOfBoundsException") ∈ lw_all := lw_g (lw_at lw_m7 125 rfl) rfl
theorem q1655 : (Jvm.Cond.instanceMethod ({ cls := "ParrotSpeech", name := "record", desc := "(IIII)I" } : Jvm.MethodName)) ∈ lw_all := lw_g (lw_at lw_m7 128 rfl) rfl
theorem q1656 : (Jvm.Cond.selects "ParrotSpeech" ({ cls := "ParrotSpeech", name := "record", desc := "(IIII)I" } : Jvm.MethodName) ({ cls := "ParrotSpeech", name := "record", desc := "(IIII)I" } : Jvm.MethodName)) ∈ lw_all := lw_g (lw_at lw_m7 129 rfl) rfl
theorem q1657 : (Jvm.Cond.codeWith ({ cls := "ParrotSpeech", name := "record", desc := "(IIII)I" } : Jvm.MethodName) prog_1_method_53_code (6 : Nat) (Option.some Jvm.ClassFile.FieldType.int) [((45 : Nat), (59 : Nat), (60 : Nat), (255 : Nat)), ((45 : Nat), (59 : Nat), (60 : Nat), (234 : Nat)), ((45 : Nat), (59 : Nat), (60 : Nat), (307 : Nat))]) ∈ lw_all := lw_g (lw_at lw_m7 130 rfl) rfl
theorem q1673 : (Jvm.Cond.methodLink "ParrotSpeech" (328 : Nat) ({ cls := "ParrotSpeech", name := "recordIn", desc := "(Ljava/lang/Object;III)I" } : Jvm.MethodName)) ∈ lw_all := lw_g (lw_at lw_m7 146 rfl) rfl
theorem q1674 : (Jvm.Cond.privateMethod ({ cls := "ParrotSpeech", name := "recordIn", desc := "(Ljava/lang/Object;III)I" } : Jvm.MethodName)) ∈ lw_tbl := lw_at lw_m7 147 rfl
theorem q1675 : (Jvm.Cond.instanceMethod ({ cls := "ParrotSpeech", name := "recordIn", desc := "(Ljava/lang/Object;III)I" } : Jvm.MethodName)) ∈ lw_all := lw_g (lw_at lw_m7 148 rfl) rfl
theorem q1676 : (Jvm.Cond.code ({ cls := "ParrotSpeech", name := "recordIn", desc := "(Ljava/lang/Object;III)I" } : Jvm.MethodName) prog_1_method_52_code (5 : Nat) (Option.some Jvm.ClassFile.FieldType.int)) ∈ lw_all := lw_g (lw_at lw_m7 149 rfl) rfl
theorem q1677 : (Jvm.Cond.constant "ParrotSpeech" (322 : Nat) (100000 : Int32)) ∈ lw_all := lw_g (lw_at lw_m7 150 rfl) rfl
theorem q1678 : (Jvm.Cond.classLink "ParrotSpeech" (323 : Nat) "[B") ∈ lw_all := lw_g (lw_at lw_m7 151 rfl) rfl
theorem q1679 : (Jvm.Cond.classLink "ParrotSpeech" (324 : Nat) "[S") ∈ lw_all := lw_g (lw_at lw_m7 152 rfl) rfl
theorem q1680 : (Jvm.Cond.classLink "ParrotSpeech" (326 : Nat) "[LParrotSpeech$Bird;") ∈ lw_all := lw_g (lw_at lw_m7 153 rfl) rfl
theorem q1682 : (Jvm.Cond.instanceMethod ({ cls := "ParrotSpeech", name := "play", desc := "(III)I" } : Jvm.MethodName)) ∈ lw_all := lw_g (lw_at lw_m7 155 rfl) rfl
theorem q1683 : (Jvm.Cond.selects "ParrotSpeech" ({ cls := "ParrotSpeech", name := "play", desc := "(III)I" } : Jvm.MethodName) ({ cls := "ParrotSpeech", name := "play", desc := "(III)I" } : Jvm.MethodName)) ∈ lw_all := lw_g (lw_at lw_m7 156 rfl) rfl
theorem q1684 : (Jvm.Cond.codeWith ({ cls := "ParrotSpeech", name := "play", desc := "(III)I" } : Jvm.MethodName) prog_1_method_55_code (5 : Nat) (Option.some Jvm.ClassFile.FieldType.int) [((25 : Nat), (36 : Nat), (37 : Nat), (255 : Nat)), ((25 : Nat), (36 : Nat), (37 : Nat), (234 : Nat)), ((25 : Nat), (36 : Nat), (37 : Nat), (307 : Nat))]) ∈ lw_all := lw_g (lw_at lw_m7 157 rfl) rfl
theorem q1685 : (Jvm.Cond.methodLink "ParrotSpeech" (337 : Nat) ({ cls := "ParrotSpeech", name := "playIn", desc := "(Ljava/lang/Object;II)I" } : Jvm.MethodName)) ∈ lw_all := lw_g (lw_at lw_m7 158 rfl) rfl
theorem q1686 : (Jvm.Cond.static ({ cls := "ParrotSpeech", name := "playIn", desc := "(Ljava/lang/Object;II)I" } : Jvm.MethodName)) ∈ lw_all := lw_g (lw_at lw_m7 159 rfl) rfl
theorem q1687 : (Jvm.Cond.code ({ cls := "ParrotSpeech", name := "playIn", desc := "(Ljava/lang/Object;II)I" } : Jvm.MethodName) prog_1_method_54_code (4 : Nat) (Option.some Jvm.ClassFile.FieldType.int)) ∈ lw_all := lw_g (lw_at lw_m7 160 rfl) rfl
theorem q1688 : (Jvm.Cond.constant "ParrotSpeech" (332 : Nat) (1000003 : Int32)) ∈ lw_all := lw_g (lw_at lw_m7 161 rfl) rfl
theorem q1689 : (Jvm.Cond.constant "ParrotSpeech" (333 : Nat) (2000000 : Int32)) ∈ lw_all := lw_g (lw_at lw_m7 162 rfl) rfl
theorem q1691 : (Jvm.Cond.instanceMethod ({ cls := "ParrotSpeech", name := "splice", desc := "(IIIII)I" } : Jvm.MethodName)) ∈ lw_all := lw_g (lw_at lw_m7 164 rfl) rfl
theorem q1692 : (Jvm.Cond.selects "ParrotSpeech" ({ cls := "ParrotSpeech", name := "splice", desc := "(IIIII)I" } : Jvm.MethodName) ({ cls := "ParrotSpeech", name := "splice", desc := "(IIIII)I" } : Jvm.MethodName)) ∈ lw_all := lw_g (lw_at lw_m7 165 rfl) rfl
theorem q1693 : (Jvm.Cond.codeWith ({ cls := "ParrotSpeech", name := "splice", desc := "(IIIII)I" } : Jvm.MethodName) prog_1_method_56_code (7 : Nat) (Option.some Jvm.ClassFile.FieldType.int) [((17 : Nat), (39 : Nat), (40 : Nat), (255 : Nat)), ((17 : Nat), (39 : Nat), (40 : Nat), (305 : Nat)), ((17 : Nat), (39 : Nat), (40 : Nat), (307 : Nat))]) ∈ lw_all := lw_g (lw_at lw_m7 166 rfl) rfl
theorem q1708 : (Jvm.Cond.instanceMethod ({ cls := "ParrotSpeech", name := "drop", desc := "(I)I" } : Jvm.MethodName)) ∈ lw_all := lw_g (lw_at lw_m7 181 rfl) rfl
theorem q1709 : (Jvm.Cond.selects "ParrotSpeech" ({ cls := "ParrotSpeech", name := "drop", desc := "(I)I" } : Jvm.MethodName) ({ cls := "ParrotSpeech", name := "drop", desc := "(I)I" } : Jvm.MethodName)) ∈ lw_all := lw_g (lw_at lw_m7 182 rfl) rfl
theorem q1710 : (Jvm.Cond.codeWith ({ cls := "ParrotSpeech", name := "drop", desc := "(I)I" } : Jvm.MethodName) prog_1_method_58_code (5 : Nat) (Option.some Jvm.ClassFile.FieldType.int) [((10 : Nat), (20 : Nat), (29 : Nat), (255 : Nat)), ((10 : Nat), (20 : Nat), (44 : Nat), (0 : Nat)), ((29 : Nat), (35 : Nat), (44 : Nat), (0 : Nat)), ((44 : Nat), (46 : Nat), (44 : Nat), (0 : Nat))]) ∈ lw_all := lw_g (lw_at lw_m7 183 rfl) rfl
theorem q1711 : (Jvm.Cond.methodLink "ParrotSpeech" (341 : Nat) ({ cls := "ParrotSpeech", name := "sizeOf", desc := "(Ljava/lang/Object;)I" } : Jvm.MethodName)) ∈ lw_all := lw_g (lw_at lw_m7 184 rfl) rfl
theorem q1712 : (Jvm.Cond.static ({ cls := "ParrotSpeech", name := "sizeOf", desc := "(Ljava/lang/Object;)I" } : Jvm.MethodName)) ∈ lw_all := lw_g (lw_at lw_m7 185 rfl) rfl
theorem q1713 : (Jvm.Cond.code ({ cls := "ParrotSpeech", name := "sizeOf", desc := "(Ljava/lang/Object;)I" } : Jvm.MethodName) prog_1_method_57_code (2 : Nat) (Option.some Jvm.ClassFile.FieldType.int)) ∈ lw_all := lw_g (lw_at lw_m7 186 rfl) rfl
theorem q1715 : (Jvm.Cond.instanceMethod ({ cls := "ParrotSpeech", name := "count", desc := "(I)I" } : Jvm.MethodName)) ∈ lw_all := lw_g (lw_at lw_m7 188 rfl) rfl
theorem q1716 : (Jvm.Cond.selects "ParrotSpeech" ({ cls := "ParrotSpeech", name := "count", desc := "(I)I" } : Jvm.MethodName) ({ cls := "ParrotSpeech", name := "count", desc := "(I)I" } : Jvm.MethodName)) ∈ lw_all := lw_g (lw_at lw_m7 189 rfl) rfl
theorem q1717 : (Jvm.Cond.code ({ cls := "ParrotSpeech", name := "count", desc := "(I)I" } : Jvm.MethodName) prog_1_method_62_code (2 : Nat) (Option.some Jvm.ClassFile.FieldType.int)) ∈ lw_all := lw_g (lw_at lw_m7 190 rfl) rfl
theorem q1718 : (Jvm.Cond.methodLink "ParrotSpeech" (345 : Nat) ({ cls := "ParrotSpeech", name := "wordsOfMen", desc := "()I" } : Jvm.MethodName)) ∈ lw_all := lw_g (lw_at lw_m7 191 rfl) rfl
theorem q1719 : (Jvm.Cond.privateMethod ({ cls := "ParrotSpeech", name := "wordsOfMen", desc := "()I" } : Jvm.MethodName)) ∈ lw_tbl := lw_at lw_m7 192 rfl
theorem q1720 : (Jvm.Cond.instanceMethod ({ cls := "ParrotSpeech", name := "wordsOfMen", desc := "()I" } : Jvm.MethodName)) ∈ lw_all := lw_g (lw_at lw_m7 193 rfl) rfl
theorem q1721 : (Jvm.Cond.code ({ cls := "ParrotSpeech", name := "wordsOfMen", desc := "()I" } : Jvm.MethodName) prog_1_method_60_code (3 : Nat) (Option.some Jvm.ClassFile.FieldType.int)) ∈ lw_all := lw_g (lw_at lw_m7 194 rfl) rfl
theorem q1722 : (Jvm.Cond.methodLink "ParrotSpeech" (348 : Nat) ({ cls := "ParrotSpeech", name := "reelsThere", desc := "()I" } : Jvm.MethodName)) ∈ lw_all := lw_g (lw_at lw_m7 195 rfl) rfl
theorem q1723 : (Jvm.Cond.privateMethod ({ cls := "ParrotSpeech", name := "reelsThere", desc := "()I" } : Jvm.MethodName)) ∈ lw_tbl := lw_at lw_m7 196 rfl
theorem q1724 : (Jvm.Cond.instanceMethod ({ cls := "ParrotSpeech", name := "reelsThere", desc := "()I" } : Jvm.MethodName)) ∈ lw_all := lw_g (lw_at lw_m7 197 rfl) rfl
theorem q1725 : (Jvm.Cond.code ({ cls := "ParrotSpeech", name := "reelsThere", desc := "()I" } : Jvm.MethodName) prog_1_method_59_code (6 : Nat) (Option.some Jvm.ClassFile.FieldType.int)) ∈ lw_all := lw_g (lw_at lw_m7 198 rfl) rfl
theorem q1726 : (Jvm.Cond.methodLink "ParrotSpeech" (351 : Nat) ({ cls := "ParrotSpeech", name := "wellKnown", desc := "()I" } : Jvm.MethodName)) ∈ lw_all := lw_g (lw_at lw_m7 199 rfl) rfl
theorem q1727 : (Jvm.Cond.privateMethod ({ cls := "ParrotSpeech", name := "wellKnown", desc := "()I" } : Jvm.MethodName)) ∈ lw_tbl := lw_at lw_m7 200 rfl
theorem q1728 : (Jvm.Cond.instanceMethod ({ cls := "ParrotSpeech", name := "wellKnown", desc := "()I" } : Jvm.MethodName)) ∈ lw_all := lw_g (lw_at lw_m7 201 rfl) rfl
theorem q1729 : (Jvm.Cond.code ({ cls := "ParrotSpeech", name := "wellKnown", desc := "()I" } : Jvm.MethodName) prog_1_method_61_code (3 : Nat) (Option.some Jvm.ClassFile.FieldType.int)) ∈ lw_all := lw_g (lw_at lw_m7 202 rfl) rfl
theorem q2273 : (Jvm.Cond.castable "ParrotSpeech" "java/lang/Object") ∈ lw_tbl := lw_at lw_m10 26 rfl
theorem q2311 : (Jvm.Cond.stringRef "ParrotSpeech" (356 : Nat) "parrot") ∈ lw_tbl := lw_at lw_m10 64 rfl
theorem q2312 : (Jvm.Cond.stringRef "ParrotSpeech" (358 : Nat) "grey") ∈ lw_tbl := lw_at lw_m10 65 rfl
theorem q2313 : (Jvm.Cond.stringRef "ParrotSpeech" (360 : Nat) "cockatoo") ∈ lw_tbl := lw_at lw_m10 66 rfl
theorem q2314 : (Jvm.Cond.stringRef "ParrotSpeech" (362 : Nat) "hawk") ∈ lw_tbl := lw_at lw_m10 67 rfl
theorem q2315 : (Jvm.Cond.stringRef "ParrotSpeech" (364 : Nat) "green") ∈ lw_tbl := lw_at lw_m10 68 rfl
theorem q2316 : (Jvm.Cond.stringRef "ParrotSpeech" (366 : Nat) "harbour") ∈ lw_tbl := lw_at lw_m10 69 rfl
theorem q2317 : (Jvm.Cond.stringRef "ParrotSpeech" (368 : Nat) "man") ∈ lw_tbl := lw_at lw_m10 70 rfl
theorem q2318 : (Jvm.Cond.stringRef "ParrotSpeech" (370 : Nat) "knows") ∈ lw_tbl := lw_at lw_m10 71 rfl
theorem q2319 : (Jvm.Cond.stringRef "ParrotSpeech" (372 : Nat) "sits") ∈ lw_tbl := lw_at lw_m10 72 rfl
theorem q2320 : (Jvm.Cond.stringRef "ParrotSpeech" (374 : Nat) "cover") ∈ lw_tbl := lw_at lw_m10 73 rfl
theorem in_X0 : ∀ w ∈ wsX00, w ∈ lw_all := lw_in wsX00 [240, 242, 244, 246, 248, 250, 252, 254, 256, 258, 260, 262, 264, 266, 268, 270, 272, 274, 276, 278, 280, 282] (by decide +kernel) (by decide +kernel)
