/-! ParrotSpeech$State -/
set_option maxRecDepth 100000
def RX1 : String := "ParrotSpeech$State"
def TX1 : u_T := fun k => match k with
  | 0 => ("ParrotSpeech$State", "known", "[[B", true)
  | 1 => ("ParrotSpeech$State", "perch", "[I", true)
  | 2 => ("ParrotSpeech$State", "has", "[I", true)
  | 3 => ("ParrotSpeech$State", "by", "[I", true)
  | 4 => ("ParrotSpeech$State", "covered", "I", false)
  | 5 => ("ParrotSpeech$State", "evening", "I", false)
  | _ => ("ParrotSpeech$State", "this$0", "LParrotSpeech;", true)
def tyX1 : Nat → FieldType := fun k => match k with
  | 0 => .array (.array .byte)
  | 1 => .array .int
  | 2 => .array .int
  | 3 => .array .int
  | 4 => .int
  | 5 => .int
  | _ => .object "ParrotSpeech"
abbrev wsX10 : List Cond := u_ws RX1 TX1 7
theorem nmX1 : ∀ a, a < 7 → ∀ b, b < 7 → a ≠ b → (TX1 a).2.1 ≠ (TX1 b).2.1 := by decide +kernel
theorem tyX1_ok : ∀ k, k < 7 → parseFieldDescriptor (TX1 k).2.2.1 = some (tyX1 k) := by decide +kernel
abbrev cX1_init : ByteArray := prog_15_method_1_code
def yX1_init : MethodName := ⟨RX1, "<init>", "(LParrotSpeech;)V"⟩
def dkwX1_init_1 : List UInt8 := [188, 10, 181, 0, 20, 42, 7, 188, 10, 181, 0, 24, 42, 7, 188, 10, 181, 0, 27, 177]
abbrev dktX1_init_1 : List UInt8 := dkwX1_init_1 ++ []
def dkwX1_init_0 : List UInt8 := [42, 43, 181, 0, 3, 42, 183, 0, 9, 42, 16, 8, 16, 10, 197, 0, 15, 2, 181, 0, 17, 42, 16, 8]
abbrev dktX1_init_0 : List UInt8 := dkwX1_init_0 ++ dktX1_init_1
theorem dksX1_init_0 : cX1_init.data.toList.drop 0 = dktX1_init_0 := by decide +kernel
theorem dksX1_init_1 : cX1_init.data.toList.drop 24 = dktX1_init_1 := dk_seg dksX1_init_0 24 rfl rfl
theorem dX1_init_0 : decode cX1_init 0 = .ok (.aload_n 0, 1) := dk_42 (dk_at dksX1_init_0 0 rfl rfl)
theorem dX1_init_1 : decode cX1_init 1 = .ok (.aload_n 1, 1) := dk_43 (dk_at dksX1_init_0 1 rfl rfl)
theorem dX1_init_2 : decode cX1_init 2 = .ok (.putfield 3, 3) := dk_181 0 3 (dk_at dksX1_init_0 2 rfl rfl)
theorem dX1_init_5 : decode cX1_init 5 = .ok (.aload_n 0, 1) := dk_42 (dk_at dksX1_init_0 5 rfl rfl)
theorem dX1_init_6 : decode cX1_init 6 = .ok (.invokespecial 9, 3) := dk_183 0 9 (dk_at dksX1_init_0 6 rfl rfl)
theorem dX1_init_9 : decode cX1_init 9 = .ok (.aload_n 0, 1) := dk_42 (dk_at dksX1_init_0 9 rfl rfl)
theorem dX1_init_10 : decode cX1_init 10 = .ok (.bipush 8, 2) := dk_16 8 (dk_at dksX1_init_0 10 rfl rfl)
theorem dX1_init_12 : decode cX1_init 12 = .ok (.bipush 10, 2) := dk_16 10 (dk_at dksX1_init_0 12 rfl rfl)
theorem dX1_init_14 : decode cX1_init 14 = .ok (.multianewarray 15 2, 4) := by decide +kernel
theorem dX1_init_18 : decode cX1_init 18 = .ok (.putfield 17, 3) := dk_181 0 17 (dk_at dksX1_init_0 18 rfl rfl)
theorem dX1_init_21 : decode cX1_init 21 = .ok (.aload_n 0, 1) := dk_42 (dk_at dksX1_init_0 21 rfl rfl)
theorem dX1_init_22 : decode cX1_init 22 = .ok (.bipush 8, 2) := dk_16 8 (dk_at dksX1_init_0 22 rfl rfl)
theorem dX1_init_24 : decode cX1_init 24 = .ok (.newarray .int, 2) := dk_188_10 (dk_at dksX1_init_1 0 rfl rfl)
theorem dX1_init_26 : decode cX1_init 26 = .ok (.putfield 20, 3) := dk_181 0 20 (dk_at dksX1_init_1 2 rfl rfl)
theorem dX1_init_29 : decode cX1_init 29 = .ok (.aload_n 0, 1) := dk_42 (dk_at dksX1_init_1 5 rfl rfl)
theorem dX1_init_30 : decode cX1_init 30 = .ok (.iconst 4, 1) := dk_7 (dk_at dksX1_init_1 6 rfl rfl)
theorem dX1_init_31 : decode cX1_init 31 = .ok (.newarray .int, 2) := dk_188_10 (dk_at dksX1_init_1 7 rfl rfl)
theorem dX1_init_33 : decode cX1_init 33 = .ok (.putfield 24, 3) := dk_181 0 24 (dk_at dksX1_init_1 9 rfl rfl)
theorem dX1_init_36 : decode cX1_init 36 = .ok (.aload_n 0, 1) := dk_42 (dk_at dksX1_init_1 12 rfl rfl)
theorem dX1_init_37 : decode cX1_init 37 = .ok (.iconst 4, 1) := dk_7 (dk_at dksX1_init_1 13 rfl rfl)
theorem dX1_init_38 : decode cX1_init 38 = .ok (.newarray .int, 2) := dk_188_10 (dk_at dksX1_init_1 14 rfl rfl)
theorem dX1_init_40 : decode cX1_init 40 = .ok (.putfield 27, 3) := dk_181 0 27 (dk_at dksX1_init_1 16 rfl rfl)
theorem dX1_init_43 : decode cX1_init 43 = .ok (.return_, 1) := dk_177 (dk_at dksX1_init_1 19 rfl rfl)
abbrev cX1_set : ByteArray := prog_15_method_2_code
def yX1_set : MethodName := ⟨RX1, "set", "(LParrotSpeech$State;)LParrotSpeech$State;"⟩
def dkwX1_set_3 : List UInt8 := [7, 184, 0, 30, 42, 43, 180, 0, 36, 181, 0, 36, 42, 43, 180, 0, 40, 181, 0, 40, 42, 176]
abbrev dktX1_set_3 : List UInt8 := dkwX1_set_3 ++ []
def dkwX1_set_2 : List UInt8 := [43, 180, 0, 24, 3, 42, 180, 0, 24, 3, 7, 184, 0, 30, 43, 180, 0, 27, 3, 42, 180, 0, 27, 3]
abbrev dktX1_set_2 : List UInt8 := dkwX1_set_2 ++ dktX1_set_3
def dkwX1_set_1 : List UInt8 := [184, 0, 30, 132, 2, 1, 167, 255, 228, 43, 180, 0, 20, 3, 42, 180, 0, 20, 3, 16, 8, 184, 0, 30]
abbrev dktX1_set_1 : List UInt8 := dkwX1_set_1 ++ dktX1_set_2
def dkwX1_set_0 : List UInt8 := [3, 61, 28, 16, 8, 162, 0, 28, 43, 180, 0, 17, 28, 50, 3, 42, 180, 0, 17, 28, 50, 3, 16, 10]
abbrev dktX1_set_0 : List UInt8 := dkwX1_set_0 ++ dktX1_set_1
theorem dksX1_set_0 : cX1_set.data.toList.drop 0 = dktX1_set_0 := by decide +kernel
theorem dksX1_set_1 : cX1_set.data.toList.drop 24 = dktX1_set_1 := dk_seg dksX1_set_0 24 rfl rfl
theorem dksX1_set_2 : cX1_set.data.toList.drop 48 = dktX1_set_2 := dk_seg dksX1_set_1 24 rfl rfl
theorem dksX1_set_3 : cX1_set.data.toList.drop 72 = dktX1_set_3 := dk_seg dksX1_set_2 24 rfl rfl
theorem dX1_set_0 : decode cX1_set 0 = .ok (.iconst 0, 1) := dk_3 (dk_at dksX1_set_0 0 rfl rfl)
theorem dX1_set_1 : decode cX1_set 1 = .ok (.istore_n 2, 1) := dk_61 (dk_at dksX1_set_0 1 rfl rfl)
theorem dX1_set_2 : decode cX1_set 2 = .ok (.iload_n 2, 1) := dk_28 (dk_at dksX1_set_0 2 rfl rfl)
theorem dX1_set_3 : decode cX1_set 3 = .ok (.bipush 8, 2) := dk_16 8 (dk_at dksX1_set_0 3 rfl rfl)
theorem dX1_set_5 : decode cX1_set 5 = .ok (.if_icmp .ge 28, 3) := dk_162 0 28 (dk_at dksX1_set_0 5 rfl rfl)
theorem dX1_set_8 : decode cX1_set 8 = .ok (.aload_n 1, 1) := dk_43 (dk_at dksX1_set_0 8 rfl rfl)
theorem dX1_set_9 : decode cX1_set 9 = .ok (.getfield 17, 3) := dk_180 0 17 (dk_at dksX1_set_0 9 rfl rfl)
theorem dX1_set_12 : decode cX1_set 12 = .ok (.iload_n 2, 1) := dk_28 (dk_at dksX1_set_0 12 rfl rfl)
theorem dX1_set_13 : decode cX1_set 13 = .ok (.aaload, 1) := dk_50 (dk_at dksX1_set_0 13 rfl rfl)
theorem dX1_set_14 : decode cX1_set 14 = .ok (.iconst 0, 1) := dk_3 (dk_at dksX1_set_0 14 rfl rfl)
theorem dX1_set_15 : decode cX1_set 15 = .ok (.aload_n 0, 1) := dk_42 (dk_at dksX1_set_0 15 rfl rfl)
theorem dX1_set_16 : decode cX1_set 16 = .ok (.getfield 17, 3) := dk_180 0 17 (dk_at dksX1_set_0 16 rfl rfl)
theorem dX1_set_19 : decode cX1_set 19 = .ok (.iload_n 2, 1) := dk_28 (dk_at dksX1_set_0 19 rfl rfl)
theorem dX1_set_20 : decode cX1_set 20 = .ok (.aaload, 1) := dk_50 (dk_at dksX1_set_0 20 rfl rfl)
theorem dX1_set_21 : decode cX1_set 21 = .ok (.iconst 0, 1) := dk_3 (dk_at dksX1_set_0 21 rfl rfl)
theorem dX1_set_22 : decode cX1_set 22 = .ok (.bipush 10, 2) := dk_16 10 (dk_at dksX1_set_0 22 rfl rfl)
theorem dX1_set_24 : decode cX1_set 24 = .ok (.invokestatic 30, 3) := dk_184 0 30 (dk_at dksX1_set_1 0 rfl rfl)
theorem dX1_set_27 : decode cX1_set 27 = .ok (.iinc 2 1, 3) := dk_132 2 1 (dk_at dksX1_set_1 3 rfl rfl)
theorem dX1_set_30 : decode cX1_set 30 = .ok (.goto (-28), 3) := dk_167 255 228 (dk_at dksX1_set_1 6 rfl rfl)
theorem dX1_set_33 : decode cX1_set 33 = .ok (.aload_n 1, 1) := dk_43 (dk_at dksX1_set_1 9 rfl rfl)
theorem dX1_set_34 : decode cX1_set 34 = .ok (.getfield 20, 3) := dk_180 0 20 (dk_at dksX1_set_1 10 rfl rfl)
theorem dX1_set_37 : decode cX1_set 37 = .ok (.iconst 0, 1) := dk_3 (dk_at dksX1_set_1 13 rfl rfl)
theorem dX1_set_38 : decode cX1_set 38 = .ok (.aload_n 0, 1) := dk_42 (dk_at dksX1_set_1 14 rfl rfl)
theorem dX1_set_39 : decode cX1_set 39 = .ok (.getfield 20, 3) := dk_180 0 20 (dk_at dksX1_set_1 15 rfl rfl)
theorem dX1_set_42 : decode cX1_set 42 = .ok (.iconst 0, 1) := dk_3 (dk_at dksX1_set_1 18 rfl rfl)
theorem dX1_set_43 : decode cX1_set 43 = .ok (.bipush 8, 2) := dk_16 8 (dk_at dksX1_set_1 19 rfl rfl)
theorem dX1_set_45 : decode cX1_set 45 = .ok (.invokestatic 30, 3) := dk_184 0 30 (dk_at dksX1_set_1 21 rfl rfl)
theorem dX1_set_48 : decode cX1_set 48 = .ok (.aload_n 1, 1) := dk_43 (dk_at dksX1_set_2 0 rfl rfl)
theorem dX1_set_49 : decode cX1_set 49 = .ok (.getfield 24, 3) := dk_180 0 24 (dk_at dksX1_set_2 1 rfl rfl)
theorem dX1_set_52 : decode cX1_set 52 = .ok (.iconst 0, 1) := dk_3 (dk_at dksX1_set_2 4 rfl rfl)
theorem dX1_set_53 : decode cX1_set 53 = .ok (.aload_n 0, 1) := dk_42 (dk_at dksX1_set_2 5 rfl rfl)
theorem dX1_set_54 : decode cX1_set 54 = .ok (.getfield 24, 3) := dk_180 0 24 (dk_at dksX1_set_2 6 rfl rfl)
theorem dX1_set_57 : decode cX1_set 57 = .ok (.iconst 0, 1) := dk_3 (dk_at dksX1_set_2 9 rfl rfl)
theorem dX1_set_58 : decode cX1_set 58 = .ok (.iconst 4, 1) := dk_7 (dk_at dksX1_set_2 10 rfl rfl)
theorem dX1_set_59 : decode cX1_set 59 = .ok (.invokestatic 30, 3) := dk_184 0 30 (dk_at dksX1_set_2 11 rfl rfl)
theorem dX1_set_62 : decode cX1_set 62 = .ok (.aload_n 1, 1) := dk_43 (dk_at dksX1_set_2 14 rfl rfl)
theorem dX1_set_63 : decode cX1_set 63 = .ok (.getfield 27, 3) := dk_180 0 27 (dk_at dksX1_set_2 15 rfl rfl)
theorem dX1_set_66 : decode cX1_set 66 = .ok (.iconst 0, 1) := dk_3 (dk_at dksX1_set_2 18 rfl rfl)
theorem dX1_set_67 : decode cX1_set 67 = .ok (.aload_n 0, 1) := dk_42 (dk_at dksX1_set_2 19 rfl rfl)
theorem dX1_set_68 : decode cX1_set 68 = .ok (.getfield 27, 3) := dk_180 0 27 (dk_at dksX1_set_2 20 rfl rfl)
theorem dX1_set_71 : decode cX1_set 71 = .ok (.iconst 0, 1) := dk_3 (dk_at dksX1_set_2 23 rfl rfl)
theorem dX1_set_72 : decode cX1_set 72 = .ok (.iconst 4, 1) := dk_7 (dk_at dksX1_set_3 0 rfl rfl)
theorem dX1_set_73 : decode cX1_set 73 = .ok (.invokestatic 30, 3) := dk_184 0 30 (dk_at dksX1_set_3 1 rfl rfl)
theorem dX1_set_76 : decode cX1_set 76 = .ok (.aload_n 0, 1) := dk_42 (dk_at dksX1_set_3 4 rfl rfl)
theorem dX1_set_77 : decode cX1_set 77 = .ok (.aload_n 1, 1) := dk_43 (dk_at dksX1_set_3 5 rfl rfl)
theorem dX1_set_78 : decode cX1_set 78 = .ok (.getfield 36, 3) := dk_180 0 36 (dk_at dksX1_set_3 6 rfl rfl)
theorem dX1_set_81 : decode cX1_set 81 = .ok (.putfield 36, 3) := dk_181 0 36 (dk_at dksX1_set_3 9 rfl rfl)
theorem dX1_set_84 : decode cX1_set 84 = .ok (.aload_n 0, 1) := dk_42 (dk_at dksX1_set_3 12 rfl rfl)
theorem dX1_set_85 : decode cX1_set 85 = .ok (.aload_n 1, 1) := dk_43 (dk_at dksX1_set_3 13 rfl rfl)
theorem dX1_set_86 : decode cX1_set 86 = .ok (.getfield 40, 3) := dk_180 0 40 (dk_at dksX1_set_3 14 rfl rfl)
theorem dX1_set_89 : decode cX1_set 89 = .ok (.putfield 40, 3) := dk_181 0 40 (dk_at dksX1_set_3 17 rfl rfl)
theorem dX1_set_92 : decode cX1_set 92 = .ok (.aload_n 0, 1) := dk_42 (dk_at dksX1_set_3 20 rfl rfl)
theorem dX1_set_93 : decode cX1_set 93 = .ok (.areturn, 1) := dk_176 (dk_at dksX1_set_3 21 rfl rfl)
abbrev cX1_owner : ByteArray := prog_15_method_14_code
def yX1_owner : MethodName := ⟨RX1, "owner", "(I)I"⟩
def dkwX1_owner_1 : List UInt8 := [172, 132, 2, 1, 167, 255, 230, 2, 172]
abbrev dktX1_owner_1 : List UInt8 := dkwX1_owner_1 ++ []
def dkwX1_owner_0 : List UInt8 := [3, 61, 28, 42, 180, 0, 3, 180, 0, 52, 162, 0, 21, 42, 180, 0, 27, 28, 46, 27, 160, 0, 5, 28]
abbrev dktX1_owner_0 : List UInt8 := dkwX1_owner_0 ++ dktX1_owner_1
theorem dksX1_owner_0 : cX1_owner.data.toList.drop 0 = dktX1_owner_0 := by decide +kernel
theorem dksX1_owner_1 : cX1_owner.data.toList.drop 24 = dktX1_owner_1 := dk_seg dksX1_owner_0 24 rfl rfl
theorem dX1_owner_0 : decode cX1_owner 0 = .ok (.iconst 0, 1) := dk_3 (dk_at dksX1_owner_0 0 rfl rfl)
theorem dX1_owner_1 : decode cX1_owner 1 = .ok (.istore_n 2, 1) := dk_61 (dk_at dksX1_owner_0 1 rfl rfl)
theorem dX1_owner_2 : decode cX1_owner 2 = .ok (.iload_n 2, 1) := dk_28 (dk_at dksX1_owner_0 2 rfl rfl)
theorem dX1_owner_3 : decode cX1_owner 3 = .ok (.aload_n 0, 1) := dk_42 (dk_at dksX1_owner_0 3 rfl rfl)
theorem dX1_owner_4 : decode cX1_owner 4 = .ok (.getfield 3, 3) := dk_180 0 3 (dk_at dksX1_owner_0 4 rfl rfl)
theorem dX1_owner_7 : decode cX1_owner 7 = .ok (.getfield 52, 3) := dk_180 0 52 (dk_at dksX1_owner_0 7 rfl rfl)
theorem dX1_owner_10 : decode cX1_owner 10 = .ok (.if_icmp .ge 21, 3) := dk_162 0 21 (dk_at dksX1_owner_0 10 rfl rfl)
theorem dX1_owner_13 : decode cX1_owner 13 = .ok (.aload_n 0, 1) := dk_42 (dk_at dksX1_owner_0 13 rfl rfl)
theorem dX1_owner_14 : decode cX1_owner 14 = .ok (.getfield 27, 3) := dk_180 0 27 (dk_at dksX1_owner_0 14 rfl rfl)
theorem dX1_owner_17 : decode cX1_owner 17 = .ok (.iload_n 2, 1) := dk_28 (dk_at dksX1_owner_0 17 rfl rfl)
theorem dX1_owner_18 : decode cX1_owner 18 = .ok (.iaload, 1) := dk_46 (dk_at dksX1_owner_0 18 rfl rfl)
theorem dX1_owner_19 : decode cX1_owner 19 = .ok (.iload_n 1, 1) := dk_27 (dk_at dksX1_owner_0 19 rfl rfl)
theorem dX1_owner_20 : decode cX1_owner 20 = .ok (.if_icmp .ne 5, 3) := dk_160 0 5 (dk_at dksX1_owner_0 20 rfl rfl)
theorem dX1_owner_23 : decode cX1_owner 23 = .ok (.iload_n 2, 1) := dk_28 (dk_at dksX1_owner_0 23 rfl rfl)
theorem dX1_owner_24 : decode cX1_owner 24 = .ok (.ireturn, 1) := dk_172 (dk_at dksX1_owner_1 0 rfl rfl)
theorem dX1_owner_25 : decode cX1_owner 25 = .ok (.iinc 2 1, 3) := dk_132 2 1 (dk_at dksX1_owner_1 1 rfl rfl)
theorem dX1_owner_28 : decode cX1_owner 28 = .ok (.goto (-26), 3) := dk_167 255 230 (dk_at dksX1_owner_1 4 rfl rfl)
theorem dX1_owner_31 : decode cX1_owner 31 = .ok (.iconst (-1), 1) := dk_2 (dk_at dksX1_owner_1 7 rfl rfl)
theorem dX1_owner_32 : decode cX1_owner 32 = .ok (.ireturn, 1) := dk_172 (dk_at dksX1_owner_1 8 rfl rfl)
abbrev cX1_well : ByteArray := prog_15_method_4_code
def yX1_well : MethodName := ⟨RX1, "well", "(I)I"⟩
def dkwX1_well_1 : List UInt8 := [29, 120, 167, 0, 4, 3, 128, 61, 132, 3, 1, 167, 255, 225, 28, 172]
abbrev dktX1_well_1 : List UInt8 := dkwX1_well_1 ++ []
def dkwX1_well_0 : List UInt8 := [3, 61, 3, 62, 29, 16, 10, 162, 0, 31, 28, 42, 180, 0, 17, 27, 50, 29, 51, 8, 161, 0, 9, 4]
abbrev dktX1_well_0 : List UInt8 := dkwX1_well_0 ++ dktX1_well_1
theorem dksX1_well_0 : cX1_well.data.toList.drop 0 = dktX1_well_0 := by decide +kernel
theorem dksX1_well_1 : cX1_well.data.toList.drop 24 = dktX1_well_1 := dk_seg dksX1_well_0 24 rfl rfl
theorem dX1_well_0 : decode cX1_well 0 = .ok (.iconst 0, 1) := dk_3 (dk_at dksX1_well_0 0 rfl rfl)
theorem dX1_well_1 : decode cX1_well 1 = .ok (.istore_n 2, 1) := dk_61 (dk_at dksX1_well_0 1 rfl rfl)
theorem dX1_well_2 : decode cX1_well 2 = .ok (.iconst 0, 1) := dk_3 (dk_at dksX1_well_0 2 rfl rfl)
theorem dX1_well_3 : decode cX1_well 3 = .ok (.istore_n 3, 1) := dk_62 (dk_at dksX1_well_0 3 rfl rfl)
theorem dX1_well_4 : decode cX1_well 4 = .ok (.iload_n 3, 1) := dk_29 (dk_at dksX1_well_0 4 rfl rfl)
theorem dX1_well_5 : decode cX1_well 5 = .ok (.bipush 10, 2) := dk_16 10 (dk_at dksX1_well_0 5 rfl rfl)
theorem dX1_well_7 : decode cX1_well 7 = .ok (.if_icmp .ge 31, 3) := dk_162 0 31 (dk_at dksX1_well_0 7 rfl rfl)
theorem dX1_well_10 : decode cX1_well 10 = .ok (.iload_n 2, 1) := dk_28 (dk_at dksX1_well_0 10 rfl rfl)
theorem dX1_well_11 : decode cX1_well 11 = .ok (.aload_n 0, 1) := dk_42 (dk_at dksX1_well_0 11 rfl rfl)
theorem dX1_well_12 : decode cX1_well 12 = .ok (.getfield 17, 3) := dk_180 0 17 (dk_at dksX1_well_0 12 rfl rfl)
theorem dX1_well_15 : decode cX1_well 15 = .ok (.iload_n 1, 1) := dk_27 (dk_at dksX1_well_0 15 rfl rfl)
theorem dX1_well_16 : decode cX1_well 16 = .ok (.aaload, 1) := dk_50 (dk_at dksX1_well_0 16 rfl rfl)
theorem dX1_well_17 : decode cX1_well 17 = .ok (.iload_n 3, 1) := dk_29 (dk_at dksX1_well_0 17 rfl rfl)
theorem dX1_well_18 : decode cX1_well 18 = .ok (.baload, 1) := dk_51 (dk_at dksX1_well_0 18 rfl rfl)
theorem dX1_well_19 : decode cX1_well 19 = .ok (.iconst 5, 1) := dk_8 (dk_at dksX1_well_0 19 rfl rfl)
theorem dX1_well_20 : decode cX1_well 20 = .ok (.if_icmp .lt 9, 3) := dk_161 0 9 (dk_at dksX1_well_0 20 rfl rfl)
theorem dX1_well_23 : decode cX1_well 23 = .ok (.iconst 1, 1) := dk_4 (dk_at dksX1_well_0 23 rfl rfl)
theorem dX1_well_24 : decode cX1_well 24 = .ok (.iload_n 3, 1) := dk_29 (dk_at dksX1_well_1 0 rfl rfl)
theorem dX1_well_25 : decode cX1_well 25 = .ok (.ishl, 1) := dk_120 (dk_at dksX1_well_1 1 rfl rfl)
theorem dX1_well_26 : decode cX1_well 26 = .ok (.goto 4, 3) := dk_167 0 4 (dk_at dksX1_well_1 2 rfl rfl)
theorem dX1_well_29 : decode cX1_well 29 = .ok (.iconst 0, 1) := dk_3 (dk_at dksX1_well_1 5 rfl rfl)
theorem dX1_well_30 : decode cX1_well 30 = .ok (.ior, 1) := dk_128 (dk_at dksX1_well_1 6 rfl rfl)
theorem dX1_well_31 : decode cX1_well 31 = .ok (.istore_n 2, 1) := dk_61 (dk_at dksX1_well_1 7 rfl rfl)
theorem dX1_well_32 : decode cX1_well 32 = .ok (.iinc 3 1, 3) := dk_132 3 1 (dk_at dksX1_well_1 8 rfl rfl)
theorem dX1_well_35 : decode cX1_well 35 = .ok (.goto (-31), 3) := dk_167 255 225 (dk_at dksX1_well_1 11 rfl rfl)
theorem dX1_well_38 : decode cX1_well 38 = .ok (.iload_n 2, 1) := dk_28 (dk_at dksX1_well_1 14 rfl rfl)
theorem dX1_well_39 : decode cX1_well 39 = .ok (.ireturn, 1) := dk_172 (dk_at dksX1_well_1 15 rfl rfl)
abbrev cX1_go : ByteArray := prog_15_method_13_code
def yX1_go : MethodName := ⟨RX1, "go", "(I)LParrotSpeech$State;"⟩
def dkwX1_go_0 : List UInt8 := [3, 61, 28, 27, 162, 0, 14, 42, 182, 0, 124, 87, 132, 2, 1, 167, 255, 243, 42, 176]
abbrev dktX1_go_0 : List UInt8 := dkwX1_go_0 ++ []
theorem dksX1_go_0 : cX1_go.data.toList.drop 0 = dktX1_go_0 := by decide +kernel
theorem dX1_go_0 : decode cX1_go 0 = .ok (.iconst 0, 1) := dk_3 (dk_at dksX1_go_0 0 rfl rfl)
theorem dX1_go_1 : decode cX1_go 1 = .ok (.istore_n 2, 1) := dk_61 (dk_at dksX1_go_0 1 rfl rfl)
theorem dX1_go_2 : decode cX1_go 2 = .ok (.iload_n 2, 1) := dk_28 (dk_at dksX1_go_0 2 rfl rfl)
theorem dX1_go_3 : decode cX1_go 3 = .ok (.iload_n 1, 1) := dk_27 (dk_at dksX1_go_0 3 rfl rfl)
theorem dX1_go_4 : decode cX1_go 4 = .ok (.if_icmp .ge 14, 3) := dk_162 0 14 (dk_at dksX1_go_0 4 rfl rfl)
theorem dX1_go_7 : decode cX1_go 7 = .ok (.aload_n 0, 1) := dk_42 (dk_at dksX1_go_0 7 rfl rfl)
theorem dX1_go_8 : decode cX1_go 8 = .ok (.invokevirtual 124, 3) := dk_182 0 124 (dk_at dksX1_go_0 8 rfl rfl)
theorem dX1_go_11 : decode cX1_go 11 = .ok (.pop, 1) := dk_87 (dk_at dksX1_go_0 11 rfl rfl)
theorem dX1_go_12 : decode cX1_go 12 = .ok (.iinc 2 1, 3) := dk_132 2 1 (dk_at dksX1_go_0 12 rfl rfl)
theorem dX1_go_15 : decode cX1_go 15 = .ok (.goto (-13), 3) := dk_167 255 243 (dk_at dksX1_go_0 15 rfl rfl)
theorem dX1_go_18 : decode cX1_go 18 = .ok (.aload_n 0, 1) := dk_42 (dk_at dksX1_go_0 18 rfl rfl)
theorem dX1_go_19 : decode cX1_go 19 = .ok (.areturn, 1) := dk_176 (dk_at dksX1_go_0 19 rfl rfl)
abbrev cX1_pass : ByteArray := prog_15_method_12_code
def yX1_pass : MethodName := ⟨RX1, "pass", "()LParrotSpeech$State;"⟩
def dkwX1_pass_2 : List UInt8 := [42, 182, 0, 121, 42, 89, 180, 0, 40, 4, 96, 181, 0, 40, 42, 176]
abbrev dktX1_pass_2 : List UInt8 := dkwX1_pass_2 ++ []
def dkwX1_pass_1 : List UInt8 := [154, 0, 8, 42, 27, 182, 0, 117, 132, 1, 1, 167, 255, 235, 42, 180, 0, 40, 6, 112, 5, 160, 0, 7]
abbrev dktX1_pass_1 : List UInt8 := dkwX1_pass_1 ++ dktX1_pass_2
def dkwX1_pass_0 : List UInt8 := [42, 180, 0, 3, 3, 181, 0, 91, 42, 182, 0, 110, 3, 60, 27, 7, 162, 0, 22, 42, 27, 182, 0, 113]
abbrev dktX1_pass_0 : List UInt8 := dkwX1_pass_0 ++ dktX1_pass_1
theorem dksX1_pass_0 : cX1_pass.data.toList.drop 0 = dktX1_pass_0 := by decide +kernel
theorem dksX1_pass_1 : cX1_pass.data.toList.drop 24 = dktX1_pass_1 := dk_seg dksX1_pass_0 24 rfl rfl
theorem dksX1_pass_2 : cX1_pass.data.toList.drop 48 = dktX1_pass_2 := dk_seg dksX1_pass_1 24 rfl rfl
theorem dX1_pass_0 : decode cX1_pass 0 = .ok (.aload_n 0, 1) := dk_42 (dk_at dksX1_pass_0 0 rfl rfl)
theorem dX1_pass_1 : decode cX1_pass 1 = .ok (.getfield 3, 3) := dk_180 0 3 (dk_at dksX1_pass_0 1 rfl rfl)
theorem dX1_pass_4 : decode cX1_pass 4 = .ok (.iconst 0, 1) := dk_3 (dk_at dksX1_pass_0 4 rfl rfl)
theorem dX1_pass_5 : decode cX1_pass 5 = .ok (.putfield 91, 3) := dk_181 0 91 (dk_at dksX1_pass_0 5 rfl rfl)
theorem dX1_pass_8 : decode cX1_pass 8 = .ok (.aload_n 0, 1) := dk_42 (dk_at dksX1_pass_0 8 rfl rfl)
theorem dX1_pass_9 : decode cX1_pass 9 = .ok (.invokevirtual 110, 3) := dk_182 0 110 (dk_at dksX1_pass_0 9 rfl rfl)
theorem dX1_pass_12 : decode cX1_pass 12 = .ok (.iconst 0, 1) := dk_3 (dk_at dksX1_pass_0 12 rfl rfl)
theorem dX1_pass_13 : decode cX1_pass 13 = .ok (.istore_n 1, 1) := dk_60 (dk_at dksX1_pass_0 13 rfl rfl)
theorem dX1_pass_14 : decode cX1_pass 14 = .ok (.iload_n 1, 1) := dk_27 (dk_at dksX1_pass_0 14 rfl rfl)
theorem dX1_pass_15 : decode cX1_pass 15 = .ok (.iconst 4, 1) := dk_7 (dk_at dksX1_pass_0 15 rfl rfl)
theorem dX1_pass_16 : decode cX1_pass 16 = .ok (.if_icmp .ge 22, 3) := dk_162 0 22 (dk_at dksX1_pass_0 16 rfl rfl)
theorem dX1_pass_19 : decode cX1_pass 19 = .ok (.aload_n 0, 1) := dk_42 (dk_at dksX1_pass_0 19 rfl rfl)
theorem dX1_pass_20 : decode cX1_pass 20 = .ok (.iload_n 1, 1) := dk_27 (dk_at dksX1_pass_0 20 rfl rfl)
theorem dX1_pass_21 : decode cX1_pass 21 = .ok (.invokevirtual 113, 3) := dk_182 0 113 (dk_at dksX1_pass_0 21 rfl rfl)
theorem dX1_pass_24 : decode cX1_pass 24 = .ok (.ifCond .ne 8, 3) := dk_154 0 8 (dk_at dksX1_pass_1 0 rfl rfl)
theorem dX1_pass_27 : decode cX1_pass 27 = .ok (.aload_n 0, 1) := dk_42 (dk_at dksX1_pass_1 3 rfl rfl)
theorem dX1_pass_28 : decode cX1_pass 28 = .ok (.iload_n 1, 1) := dk_27 (dk_at dksX1_pass_1 4 rfl rfl)
theorem dX1_pass_29 : decode cX1_pass 29 = .ok (.invokevirtual 117, 3) := dk_182 0 117 (dk_at dksX1_pass_1 5 rfl rfl)
theorem dX1_pass_32 : decode cX1_pass 32 = .ok (.iinc 1 1, 3) := dk_132 1 1 (dk_at dksX1_pass_1 8 rfl rfl)
theorem dX1_pass_35 : decode cX1_pass 35 = .ok (.goto (-21), 3) := dk_167 255 235 (dk_at dksX1_pass_1 11 rfl rfl)
theorem dX1_pass_38 : decode cX1_pass 38 = .ok (.aload_n 0, 1) := dk_42 (dk_at dksX1_pass_1 14 rfl rfl)
theorem dX1_pass_39 : decode cX1_pass 39 = .ok (.getfield 40, 3) := dk_180 0 40 (dk_at dksX1_pass_1 15 rfl rfl)
theorem dX1_pass_42 : decode cX1_pass 42 = .ok (.iconst 3, 1) := dk_6 (dk_at dksX1_pass_1 18 rfl rfl)
theorem dX1_pass_43 : decode cX1_pass 43 = .ok (.irem, 1) := dk_112 (dk_at dksX1_pass_1 19 rfl rfl)
theorem dX1_pass_44 : decode cX1_pass 44 = .ok (.iconst 2, 1) := dk_5 (dk_at dksX1_pass_1 20 rfl rfl)
theorem dX1_pass_45 : decode cX1_pass 45 = .ok (.if_icmp .ne 7, 3) := dk_160 0 7 (dk_at dksX1_pass_1 21 rfl rfl)
theorem dX1_pass_48 : decode cX1_pass 48 = .ok (.aload_n 0, 1) := dk_42 (dk_at dksX1_pass_2 0 rfl rfl)
theorem dX1_pass_49 : decode cX1_pass 49 = .ok (.invokevirtual 121, 3) := dk_182 0 121 (dk_at dksX1_pass_2 1 rfl rfl)
theorem dX1_pass_52 : decode cX1_pass 52 = .ok (.aload_n 0, 1) := dk_42 (dk_at dksX1_pass_2 4 rfl rfl)
theorem dX1_pass_53 : decode cX1_pass 53 = .ok (.dup, 1) := dk_89 (dk_at dksX1_pass_2 5 rfl rfl)
theorem dX1_pass_54 : decode cX1_pass 54 = .ok (.getfield 40, 3) := dk_180 0 40 (dk_at dksX1_pass_2 6 rfl rfl)
theorem dX1_pass_57 : decode cX1_pass 57 = .ok (.iconst 1, 1) := dk_4 (dk_at dksX1_pass_2 9 rfl rfl)
theorem dX1_pass_58 : decode cX1_pass 58 = .ok (.iadd, 1) := dk_96 (dk_at dksX1_pass_2 10 rfl rfl)
theorem dX1_pass_59 : decode cX1_pass 59 = .ok (.putfield 40, 3) := dk_181 0 40 (dk_at dksX1_pass_2 11 rfl rfl)
theorem dX1_pass_62 : decode cX1_pass 62 = .ok (.aload_n 0, 1) := dk_42 (dk_at dksX1_pass_2 14 rfl rfl)
theorem dX1_pass_63 : decode cX1_pass 63 = .ok (.areturn, 1) := dk_176 (dk_at dksX1_pass_2 15 rfl rfl)
abbrev cX1_inherit : ByteArray := prog_15_method_7_code
def yX1_inherit : MethodName := ⟨RX1, "inherit", "()V"⟩
def dkwX1_inherit_4 : List UInt8 := [180, 0, 24, 27, 46, 4, 100, 126, 79, 132, 1, 1, 167, 255, 152, 177]
abbrev dktX1_inherit_4 : List UInt8 := dkwX1_inherit_4 ++ []
def dkwX1_inherit_3 : List UInt8 := [28, 29, 42, 180, 0, 3, 28, 182, 0, 55, 182, 0, 59, 182, 0, 71, 42, 180, 0, 24, 27, 92, 46, 42]
abbrev dktX1_inherit_3 : List UInt8 := dkwX1_inherit_3 ++ dktX1_inherit_4
def dkwX1_inherit_2 : List UInt8 := [180, 0, 3, 28, 182, 0, 55, 182, 0, 59, 158, 0, 47, 42, 180, 0, 24, 27, 46, 184, 0, 65, 62, 42]
abbrev dktX1_inherit_2 : List UInt8 := dkwX1_inherit_2 ++ dktX1_inherit_3
def dkwX1_inherit_1 : List UInt8 := [159, 0, 81, 42, 180, 0, 24, 27, 46, 153, 0, 72, 42, 180, 0, 36, 28, 184, 0, 49, 154, 0, 61, 42]
abbrev dktX1_inherit_1 : List UInt8 := dkwX1_inherit_1 ++ dktX1_inherit_2
def dkwX1_inherit_0 : List UInt8 := [3, 60, 27, 42, 180, 0, 3, 180, 0, 52, 162, 0, 99, 42, 180, 0, 27, 27, 46, 61, 28, 2]
abbrev dktX1_inherit_0 : List UInt8 := dkwX1_inherit_0 ++ dktX1_inherit_1
theorem dksX1_inherit_0 : cX1_inherit.data.toList.drop 0 = dktX1_inherit_0 := by decide +kernel
theorem dksX1_inherit_1 : cX1_inherit.data.toList.drop 22 = dktX1_inherit_1 := dk_seg dksX1_inherit_0 22 rfl rfl
theorem dksX1_inherit_2 : cX1_inherit.data.toList.drop 46 = dktX1_inherit_2 := dk_seg dksX1_inherit_1 24 rfl rfl
theorem dksX1_inherit_3 : cX1_inherit.data.toList.drop 70 = dktX1_inherit_3 := dk_seg dksX1_inherit_2 24 rfl rfl
theorem dksX1_inherit_4 : cX1_inherit.data.toList.drop 94 = dktX1_inherit_4 := dk_seg dksX1_inherit_3 24 rfl rfl
theorem dX1_inherit_0 : decode cX1_inherit 0 = .ok (.iconst 0, 1) := dk_3 (dk_at dksX1_inherit_0 0 rfl rfl)
theorem dX1_inherit_1 : decode cX1_inherit 1 = .ok (.istore_n 1, 1) := dk_60 (dk_at dksX1_inherit_0 1 rfl rfl)
theorem dX1_inherit_2 : decode cX1_inherit 2 = .ok (.iload_n 1, 1) := dk_27 (dk_at dksX1_inherit_0 2 rfl rfl)
theorem dX1_inherit_3 : decode cX1_inherit 3 = .ok (.aload_n 0, 1) := dk_42 (dk_at dksX1_inherit_0 3 rfl rfl)
theorem dX1_inherit_4 : decode cX1_inherit 4 = .ok (.getfield 3, 3) := dk_180 0 3 (dk_at dksX1_inherit_0 4 rfl rfl)
theorem dX1_inherit_7 : decode cX1_inherit 7 = .ok (.getfield 52, 3) := dk_180 0 52 (dk_at dksX1_inherit_0 7 rfl rfl)
theorem dX1_inherit_10 : decode cX1_inherit 10 = .ok (.if_icmp .ge 99, 3) := dk_162 0 99 (dk_at dksX1_inherit_0 10 rfl rfl)
theorem dX1_inherit_13 : decode cX1_inherit 13 = .ok (.aload_n 0, 1) := dk_42 (dk_at dksX1_inherit_0 13 rfl rfl)
theorem dX1_inherit_14 : decode cX1_inherit 14 = .ok (.getfield 27, 3) := dk_180 0 27 (dk_at dksX1_inherit_0 14 rfl rfl)
theorem dX1_inherit_17 : decode cX1_inherit 17 = .ok (.iload_n 1, 1) := dk_27 (dk_at dksX1_inherit_0 17 rfl rfl)
theorem dX1_inherit_18 : decode cX1_inherit 18 = .ok (.iaload, 1) := dk_46 (dk_at dksX1_inherit_0 18 rfl rfl)
theorem dX1_inherit_19 : decode cX1_inherit 19 = .ok (.istore_n 2, 1) := dk_61 (dk_at dksX1_inherit_0 19 rfl rfl)
theorem dX1_inherit_20 : decode cX1_inherit 20 = .ok (.iload_n 2, 1) := dk_28 (dk_at dksX1_inherit_0 20 rfl rfl)
theorem dX1_inherit_21 : decode cX1_inherit 21 = .ok (.iconst (-1), 1) := dk_2 (dk_at dksX1_inherit_0 21 rfl rfl)
theorem dX1_inherit_22 : decode cX1_inherit 22 = .ok (.if_icmp .eq 81, 3) := dk_159 0 81 (dk_at dksX1_inherit_1 0 rfl rfl)
theorem dX1_inherit_25 : decode cX1_inherit 25 = .ok (.aload_n 0, 1) := dk_42 (dk_at dksX1_inherit_1 3 rfl rfl)
theorem dX1_inherit_26 : decode cX1_inherit 26 = .ok (.getfield 24, 3) := dk_180 0 24 (dk_at dksX1_inherit_1 4 rfl rfl)
theorem dX1_inherit_29 : decode cX1_inherit 29 = .ok (.iload_n 1, 1) := dk_27 (dk_at dksX1_inherit_1 7 rfl rfl)
theorem dX1_inherit_30 : decode cX1_inherit 30 = .ok (.iaload, 1) := dk_46 (dk_at dksX1_inherit_1 8 rfl rfl)
theorem dX1_inherit_31 : decode cX1_inherit 31 = .ok (.ifCond .eq 72, 3) := dk_153 0 72 (dk_at dksX1_inherit_1 9 rfl rfl)
theorem dX1_inherit_34 : decode cX1_inherit 34 = .ok (.aload_n 0, 1) := dk_42 (dk_at dksX1_inherit_1 12 rfl rfl)
theorem dX1_inherit_35 : decode cX1_inherit 35 = .ok (.getfield 36, 3) := dk_180 0 36 (dk_at dksX1_inherit_1 13 rfl rfl)
theorem dX1_inherit_38 : decode cX1_inherit 38 = .ok (.iload_n 2, 1) := dk_28 (dk_at dksX1_inherit_1 16 rfl rfl)
theorem dX1_inherit_39 : decode cX1_inherit 39 = .ok (.invokestatic 49, 3) := dk_184 0 49 (dk_at dksX1_inherit_1 17 rfl rfl)
theorem dX1_inherit_42 : decode cX1_inherit 42 = .ok (.ifCond .ne 61, 3) := dk_154 0 61 (dk_at dksX1_inherit_1 20 rfl rfl)
theorem dX1_inherit_45 : decode cX1_inherit 45 = .ok (.aload_n 0, 1) := dk_42 (dk_at dksX1_inherit_1 23 rfl rfl)
theorem dX1_inherit_46 : decode cX1_inherit 46 = .ok (.getfield 3, 3) := dk_180 0 3 (dk_at dksX1_inherit_2 0 rfl rfl)
theorem dX1_inherit_49 : decode cX1_inherit 49 = .ok (.iload_n 2, 1) := dk_28 (dk_at dksX1_inherit_2 3 rfl rfl)
theorem dX1_inherit_50 : decode cX1_inherit 50 = .ok (.invokevirtual 55, 3) := dk_182 0 55 (dk_at dksX1_inherit_2 4 rfl rfl)
theorem dX1_inherit_53 : decode cX1_inherit 53 = .ok (.invokevirtual 59, 3) := dk_182 0 59 (dk_at dksX1_inherit_2 7 rfl rfl)
theorem dX1_inherit_56 : decode cX1_inherit 56 = .ok (.ifCond .le 47, 3) := dk_158 0 47 (dk_at dksX1_inherit_2 10 rfl rfl)
theorem dX1_inherit_59 : decode cX1_inherit 59 = .ok (.aload_n 0, 1) := dk_42 (dk_at dksX1_inherit_2 13 rfl rfl)
theorem dX1_inherit_60 : decode cX1_inherit 60 = .ok (.getfield 24, 3) := dk_180 0 24 (dk_at dksX1_inherit_2 14 rfl rfl)
theorem dX1_inherit_63 : decode cX1_inherit 63 = .ok (.iload_n 1, 1) := dk_27 (dk_at dksX1_inherit_2 17 rfl rfl)
theorem dX1_inherit_64 : decode cX1_inherit 64 = .ok (.iaload, 1) := dk_46 (dk_at dksX1_inherit_2 18 rfl rfl)
theorem dX1_inherit_65 : decode cX1_inherit 65 = .ok (.invokestatic 65, 3) := dk_184 0 65 (dk_at dksX1_inherit_2 19 rfl rfl)
theorem dX1_inherit_68 : decode cX1_inherit 68 = .ok (.istore_n 3, 1) := dk_62 (dk_at dksX1_inherit_2 22 rfl rfl)
theorem dX1_inherit_69 : decode cX1_inherit 69 = .ok (.aload_n 0, 1) := dk_42 (dk_at dksX1_inherit_2 23 rfl rfl)
theorem dX1_inherit_70 : decode cX1_inherit 70 = .ok (.iload_n 2, 1) := dk_28 (dk_at dksX1_inherit_3 0 rfl rfl)
theorem dX1_inherit_71 : decode cX1_inherit 71 = .ok (.iload_n 3, 1) := dk_29 (dk_at dksX1_inherit_3 1 rfl rfl)
theorem dX1_inherit_72 : decode cX1_inherit 72 = .ok (.aload_n 0, 1) := dk_42 (dk_at dksX1_inherit_3 2 rfl rfl)
theorem dX1_inherit_73 : decode cX1_inherit 73 = .ok (.getfield 3, 3) := dk_180 0 3 (dk_at dksX1_inherit_3 3 rfl rfl)
theorem dX1_inherit_76 : decode cX1_inherit 76 = .ok (.iload_n 2, 1) := dk_28 (dk_at dksX1_inherit_3 6 rfl rfl)
theorem dX1_inherit_77 : decode cX1_inherit 77 = .ok (.invokevirtual 55, 3) := dk_182 0 55 (dk_at dksX1_inherit_3 7 rfl rfl)
theorem dX1_inherit_80 : decode cX1_inherit 80 = .ok (.invokevirtual 59, 3) := dk_182 0 59 (dk_at dksX1_inherit_3 10 rfl rfl)
theorem dX1_inherit_83 : decode cX1_inherit 83 = .ok (.invokevirtual 71, 3) := dk_182 0 71 (dk_at dksX1_inherit_3 13 rfl rfl)
theorem dX1_inherit_86 : decode cX1_inherit 86 = .ok (.aload_n 0, 1) := dk_42 (dk_at dksX1_inherit_3 16 rfl rfl)
theorem dX1_inherit_87 : decode cX1_inherit 87 = .ok (.getfield 24, 3) := dk_180 0 24 (dk_at dksX1_inherit_3 17 rfl rfl)
theorem dX1_inherit_90 : decode cX1_inherit 90 = .ok (.iload_n 1, 1) := dk_27 (dk_at dksX1_inherit_3 20 rfl rfl)
theorem dX1_inherit_91 : decode cX1_inherit 91 = .ok (.dup2, 1) := dk_92 (dk_at dksX1_inherit_3 21 rfl rfl)
theorem dX1_inherit_92 : decode cX1_inherit 92 = .ok (.iaload, 1) := dk_46 (dk_at dksX1_inherit_3 22 rfl rfl)
theorem dX1_inherit_93 : decode cX1_inherit 93 = .ok (.aload_n 0, 1) := dk_42 (dk_at dksX1_inherit_3 23 rfl rfl)
theorem dX1_inherit_94 : decode cX1_inherit 94 = .ok (.getfield 24, 3) := dk_180 0 24 (dk_at dksX1_inherit_4 0 rfl rfl)
theorem dX1_inherit_97 : decode cX1_inherit 97 = .ok (.iload_n 1, 1) := dk_27 (dk_at dksX1_inherit_4 3 rfl rfl)
theorem dX1_inherit_98 : decode cX1_inherit 98 = .ok (.iaload, 1) := dk_46 (dk_at dksX1_inherit_4 4 rfl rfl)
theorem dX1_inherit_99 : decode cX1_inherit 99 = .ok (.iconst 1, 1) := dk_4 (dk_at dksX1_inherit_4 5 rfl rfl)
theorem dX1_inherit_100 : decode cX1_inherit 100 = .ok (.isub, 1) := dk_100 (dk_at dksX1_inherit_4 6 rfl rfl)
theorem dX1_inherit_101 : decode cX1_inherit 101 = .ok (.iand, 1) := dk_126 (dk_at dksX1_inherit_4 7 rfl rfl)
theorem dX1_inherit_102 : decode cX1_inherit 102 = .ok (.iastore, 1) := dk_79 (dk_at dksX1_inherit_4 8 rfl rfl)
theorem dX1_inherit_103 : decode cX1_inherit 103 = .ok (.iinc 1 1, 3) := dk_132 1 1 (dk_at dksX1_inherit_4 9 rfl rfl)
theorem dX1_inherit_106 : decode cX1_inherit 106 = .ok (.goto (-104), 3) := dk_167 255 152 (dk_at dksX1_inherit_4 12 rfl rfl)
theorem dX1_inherit_109 : decode cX1_inherit 109 = .ok (.return_, 1) := dk_177 (dk_at dksX1_inherit_4 15 rfl rfl)
abbrev cX1_gains : ByteArray := prog_15_method_3_code
def yX1_gains : MethodName := ⟨RX1, "gains", "(III)V"⟩
def dkwX1_gains_1 : List UInt8 := [177]
abbrev dktX1_gains_1 : List UInt8 := dkwX1_gains_1 ++ []
def dkwX1_gains_0 : List UInt8 := [42, 180, 0, 17, 27, 50, 28, 16, 9, 42, 180, 0, 17, 27, 50, 28, 51, 29, 96, 184, 0, 43, 145, 84]
abbrev dktX1_gains_0 : List UInt8 := dkwX1_gains_0 ++ dktX1_gains_1
theorem dksX1_gains_0 : cX1_gains.data.toList.drop 0 = dktX1_gains_0 := by decide +kernel
theorem dksX1_gains_1 : cX1_gains.data.toList.drop 24 = dktX1_gains_1 := dk_seg dksX1_gains_0 24 rfl rfl
theorem dX1_gains_0 : decode cX1_gains 0 = .ok (.aload_n 0, 1) := dk_42 (dk_at dksX1_gains_0 0 rfl rfl)
theorem dX1_gains_1 : decode cX1_gains 1 = .ok (.getfield 17, 3) := dk_180 0 17 (dk_at dksX1_gains_0 1 rfl rfl)
theorem dX1_gains_4 : decode cX1_gains 4 = .ok (.iload_n 1, 1) := dk_27 (dk_at dksX1_gains_0 4 rfl rfl)
theorem dX1_gains_5 : decode cX1_gains 5 = .ok (.aaload, 1) := dk_50 (dk_at dksX1_gains_0 5 rfl rfl)
theorem dX1_gains_6 : decode cX1_gains 6 = .ok (.iload_n 2, 1) := dk_28 (dk_at dksX1_gains_0 6 rfl rfl)
theorem dX1_gains_7 : decode cX1_gains 7 = .ok (.bipush 9, 2) := dk_16 9 (dk_at dksX1_gains_0 7 rfl rfl)
theorem dX1_gains_9 : decode cX1_gains 9 = .ok (.aload_n 0, 1) := dk_42 (dk_at dksX1_gains_0 9 rfl rfl)
theorem dX1_gains_10 : decode cX1_gains 10 = .ok (.getfield 17, 3) := dk_180 0 17 (dk_at dksX1_gains_0 10 rfl rfl)
theorem dX1_gains_13 : decode cX1_gains 13 = .ok (.iload_n 1, 1) := dk_27 (dk_at dksX1_gains_0 13 rfl rfl)
theorem dX1_gains_14 : decode cX1_gains 14 = .ok (.aaload, 1) := dk_50 (dk_at dksX1_gains_0 14 rfl rfl)
theorem dX1_gains_15 : decode cX1_gains 15 = .ok (.iload_n 2, 1) := dk_28 (dk_at dksX1_gains_0 15 rfl rfl)
theorem dX1_gains_16 : decode cX1_gains 16 = .ok (.baload, 1) := dk_51 (dk_at dksX1_gains_0 16 rfl rfl)
theorem dX1_gains_17 : decode cX1_gains 17 = .ok (.iload_n 3, 1) := dk_29 (dk_at dksX1_gains_0 17 rfl rfl)
theorem dX1_gains_18 : decode cX1_gains 18 = .ok (.iadd, 1) := dk_96 (dk_at dksX1_gains_0 18 rfl rfl)
theorem dX1_gains_19 : decode cX1_gains 19 = .ok (.invokestatic 43, 3) := dk_184 0 43 (dk_at dksX1_gains_0 19 rfl rfl)
theorem dX1_gains_22 : decode cX1_gains 22 = .ok (.i2b, 1) := dk_145 (dk_at dksX1_gains_0 22 rfl rfl)
theorem dX1_gains_23 : decode cX1_gains 23 = .ok (.bastore, 1) := dk_84 (dk_at dksX1_gains_0 23 rfl rfl)
theorem dX1_gains_24 : decode cX1_gains 24 = .ok (.return_, 1) := dk_177 (dk_at dksX1_gains_1 0 rfl rfl)
abbrev cX1_isSilenced : ByteArray := prog_15_method_8_code
def yX1_isSilenced : MethodName := ⟨RX1, "isSilenced", "(I)Z"⟩
def dkwX1_isSilenced_1 : List UInt8 := [180, 0, 3, 28, 182, 0, 55, 182, 0, 81, 153, 0, 5, 4, 172, 132, 2, 1, 167, 255, 217, 3, 172]
abbrev dktX1_isSilenced_1 : List UInt8 := dkwX1_isSilenced_1 ++ []
def dkwX1_isSilenced_0 : List UInt8 := [3, 61, 28, 42, 180, 0, 3, 180, 0, 75, 162, 0, 34, 42, 28, 27, 182, 0, 78, 153, 0, 19, 42]
abbrev dktX1_isSilenced_0 : List UInt8 := dkwX1_isSilenced_0 ++ dktX1_isSilenced_1
theorem dksX1_isSilenced_0 : cX1_isSilenced.data.toList.drop 0 = dktX1_isSilenced_0 := by decide +kernel
theorem dksX1_isSilenced_1 : cX1_isSilenced.data.toList.drop 23 = dktX1_isSilenced_1 := dk_seg dksX1_isSilenced_0 23 rfl rfl
theorem dX1_isSilenced_0 : decode cX1_isSilenced 0 = .ok (.iconst 0, 1) := dk_3 (dk_at dksX1_isSilenced_0 0 rfl rfl)
theorem dX1_isSilenced_1 : decode cX1_isSilenced 1 = .ok (.istore_n 2, 1) := dk_61 (dk_at dksX1_isSilenced_0 1 rfl rfl)
theorem dX1_isSilenced_2 : decode cX1_isSilenced 2 = .ok (.iload_n 2, 1) := dk_28 (dk_at dksX1_isSilenced_0 2 rfl rfl)
theorem dX1_isSilenced_3 : decode cX1_isSilenced 3 = .ok (.aload_n 0, 1) := dk_42 (dk_at dksX1_isSilenced_0 3 rfl rfl)
theorem dX1_isSilenced_4 : decode cX1_isSilenced 4 = .ok (.getfield 3, 3) := dk_180 0 3 (dk_at dksX1_isSilenced_0 4 rfl rfl)
theorem dX1_isSilenced_7 : decode cX1_isSilenced 7 = .ok (.getfield 75, 3) := dk_180 0 75 (dk_at dksX1_isSilenced_0 7 rfl rfl)
theorem dX1_isSilenced_10 : decode cX1_isSilenced 10 = .ok (.if_icmp .ge 34, 3) := dk_162 0 34 (dk_at dksX1_isSilenced_0 10 rfl rfl)
theorem dX1_isSilenced_13 : decode cX1_isSilenced 13 = .ok (.aload_n 0, 1) := dk_42 (dk_at dksX1_isSilenced_0 13 rfl rfl)
theorem dX1_isSilenced_14 : decode cX1_isSilenced 14 = .ok (.iload_n 2, 1) := dk_28 (dk_at dksX1_isSilenced_0 14 rfl rfl)
theorem dX1_isSilenced_15 : decode cX1_isSilenced 15 = .ok (.iload_n 1, 1) := dk_27 (dk_at dksX1_isSilenced_0 15 rfl rfl)
theorem dX1_isSilenced_16 : decode cX1_isSilenced 16 = .ok (.invokevirtual 78, 3) := dk_182 0 78 (dk_at dksX1_isSilenced_0 16 rfl rfl)
theorem dX1_isSilenced_19 : decode cX1_isSilenced 19 = .ok (.ifCond .eq 19, 3) := dk_153 0 19 (dk_at dksX1_isSilenced_0 19 rfl rfl)
theorem dX1_isSilenced_22 : decode cX1_isSilenced 22 = .ok (.aload_n 0, 1) := dk_42 (dk_at dksX1_isSilenced_0 22 rfl rfl)
theorem dX1_isSilenced_23 : decode cX1_isSilenced 23 = .ok (.getfield 3, 3) := dk_180 0 3 (dk_at dksX1_isSilenced_1 0 rfl rfl)
theorem dX1_isSilenced_26 : decode cX1_isSilenced 26 = .ok (.iload_n 2, 1) := dk_28 (dk_at dksX1_isSilenced_1 3 rfl rfl)
theorem dX1_isSilenced_27 : decode cX1_isSilenced 27 = .ok (.invokevirtual 55, 3) := dk_182 0 55 (dk_at dksX1_isSilenced_1 4 rfl rfl)
theorem dX1_isSilenced_30 : decode cX1_isSilenced 30 = .ok (.invokevirtual 81, 3) := dk_182 0 81 (dk_at dksX1_isSilenced_1 7 rfl rfl)
theorem dX1_isSilenced_33 : decode cX1_isSilenced 33 = .ok (.ifCond .eq 5, 3) := dk_153 0 5 (dk_at dksX1_isSilenced_1 10 rfl rfl)
theorem dX1_isSilenced_36 : decode cX1_isSilenced 36 = .ok (.iconst 1, 1) := dk_4 (dk_at dksX1_isSilenced_1 13 rfl rfl)
theorem dX1_isSilenced_37 : decode cX1_isSilenced 37 = .ok (.ireturn, 1) := dk_172 (dk_at dksX1_isSilenced_1 14 rfl rfl)
theorem dX1_isSilenced_38 : decode cX1_isSilenced 38 = .ok (.iinc 2 1, 3) := dk_132 2 1 (dk_at dksX1_isSilenced_1 15 rfl rfl)
theorem dX1_isSilenced_41 : decode cX1_isSilenced 41 = .ok (.goto (-39), 3) := dk_167 255 217 (dk_at dksX1_isSilenced_1 18 rfl rfl)
theorem dX1_isSilenced_44 : decode cX1_isSilenced 44 = .ok (.iconst 0, 1) := dk_3 (dk_at dksX1_isSilenced_1 21 rfl rfl)
theorem dX1_isSilenced_45 : decode cX1_isSilenced 45 = .ok (.ireturn, 1) := dk_172 (dk_at dksX1_isSilenced_1 22 rfl rfl)
abbrev cX1_isUp : ByteArray := prog_15_method_5_code
def yX1_isUp : MethodName := ⟨RX1, "isUp", "(II)Z"⟩
def dkwX1_isUp_1 : List UInt8 := [167, 0, 4, 3, 172]
abbrev dktX1_isUp_1 : List UInt8 := dkwX1_isUp_1 ++ []
def dkwX1_isUp_0 : List UInt8 := [42, 180, 0, 20, 27, 46, 28, 160, 0, 18, 42, 180, 0, 36, 27, 184, 0, 49, 154, 0, 7, 4]
abbrev dktX1_isUp_0 : List UInt8 := dkwX1_isUp_0 ++ dktX1_isUp_1
theorem dksX1_isUp_0 : cX1_isUp.data.toList.drop 0 = dktX1_isUp_0 := by decide +kernel
theorem dksX1_isUp_1 : cX1_isUp.data.toList.drop 22 = dktX1_isUp_1 := dk_seg dksX1_isUp_0 22 rfl rfl
theorem dX1_isUp_0 : decode cX1_isUp 0 = .ok (.aload_n 0, 1) := dk_42 (dk_at dksX1_isUp_0 0 rfl rfl)
theorem dX1_isUp_1 : decode cX1_isUp 1 = .ok (.getfield 20, 3) := dk_180 0 20 (dk_at dksX1_isUp_0 1 rfl rfl)
theorem dX1_isUp_4 : decode cX1_isUp 4 = .ok (.iload_n 1, 1) := dk_27 (dk_at dksX1_isUp_0 4 rfl rfl)
theorem dX1_isUp_5 : decode cX1_isUp 5 = .ok (.iaload, 1) := dk_46 (dk_at dksX1_isUp_0 5 rfl rfl)
theorem dX1_isUp_6 : decode cX1_isUp 6 = .ok (.iload_n 2, 1) := dk_28 (dk_at dksX1_isUp_0 6 rfl rfl)
theorem dX1_isUp_7 : decode cX1_isUp 7 = .ok (.if_icmp .ne 18, 3) := dk_160 0 18 (dk_at dksX1_isUp_0 7 rfl rfl)
theorem dX1_isUp_10 : decode cX1_isUp 10 = .ok (.aload_n 0, 1) := dk_42 (dk_at dksX1_isUp_0 10 rfl rfl)
theorem dX1_isUp_11 : decode cX1_isUp 11 = .ok (.getfield 36, 3) := dk_180 0 36 (dk_at dksX1_isUp_0 11 rfl rfl)
theorem dX1_isUp_14 : decode cX1_isUp 14 = .ok (.iload_n 1, 1) := dk_27 (dk_at dksX1_isUp_0 14 rfl rfl)
theorem dX1_isUp_15 : decode cX1_isUp 15 = .ok (.invokestatic 49, 3) := dk_184 0 49 (dk_at dksX1_isUp_0 15 rfl rfl)
theorem dX1_isUp_18 : decode cX1_isUp 18 = .ok (.ifCond .ne 7, 3) := dk_154 0 7 (dk_at dksX1_isUp_0 18 rfl rfl)
theorem dX1_isUp_21 : decode cX1_isUp 21 = .ok (.iconst 1, 1) := dk_4 (dk_at dksX1_isUp_0 21 rfl rfl)
theorem dX1_isUp_22 : decode cX1_isUp 22 = .ok (.goto 4, 3) := dk_167 0 4 (dk_at dksX1_isUp_1 0 rfl rfl)
theorem dX1_isUp_25 : decode cX1_isUp 25 = .ok (.iconst 0, 1) := dk_3 (dk_at dksX1_isUp_1 3 rfl rfl)
theorem dX1_isUp_26 : decode cX1_isUp 26 = .ok (.ireturn, 1) := dk_172 (dk_at dksX1_isUp_1 4 rfl rfl)
abbrev cX1_speak : ByteArray := prog_15_method_10_code
def yX1_speak : MethodName := ⟨RX1, "speak", "(I)V"⟩
def dkwX1_speak_3 : List UInt8 := [42, 28, 21, 5, 27, 182, 0, 104, 132, 4, 255, 167, 255, 214, 132, 2, 1, 167, 255, 169, 177]
abbrev dktX1_speak_3 : List UInt8 := dkwX1_speak_3 ++ []
def dkwX1_speak_2 : List UInt8 := [180, 0, 17, 28, 50, 29, 182, 0, 100, 54, 5, 21, 5, 2, 159, 0, 18, 29, 4, 21, 5, 120, 128, 62]
abbrev dktX1_speak_2 : List UInt8 := dkwX1_speak_2 ++ dktX1_speak_3
def dkwX1_speak_1 : List UInt8 := [42, 180, 0, 3, 28, 182, 0, 55, 182, 0, 97, 167, 0, 4, 3, 54, 4, 21, 4, 158, 0, 43, 42, 42]
abbrev dktX1_speak_1 : List UInt8 := dkwX1_speak_1 ++ dktX1_speak_2
def dkwX1_speak_0 : List UInt8 := [3, 61, 28, 42, 180, 0, 3, 180, 0, 75, 162, 0, 82, 3, 62, 42, 28, 27, 182, 0, 78, 153, 0, 17]
abbrev dktX1_speak_0 : List UInt8 := dkwX1_speak_0 ++ dktX1_speak_1
theorem dksX1_speak_0 : cX1_speak.data.toList.drop 0 = dktX1_speak_0 := by decide +kernel
theorem dksX1_speak_1 : cX1_speak.data.toList.drop 24 = dktX1_speak_1 := dk_seg dksX1_speak_0 24 rfl rfl
theorem dksX1_speak_2 : cX1_speak.data.toList.drop 48 = dktX1_speak_2 := dk_seg dksX1_speak_1 24 rfl rfl
theorem dksX1_speak_3 : cX1_speak.data.toList.drop 72 = dktX1_speak_3 := dk_seg dksX1_speak_2 24 rfl rfl
theorem dX1_speak_0 : decode cX1_speak 0 = .ok (.iconst 0, 1) := dk_3 (dk_at dksX1_speak_0 0 rfl rfl)
theorem dX1_speak_1 : decode cX1_speak 1 = .ok (.istore_n 2, 1) := dk_61 (dk_at dksX1_speak_0 1 rfl rfl)
theorem dX1_speak_2 : decode cX1_speak 2 = .ok (.iload_n 2, 1) := dk_28 (dk_at dksX1_speak_0 2 rfl rfl)
theorem dX1_speak_3 : decode cX1_speak 3 = .ok (.aload_n 0, 1) := dk_42 (dk_at dksX1_speak_0 3 rfl rfl)
theorem dX1_speak_4 : decode cX1_speak 4 = .ok (.getfield 3, 3) := dk_180 0 3 (dk_at dksX1_speak_0 4 rfl rfl)
theorem dX1_speak_7 : decode cX1_speak 7 = .ok (.getfield 75, 3) := dk_180 0 75 (dk_at dksX1_speak_0 7 rfl rfl)
theorem dX1_speak_10 : decode cX1_speak 10 = .ok (.if_icmp .ge 82, 3) := dk_162 0 82 (dk_at dksX1_speak_0 10 rfl rfl)
theorem dX1_speak_13 : decode cX1_speak 13 = .ok (.iconst 0, 1) := dk_3 (dk_at dksX1_speak_0 13 rfl rfl)
theorem dX1_speak_14 : decode cX1_speak 14 = .ok (.istore_n 3, 1) := dk_62 (dk_at dksX1_speak_0 14 rfl rfl)
theorem dX1_speak_15 : decode cX1_speak 15 = .ok (.aload_n 0, 1) := dk_42 (dk_at dksX1_speak_0 15 rfl rfl)
theorem dX1_speak_16 : decode cX1_speak 16 = .ok (.iload_n 2, 1) := dk_28 (dk_at dksX1_speak_0 16 rfl rfl)
theorem dX1_speak_17 : decode cX1_speak 17 = .ok (.iload_n 1, 1) := dk_27 (dk_at dksX1_speak_0 17 rfl rfl)
theorem dX1_speak_18 : decode cX1_speak 18 = .ok (.invokevirtual 78, 3) := dk_182 0 78 (dk_at dksX1_speak_0 18 rfl rfl)
theorem dX1_speak_21 : decode cX1_speak 21 = .ok (.ifCond .eq 17, 3) := dk_153 0 17 (dk_at dksX1_speak_0 21 rfl rfl)
theorem dX1_speak_24 : decode cX1_speak 24 = .ok (.aload_n 0, 1) := dk_42 (dk_at dksX1_speak_1 0 rfl rfl)
theorem dX1_speak_25 : decode cX1_speak 25 = .ok (.getfield 3, 3) := dk_180 0 3 (dk_at dksX1_speak_1 1 rfl rfl)
theorem dX1_speak_28 : decode cX1_speak 28 = .ok (.iload_n 2, 1) := dk_28 (dk_at dksX1_speak_1 4 rfl rfl)
theorem dX1_speak_29 : decode cX1_speak 29 = .ok (.invokevirtual 55, 3) := dk_182 0 55 (dk_at dksX1_speak_1 5 rfl rfl)
theorem dX1_speak_32 : decode cX1_speak 32 = .ok (.invokevirtual 97, 3) := dk_182 0 97 (dk_at dksX1_speak_1 8 rfl rfl)
theorem dX1_speak_35 : decode cX1_speak 35 = .ok (.goto 4, 3) := dk_167 0 4 (dk_at dksX1_speak_1 11 rfl rfl)
theorem dX1_speak_38 : decode cX1_speak 38 = .ok (.iconst 0, 1) := dk_3 (dk_at dksX1_speak_1 14 rfl rfl)
theorem dX1_speak_39 : decode cX1_speak 39 = .ok (.istore 4, 2) := dk_54 4 (dk_at dksX1_speak_1 15 rfl rfl)
theorem dX1_speak_41 : decode cX1_speak 41 = .ok (.iload 4, 2) := dk_21 4 (dk_at dksX1_speak_1 17 rfl rfl)
theorem dX1_speak_43 : decode cX1_speak 43 = .ok (.ifCond .le 43, 3) := dk_158 0 43 (dk_at dksX1_speak_1 19 rfl rfl)
theorem dX1_speak_46 : decode cX1_speak 46 = .ok (.aload_n 0, 1) := dk_42 (dk_at dksX1_speak_1 22 rfl rfl)
theorem dX1_speak_47 : decode cX1_speak 47 = .ok (.aload_n 0, 1) := dk_42 (dk_at dksX1_speak_1 23 rfl rfl)
theorem dX1_speak_48 : decode cX1_speak 48 = .ok (.getfield 17, 3) := dk_180 0 17 (dk_at dksX1_speak_2 0 rfl rfl)
theorem dX1_speak_51 : decode cX1_speak 51 = .ok (.iload_n 2, 1) := dk_28 (dk_at dksX1_speak_2 3 rfl rfl)
theorem dX1_speak_52 : decode cX1_speak 52 = .ok (.aaload, 1) := dk_50 (dk_at dksX1_speak_2 4 rfl rfl)
theorem dX1_speak_53 : decode cX1_speak 53 = .ok (.iload_n 3, 1) := dk_29 (dk_at dksX1_speak_2 5 rfl rfl)
theorem dX1_speak_54 : decode cX1_speak 54 = .ok (.invokevirtual 100, 3) := dk_182 0 100 (dk_at dksX1_speak_2 6 rfl rfl)
theorem dX1_speak_57 : decode cX1_speak 57 = .ok (.istore 5, 2) := dk_54 5 (dk_at dksX1_speak_2 9 rfl rfl)
theorem dX1_speak_59 : decode cX1_speak 59 = .ok (.iload 5, 2) := dk_21 5 (dk_at dksX1_speak_2 11 rfl rfl)
theorem dX1_speak_61 : decode cX1_speak 61 = .ok (.iconst (-1), 1) := dk_2 (dk_at dksX1_speak_2 13 rfl rfl)
theorem dX1_speak_62 : decode cX1_speak 62 = .ok (.if_icmp .eq 18, 3) := dk_159 0 18 (dk_at dksX1_speak_2 14 rfl rfl)
theorem dX1_speak_65 : decode cX1_speak 65 = .ok (.iload_n 3, 1) := dk_29 (dk_at dksX1_speak_2 17 rfl rfl)
theorem dX1_speak_66 : decode cX1_speak 66 = .ok (.iconst 1, 1) := dk_4 (dk_at dksX1_speak_2 18 rfl rfl)
theorem dX1_speak_67 : decode cX1_speak 67 = .ok (.iload 5, 2) := dk_21 5 (dk_at dksX1_speak_2 19 rfl rfl)
theorem dX1_speak_69 : decode cX1_speak 69 = .ok (.ishl, 1) := dk_120 (dk_at dksX1_speak_2 21 rfl rfl)
theorem dX1_speak_70 : decode cX1_speak 70 = .ok (.ior, 1) := dk_128 (dk_at dksX1_speak_2 22 rfl rfl)
theorem dX1_speak_71 : decode cX1_speak 71 = .ok (.istore_n 3, 1) := dk_62 (dk_at dksX1_speak_2 23 rfl rfl)
theorem dX1_speak_72 : decode cX1_speak 72 = .ok (.aload_n 0, 1) := dk_42 (dk_at dksX1_speak_3 0 rfl rfl)
theorem dX1_speak_73 : decode cX1_speak 73 = .ok (.iload_n 2, 1) := dk_28 (dk_at dksX1_speak_3 1 rfl rfl)
theorem dX1_speak_74 : decode cX1_speak 74 = .ok (.iload 5, 2) := dk_21 5 (dk_at dksX1_speak_3 2 rfl rfl)
theorem dX1_speak_76 : decode cX1_speak 76 = .ok (.iload_n 1, 1) := dk_27 (dk_at dksX1_speak_3 4 rfl rfl)
theorem dX1_speak_77 : decode cX1_speak 77 = .ok (.invokevirtual 104, 3) := dk_182 0 104 (dk_at dksX1_speak_3 5 rfl rfl)
theorem dX1_speak_80 : decode cX1_speak 80 = .ok (.iinc 4 (-1), 3) := dk_132 4 255 (dk_at dksX1_speak_3 8 rfl rfl)
theorem dX1_speak_83 : decode cX1_speak 83 = .ok (.goto (-42), 3) := dk_167 255 214 (dk_at dksX1_speak_3 11 rfl rfl)
theorem dX1_speak_86 : decode cX1_speak 86 = .ok (.iinc 2 1, 3) := dk_132 2 1 (dk_at dksX1_speak_3 14 rfl rfl)
theorem dX1_speak_89 : decode cX1_speak 89 = .ok (.goto (-87), 3) := dk_167 255 169 (dk_at dksX1_speak_3 17 rfl rfl)
theorem dX1_speak_92 : decode cX1_speak 92 = .ok (.return_, 1) := dk_177 (dk_at dksX1_speak_3 20 rfl rfl)
abbrev cX1_best : ByteArray := prog_15_method_6_code
def yX1_best : MethodName := ⟨RX1, "best", "([BI)I"⟩
def dkwX1_best_2 : List UInt8 := [21, 4, 51, 43, 29, 51, 164, 0, 8, 21, 4, 167, 0, 4, 29, 62, 132, 4, 1, 167, 255, 196, 29, 172]
abbrev dktX1_best_2 : List UInt8 := dkwX1_best_2 ++ []
def dkwX1_best_1 : List UInt8 := [184, 0, 49, 154, 0, 7, 4, 167, 0, 4, 3, 54, 5, 21, 5, 153, 0, 23, 29, 2, 159, 0, 13, 43]
abbrev dktX1_best_1 : List UInt8 := dkwX1_best_1 ++ dktX1_best_2
def dkwX1_best_0 : List UInt8 := [2, 62, 3, 54, 4, 21, 4, 16, 10, 162, 0, 59, 43, 21, 4, 51, 158, 0, 16, 28, 21, 4]
abbrev dktX1_best_0 : List UInt8 := dkwX1_best_0 ++ dktX1_best_1
theorem dksX1_best_0 : cX1_best.data.toList.drop 0 = dktX1_best_0 := by decide +kernel
theorem dksX1_best_1 : cX1_best.data.toList.drop 22 = dktX1_best_1 := dk_seg dksX1_best_0 22 rfl rfl
theorem dksX1_best_2 : cX1_best.data.toList.drop 46 = dktX1_best_2 := dk_seg dksX1_best_1 24 rfl rfl
theorem dX1_best_0 : decode cX1_best 0 = .ok (.iconst (-1), 1) := dk_2 (dk_at dksX1_best_0 0 rfl rfl)
theorem dX1_best_1 : decode cX1_best 1 = .ok (.istore_n 3, 1) := dk_62 (dk_at dksX1_best_0 1 rfl rfl)
theorem dX1_best_2 : decode cX1_best 2 = .ok (.iconst 0, 1) := dk_3 (dk_at dksX1_best_0 2 rfl rfl)
theorem dX1_best_3 : decode cX1_best 3 = .ok (.istore 4, 2) := dk_54 4 (dk_at dksX1_best_0 3 rfl rfl)
theorem dX1_best_5 : decode cX1_best 5 = .ok (.iload 4, 2) := dk_21 4 (dk_at dksX1_best_0 5 rfl rfl)
theorem dX1_best_7 : decode cX1_best 7 = .ok (.bipush 10, 2) := dk_16 10 (dk_at dksX1_best_0 7 rfl rfl)
theorem dX1_best_9 : decode cX1_best 9 = .ok (.if_icmp .ge 59, 3) := dk_162 0 59 (dk_at dksX1_best_0 9 rfl rfl)
theorem dX1_best_12 : decode cX1_best 12 = .ok (.aload_n 1, 1) := dk_43 (dk_at dksX1_best_0 12 rfl rfl)
theorem dX1_best_13 : decode cX1_best 13 = .ok (.iload 4, 2) := dk_21 4 (dk_at dksX1_best_0 13 rfl rfl)
theorem dX1_best_15 : decode cX1_best 15 = .ok (.baload, 1) := dk_51 (dk_at dksX1_best_0 15 rfl rfl)
theorem dX1_best_16 : decode cX1_best 16 = .ok (.ifCond .le 16, 3) := dk_158 0 16 (dk_at dksX1_best_0 16 rfl rfl)
theorem dX1_best_19 : decode cX1_best 19 = .ok (.iload_n 2, 1) := dk_28 (dk_at dksX1_best_0 19 rfl rfl)
theorem dX1_best_20 : decode cX1_best 20 = .ok (.iload 4, 2) := dk_21 4 (dk_at dksX1_best_0 20 rfl rfl)
theorem dX1_best_22 : decode cX1_best 22 = .ok (.invokestatic 49, 3) := dk_184 0 49 (dk_at dksX1_best_1 0 rfl rfl)
theorem dX1_best_25 : decode cX1_best 25 = .ok (.ifCond .ne 7, 3) := dk_154 0 7 (dk_at dksX1_best_1 3 rfl rfl)
theorem dX1_best_28 : decode cX1_best 28 = .ok (.iconst 1, 1) := dk_4 (dk_at dksX1_best_1 6 rfl rfl)
theorem dX1_best_29 : decode cX1_best 29 = .ok (.goto 4, 3) := dk_167 0 4 (dk_at dksX1_best_1 7 rfl rfl)
theorem dX1_best_32 : decode cX1_best 32 = .ok (.iconst 0, 1) := dk_3 (dk_at dksX1_best_1 10 rfl rfl)
theorem dX1_best_33 : decode cX1_best 33 = .ok (.istore 5, 2) := dk_54 5 (dk_at dksX1_best_1 11 rfl rfl)
theorem dX1_best_35 : decode cX1_best 35 = .ok (.iload 5, 2) := dk_21 5 (dk_at dksX1_best_1 13 rfl rfl)
theorem dX1_best_37 : decode cX1_best 37 = .ok (.ifCond .eq 23, 3) := dk_153 0 23 (dk_at dksX1_best_1 15 rfl rfl)
theorem dX1_best_40 : decode cX1_best 40 = .ok (.iload_n 3, 1) := dk_29 (dk_at dksX1_best_1 18 rfl rfl)
theorem dX1_best_41 : decode cX1_best 41 = .ok (.iconst (-1), 1) := dk_2 (dk_at dksX1_best_1 19 rfl rfl)
theorem dX1_best_42 : decode cX1_best 42 = .ok (.if_icmp .eq 13, 3) := dk_159 0 13 (dk_at dksX1_best_1 20 rfl rfl)
theorem dX1_best_45 : decode cX1_best 45 = .ok (.aload_n 1, 1) := dk_43 (dk_at dksX1_best_1 23 rfl rfl)
theorem dX1_best_46 : decode cX1_best 46 = .ok (.iload 4, 2) := dk_21 4 (dk_at dksX1_best_2 0 rfl rfl)
theorem dX1_best_48 : decode cX1_best 48 = .ok (.baload, 1) := dk_51 (dk_at dksX1_best_2 2 rfl rfl)
theorem dX1_best_49 : decode cX1_best 49 = .ok (.aload_n 1, 1) := dk_43 (dk_at dksX1_best_2 3 rfl rfl)
theorem dX1_best_50 : decode cX1_best 50 = .ok (.iload_n 3, 1) := dk_29 (dk_at dksX1_best_2 4 rfl rfl)
theorem dX1_best_51 : decode cX1_best 51 = .ok (.baload, 1) := dk_51 (dk_at dksX1_best_2 5 rfl rfl)
theorem dX1_best_52 : decode cX1_best 52 = .ok (.if_icmp .le 8, 3) := dk_164 0 8 (dk_at dksX1_best_2 6 rfl rfl)
theorem dX1_best_55 : decode cX1_best 55 = .ok (.iload 4, 2) := dk_21 4 (dk_at dksX1_best_2 9 rfl rfl)
theorem dX1_best_57 : decode cX1_best 57 = .ok (.goto 4, 3) := dk_167 0 4 (dk_at dksX1_best_2 11 rfl rfl)
theorem dX1_best_60 : decode cX1_best 60 = .ok (.iload_n 3, 1) := dk_29 (dk_at dksX1_best_2 14 rfl rfl)
theorem dX1_best_61 : decode cX1_best 61 = .ok (.istore_n 3, 1) := dk_62 (dk_at dksX1_best_2 15 rfl rfl)
theorem dX1_best_62 : decode cX1_best 62 = .ok (.iinc 4 1, 3) := dk_132 4 1 (dk_at dksX1_best_2 16 rfl rfl)
theorem dX1_best_65 : decode cX1_best 65 = .ok (.goto (-60), 3) := dk_167 255 196 (dk_at dksX1_best_2 19 rfl rfl)
theorem dX1_best_68 : decode cX1_best 68 = .ok (.iload_n 3, 1) := dk_29 (dk_at dksX1_best_2 22 rfl rfl)
theorem dX1_best_69 : decode cX1_best 69 = .ok (.ireturn, 1) := dk_172 (dk_at dksX1_best_2 23 rfl rfl)
abbrev cX1_say : ByteArray := prog_15_method_9_code
def yX1_say : MethodName := ⟨RX1, "say", "(III)V"⟩
def dkwX1_say_3 : List UInt8 := [180, 0, 3, 21, 4, 182, 0, 55, 182, 0, 94, 182, 0, 71, 132, 4, 1, 167, 255, 206, 177]
abbrev dktX1_say_3 : List UInt8 := dkwX1_say_3 ++ []
def dkwX1_say_2 : List UInt8 := [162, 0, 44, 21, 4, 27, 159, 0, 32, 42, 21, 4, 29, 182, 0, 78, 153, 0, 22, 42, 21, 4, 28, 42]
abbrev dktX1_say_2 : List UInt8 := dkwX1_say_2 ++ dktX1_say_3
def dkwX1_say_1 : List UInt8 := [180, 0, 91, 90, 4, 96, 181, 0, 91, 28, 79, 3, 54, 4, 21, 4, 42, 180, 0, 3, 180, 0, 75]
abbrev dktX1_say_1 : List UInt8 := dkwX1_say_1 ++ dktX1_say_2
def dkwX1_say_0 : List UInt8 := [42, 180, 0, 3, 180, 0, 85, 29, 160, 0, 26, 42, 180, 0, 3, 180, 0, 88, 42, 180, 0, 3, 89]
abbrev dktX1_say_0 : List UInt8 := dkwX1_say_0 ++ dktX1_say_1
theorem dksX1_say_0 : cX1_say.data.toList.drop 0 = dktX1_say_0 := by decide +kernel
theorem dksX1_say_1 : cX1_say.data.toList.drop 23 = dktX1_say_1 := dk_seg dksX1_say_0 23 rfl rfl
theorem dksX1_say_2 : cX1_say.data.toList.drop 46 = dktX1_say_2 := dk_seg dksX1_say_1 23 rfl rfl
theorem dksX1_say_3 : cX1_say.data.toList.drop 70 = dktX1_say_3 := dk_seg dksX1_say_2 24 rfl rfl
theorem dX1_say_0 : decode cX1_say 0 = .ok (.aload_n 0, 1) := dk_42 (dk_at dksX1_say_0 0 rfl rfl)
theorem dX1_say_1 : decode cX1_say 1 = .ok (.getfield 3, 3) := dk_180 0 3 (dk_at dksX1_say_0 1 rfl rfl)
theorem dX1_say_4 : decode cX1_say 4 = .ok (.getfield 85, 3) := dk_180 0 85 (dk_at dksX1_say_0 4 rfl rfl)
theorem dX1_say_7 : decode cX1_say 7 = .ok (.iload_n 3, 1) := dk_29 (dk_at dksX1_say_0 7 rfl rfl)
theorem dX1_say_8 : decode cX1_say 8 = .ok (.if_icmp .ne 26, 3) := dk_160 0 26 (dk_at dksX1_say_0 8 rfl rfl)
theorem dX1_say_11 : decode cX1_say 11 = .ok (.aload_n 0, 1) := dk_42 (dk_at dksX1_say_0 11 rfl rfl)
theorem dX1_say_12 : decode cX1_say 12 = .ok (.getfield 3, 3) := dk_180 0 3 (dk_at dksX1_say_0 12 rfl rfl)
theorem dX1_say_15 : decode cX1_say 15 = .ok (.getfield 88, 3) := dk_180 0 88 (dk_at dksX1_say_0 15 rfl rfl)
theorem dX1_say_18 : decode cX1_say 18 = .ok (.aload_n 0, 1) := dk_42 (dk_at dksX1_say_0 18 rfl rfl)
theorem dX1_say_19 : decode cX1_say 19 = .ok (.getfield 3, 3) := dk_180 0 3 (dk_at dksX1_say_0 19 rfl rfl)
theorem dX1_say_22 : decode cX1_say 22 = .ok (.dup, 1) := dk_89 (dk_at dksX1_say_0 22 rfl rfl)
theorem dX1_say_23 : decode cX1_say 23 = .ok (.getfield 91, 3) := dk_180 0 91 (dk_at dksX1_say_1 0 rfl rfl)
theorem dX1_say_26 : decode cX1_say 26 = .ok (.dup_x1, 1) := dk_90 (dk_at dksX1_say_1 3 rfl rfl)
theorem dX1_say_27 : decode cX1_say 27 = .ok (.iconst 1, 1) := dk_4 (dk_at dksX1_say_1 4 rfl rfl)
theorem dX1_say_28 : decode cX1_say 28 = .ok (.iadd, 1) := dk_96 (dk_at dksX1_say_1 5 rfl rfl)
theorem dX1_say_29 : decode cX1_say 29 = .ok (.putfield 91, 3) := dk_181 0 91 (dk_at dksX1_say_1 6 rfl rfl)
theorem dX1_say_32 : decode cX1_say 32 = .ok (.iload_n 2, 1) := dk_28 (dk_at dksX1_say_1 9 rfl rfl)
theorem dX1_say_33 : decode cX1_say 33 = .ok (.iastore, 1) := dk_79 (dk_at dksX1_say_1 10 rfl rfl)
theorem dX1_say_34 : decode cX1_say 34 = .ok (.iconst 0, 1) := dk_3 (dk_at dksX1_say_1 11 rfl rfl)
theorem dX1_say_35 : decode cX1_say 35 = .ok (.istore 4, 2) := dk_54 4 (dk_at dksX1_say_1 12 rfl rfl)
theorem dX1_say_37 : decode cX1_say 37 = .ok (.iload 4, 2) := dk_21 4 (dk_at dksX1_say_1 14 rfl rfl)
theorem dX1_say_39 : decode cX1_say 39 = .ok (.aload_n 0, 1) := dk_42 (dk_at dksX1_say_1 16 rfl rfl)
theorem dX1_say_40 : decode cX1_say 40 = .ok (.getfield 3, 3) := dk_180 0 3 (dk_at dksX1_say_1 17 rfl rfl)
theorem dX1_say_43 : decode cX1_say 43 = .ok (.getfield 75, 3) := dk_180 0 75 (dk_at dksX1_say_1 20 rfl rfl)
theorem dX1_say_46 : decode cX1_say 46 = .ok (.if_icmp .ge 44, 3) := dk_162 0 44 (dk_at dksX1_say_2 0 rfl rfl)
theorem dX1_say_49 : decode cX1_say 49 = .ok (.iload 4, 2) := dk_21 4 (dk_at dksX1_say_2 3 rfl rfl)
theorem dX1_say_51 : decode cX1_say 51 = .ok (.iload_n 1, 1) := dk_27 (dk_at dksX1_say_2 5 rfl rfl)
theorem dX1_say_52 : decode cX1_say 52 = .ok (.if_icmp .eq 32, 3) := dk_159 0 32 (dk_at dksX1_say_2 6 rfl rfl)
theorem dX1_say_55 : decode cX1_say 55 = .ok (.aload_n 0, 1) := dk_42 (dk_at dksX1_say_2 9 rfl rfl)
theorem dX1_say_56 : decode cX1_say 56 = .ok (.iload 4, 2) := dk_21 4 (dk_at dksX1_say_2 10 rfl rfl)
theorem dX1_say_58 : decode cX1_say 58 = .ok (.iload_n 3, 1) := dk_29 (dk_at dksX1_say_2 12 rfl rfl)
theorem dX1_say_59 : decode cX1_say 59 = .ok (.invokevirtual 78, 3) := dk_182 0 78 (dk_at dksX1_say_2 13 rfl rfl)
theorem dX1_say_62 : decode cX1_say 62 = .ok (.ifCond .eq 22, 3) := dk_153 0 22 (dk_at dksX1_say_2 16 rfl rfl)
theorem dX1_say_65 : decode cX1_say 65 = .ok (.aload_n 0, 1) := dk_42 (dk_at dksX1_say_2 19 rfl rfl)
theorem dX1_say_66 : decode cX1_say 66 = .ok (.iload 4, 2) := dk_21 4 (dk_at dksX1_say_2 20 rfl rfl)
theorem dX1_say_68 : decode cX1_say 68 = .ok (.iload_n 2, 1) := dk_28 (dk_at dksX1_say_2 22 rfl rfl)
theorem dX1_say_69 : decode cX1_say 69 = .ok (.aload_n 0, 1) := dk_42 (dk_at dksX1_say_2 23 rfl rfl)
theorem dX1_say_70 : decode cX1_say 70 = .ok (.getfield 3, 3) := dk_180 0 3 (dk_at dksX1_say_3 0 rfl rfl)
theorem dX1_say_73 : decode cX1_say 73 = .ok (.iload 4, 2) := dk_21 4 (dk_at dksX1_say_3 3 rfl rfl)
theorem dX1_say_75 : decode cX1_say 75 = .ok (.invokevirtual 55, 3) := dk_182 0 55 (dk_at dksX1_say_3 5 rfl rfl)
theorem dX1_say_78 : decode cX1_say 78 = .ok (.invokevirtual 94, 3) := dk_182 0 94 (dk_at dksX1_say_3 8 rfl rfl)
theorem dX1_say_81 : decode cX1_say 81 = .ok (.invokevirtual 71, 3) := dk_182 0 71 (dk_at dksX1_say_3 11 rfl rfl)
theorem dX1_say_84 : decode cX1_say 84 = .ok (.iinc 4 1, 3) := dk_132 4 1 (dk_at dksX1_say_3 14 rfl rfl)
theorem dX1_say_87 : decode cX1_say 87 = .ok (.goto (-50), 3) := dk_167 255 206 (dk_at dksX1_say_3 17 rfl rfl)
theorem dX1_say_90 : decode cX1_say 90 = .ok (.return_, 1) := dk_177 (dk_at dksX1_say_3 20 rfl rfl)
abbrev cX1_lose : ByteArray := prog_15_method_11_code
def yX1_lose : MethodName := ⟨RX1, "lose", "()V"⟩
def dkwX1_lose_3 : List UInt8 := [27, 182, 0, 55, 182, 0, 107, 145, 100, 145, 84, 132, 2, 1, 167, 255, 189, 132, 1, 1, 167, 255, 170, 177]
abbrev dktX1_lose_3 : List UInt8 := dkwX1_lose_3 ++ []
def dkwX1_lose_2 : List UInt8 := [180, 0, 17, 27, 50, 28, 51, 8, 162, 0, 27, 42, 180, 0, 17, 27, 50, 28, 92, 51, 42, 180, 0, 3]
abbrev dktX1_lose_2 : List UInt8 := dkwX1_lose_2 ++ dktX1_lose_3
def dkwX1_lose_1 : List UInt8 := [180, 0, 36, 27, 184, 0, 49, 154, 0, 56, 42, 180, 0, 17, 27, 50, 28, 51, 158, 0, 39, 42]
abbrev dktX1_lose_1 : List UInt8 := dkwX1_lose_1 ++ dktX1_lose_2
def dkwX1_lose_0 : List UInt8 := [3, 60, 27, 42, 180, 0, 3, 180, 0, 75, 162, 0, 81, 3, 61, 28, 16, 10, 162, 0, 67, 42]
abbrev dktX1_lose_0 : List UInt8 := dkwX1_lose_0 ++ dktX1_lose_1
theorem dksX1_lose_0 : cX1_lose.data.toList.drop 0 = dktX1_lose_0 := by decide +kernel
theorem dksX1_lose_1 : cX1_lose.data.toList.drop 22 = dktX1_lose_1 := dk_seg dksX1_lose_0 22 rfl rfl
theorem dksX1_lose_2 : cX1_lose.data.toList.drop 44 = dktX1_lose_2 := dk_seg dksX1_lose_1 22 rfl rfl
theorem dksX1_lose_3 : cX1_lose.data.toList.drop 68 = dktX1_lose_3 := dk_seg dksX1_lose_2 24 rfl rfl
theorem dX1_lose_0 : decode cX1_lose 0 = .ok (.iconst 0, 1) := dk_3 (dk_at dksX1_lose_0 0 rfl rfl)
theorem dX1_lose_1 : decode cX1_lose 1 = .ok (.istore_n 1, 1) := dk_60 (dk_at dksX1_lose_0 1 rfl rfl)
theorem dX1_lose_2 : decode cX1_lose 2 = .ok (.iload_n 1, 1) := dk_27 (dk_at dksX1_lose_0 2 rfl rfl)
theorem dX1_lose_3 : decode cX1_lose 3 = .ok (.aload_n 0, 1) := dk_42 (dk_at dksX1_lose_0 3 rfl rfl)
theorem dX1_lose_4 : decode cX1_lose 4 = .ok (.getfield 3, 3) := dk_180 0 3 (dk_at dksX1_lose_0 4 rfl rfl)
theorem dX1_lose_7 : decode cX1_lose 7 = .ok (.getfield 75, 3) := dk_180 0 75 (dk_at dksX1_lose_0 7 rfl rfl)
theorem dX1_lose_10 : decode cX1_lose 10 = .ok (.if_icmp .ge 81, 3) := dk_162 0 81 (dk_at dksX1_lose_0 10 rfl rfl)
theorem dX1_lose_13 : decode cX1_lose 13 = .ok (.iconst 0, 1) := dk_3 (dk_at dksX1_lose_0 13 rfl rfl)
theorem dX1_lose_14 : decode cX1_lose 14 = .ok (.istore_n 2, 1) := dk_61 (dk_at dksX1_lose_0 14 rfl rfl)
theorem dX1_lose_15 : decode cX1_lose 15 = .ok (.iload_n 2, 1) := dk_28 (dk_at dksX1_lose_0 15 rfl rfl)
theorem dX1_lose_16 : decode cX1_lose 16 = .ok (.bipush 10, 2) := dk_16 10 (dk_at dksX1_lose_0 16 rfl rfl)
theorem dX1_lose_18 : decode cX1_lose 18 = .ok (.if_icmp .ge 67, 3) := dk_162 0 67 (dk_at dksX1_lose_0 18 rfl rfl)
theorem dX1_lose_21 : decode cX1_lose 21 = .ok (.aload_n 0, 1) := dk_42 (dk_at dksX1_lose_0 21 rfl rfl)
theorem dX1_lose_22 : decode cX1_lose 22 = .ok (.getfield 36, 3) := dk_180 0 36 (dk_at dksX1_lose_1 0 rfl rfl)
theorem dX1_lose_25 : decode cX1_lose 25 = .ok (.iload_n 1, 1) := dk_27 (dk_at dksX1_lose_1 3 rfl rfl)
theorem dX1_lose_26 : decode cX1_lose 26 = .ok (.invokestatic 49, 3) := dk_184 0 49 (dk_at dksX1_lose_1 4 rfl rfl)
theorem dX1_lose_29 : decode cX1_lose 29 = .ok (.ifCond .ne 56, 3) := dk_154 0 56 (dk_at dksX1_lose_1 7 rfl rfl)
theorem dX1_lose_32 : decode cX1_lose 32 = .ok (.aload_n 0, 1) := dk_42 (dk_at dksX1_lose_1 10 rfl rfl)
theorem dX1_lose_33 : decode cX1_lose 33 = .ok (.getfield 17, 3) := dk_180 0 17 (dk_at dksX1_lose_1 11 rfl rfl)
theorem dX1_lose_36 : decode cX1_lose 36 = .ok (.iload_n 1, 1) := dk_27 (dk_at dksX1_lose_1 14 rfl rfl)
theorem dX1_lose_37 : decode cX1_lose 37 = .ok (.aaload, 1) := dk_50 (dk_at dksX1_lose_1 15 rfl rfl)
theorem dX1_lose_38 : decode cX1_lose 38 = .ok (.iload_n 2, 1) := dk_28 (dk_at dksX1_lose_1 16 rfl rfl)
theorem dX1_lose_39 : decode cX1_lose 39 = .ok (.baload, 1) := dk_51 (dk_at dksX1_lose_1 17 rfl rfl)
theorem dX1_lose_40 : decode cX1_lose 40 = .ok (.ifCond .le 39, 3) := dk_158 0 39 (dk_at dksX1_lose_1 18 rfl rfl)
theorem dX1_lose_43 : decode cX1_lose 43 = .ok (.aload_n 0, 1) := dk_42 (dk_at dksX1_lose_1 21 rfl rfl)
theorem dX1_lose_44 : decode cX1_lose 44 = .ok (.getfield 17, 3) := dk_180 0 17 (dk_at dksX1_lose_2 0 rfl rfl)
theorem dX1_lose_47 : decode cX1_lose 47 = .ok (.iload_n 1, 1) := dk_27 (dk_at dksX1_lose_2 3 rfl rfl)
theorem dX1_lose_48 : decode cX1_lose 48 = .ok (.aaload, 1) := dk_50 (dk_at dksX1_lose_2 4 rfl rfl)
theorem dX1_lose_49 : decode cX1_lose 49 = .ok (.iload_n 2, 1) := dk_28 (dk_at dksX1_lose_2 5 rfl rfl)
theorem dX1_lose_50 : decode cX1_lose 50 = .ok (.baload, 1) := dk_51 (dk_at dksX1_lose_2 6 rfl rfl)
theorem dX1_lose_51 : decode cX1_lose 51 = .ok (.iconst 5, 1) := dk_8 (dk_at dksX1_lose_2 7 rfl rfl)
theorem dX1_lose_52 : decode cX1_lose 52 = .ok (.if_icmp .ge 27, 3) := dk_162 0 27 (dk_at dksX1_lose_2 8 rfl rfl)
theorem dX1_lose_55 : decode cX1_lose 55 = .ok (.aload_n 0, 1) := dk_42 (dk_at dksX1_lose_2 11 rfl rfl)
theorem dX1_lose_56 : decode cX1_lose 56 = .ok (.getfield 17, 3) := dk_180 0 17 (dk_at dksX1_lose_2 12 rfl rfl)
theorem dX1_lose_59 : decode cX1_lose 59 = .ok (.iload_n 1, 1) := dk_27 (dk_at dksX1_lose_2 15 rfl rfl)
theorem dX1_lose_60 : decode cX1_lose 60 = .ok (.aaload, 1) := dk_50 (dk_at dksX1_lose_2 16 rfl rfl)
theorem dX1_lose_61 : decode cX1_lose 61 = .ok (.iload_n 2, 1) := dk_28 (dk_at dksX1_lose_2 17 rfl rfl)
theorem dX1_lose_62 : decode cX1_lose 62 = .ok (.dup2, 1) := dk_92 (dk_at dksX1_lose_2 18 rfl rfl)
theorem dX1_lose_63 : decode cX1_lose 63 = .ok (.baload, 1) := dk_51 (dk_at dksX1_lose_2 19 rfl rfl)
theorem dX1_lose_64 : decode cX1_lose 64 = .ok (.aload_n 0, 1) := dk_42 (dk_at dksX1_lose_2 20 rfl rfl)
theorem dX1_lose_65 : decode cX1_lose 65 = .ok (.getfield 3, 3) := dk_180 0 3 (dk_at dksX1_lose_2 21 rfl rfl)
theorem dX1_lose_68 : decode cX1_lose 68 = .ok (.iload_n 1, 1) := dk_27 (dk_at dksX1_lose_3 0 rfl rfl)
theorem dX1_lose_69 : decode cX1_lose 69 = .ok (.invokevirtual 55, 3) := dk_182 0 55 (dk_at dksX1_lose_3 1 rfl rfl)
theorem dX1_lose_72 : decode cX1_lose 72 = .ok (.invokevirtual 107, 3) := dk_182 0 107 (dk_at dksX1_lose_3 4 rfl rfl)
theorem dX1_lose_75 : decode cX1_lose 75 = .ok (.i2b, 1) := dk_145 (dk_at dksX1_lose_3 7 rfl rfl)
theorem dX1_lose_76 : decode cX1_lose 76 = .ok (.isub, 1) := dk_100 (dk_at dksX1_lose_3 8 rfl rfl)
theorem dX1_lose_77 : decode cX1_lose 77 = .ok (.i2b, 1) := dk_145 (dk_at dksX1_lose_3 9 rfl rfl)
theorem dX1_lose_78 : decode cX1_lose 78 = .ok (.bastore, 1) := dk_84 (dk_at dksX1_lose_3 10 rfl rfl)
theorem dX1_lose_79 : decode cX1_lose 79 = .ok (.iinc 2 1, 3) := dk_132 2 1 (dk_at dksX1_lose_3 11 rfl rfl)
theorem dX1_lose_82 : decode cX1_lose 82 = .ok (.goto (-67), 3) := dk_167 255 189 (dk_at dksX1_lose_3 14 rfl rfl)
theorem dX1_lose_85 : decode cX1_lose 85 = .ok (.iinc 1 1, 3) := dk_132 1 1 (dk_at dksX1_lose_3 17 rfl rfl)
theorem dX1_lose_88 : decode cX1_lose 88 = .ok (.goto (-86), 3) := dk_167 255 170 (dk_at dksX1_lose_3 20 rfl rfl)
theorem dX1_lose_91 : decode cX1_lose 91 = .ok (.return_, 1) := dk_177 (dk_at dksX1_lose_3 23 rfl rfl)
abbrev cX1_sit : ByteArray := prog_15_method_15_code
def yX1_sit : MethodName := ⟨RX1, "sit", "(II)V"⟩
def dkwX1_sit_1 : List UInt8 := [29, 2, 79, 42, 180, 0, 27, 27, 28, 79, 177]
abbrev dktX1_sit_1 : List UInt8 := dkwX1_sit_1 ++ []
def dkwX1_sit_0 : List UInt8 := [28, 2, 160, 0, 7, 2, 167, 0, 8, 42, 28, 182, 0, 128, 62, 29, 2, 159, 0, 10, 42, 180, 0, 27]
abbrev dktX1_sit_0 : List UInt8 := dkwX1_sit_0 ++ dktX1_sit_1
theorem dksX1_sit_0 : cX1_sit.data.toList.drop 0 = dktX1_sit_0 := by decide +kernel
theorem dksX1_sit_1 : cX1_sit.data.toList.drop 24 = dktX1_sit_1 := dk_seg dksX1_sit_0 24 rfl rfl
theorem dX1_sit_0 : decode cX1_sit 0 = .ok (.iload_n 2, 1) := dk_28 (dk_at dksX1_sit_0 0 rfl rfl)
theorem dX1_sit_1 : decode cX1_sit 1 = .ok (.iconst (-1), 1) := dk_2 (dk_at dksX1_sit_0 1 rfl rfl)
theorem dX1_sit_2 : decode cX1_sit 2 = .ok (.if_icmp .ne 7, 3) := dk_160 0 7 (dk_at dksX1_sit_0 2 rfl rfl)
theorem dX1_sit_5 : decode cX1_sit 5 = .ok (.iconst (-1), 1) := dk_2 (dk_at dksX1_sit_0 5 rfl rfl)
theorem dX1_sit_6 : decode cX1_sit 6 = .ok (.goto 8, 3) := dk_167 0 8 (dk_at dksX1_sit_0 6 rfl rfl)
theorem dX1_sit_9 : decode cX1_sit 9 = .ok (.aload_n 0, 1) := dk_42 (dk_at dksX1_sit_0 9 rfl rfl)
theorem dX1_sit_10 : decode cX1_sit 10 = .ok (.iload_n 2, 1) := dk_28 (dk_at dksX1_sit_0 10 rfl rfl)
theorem dX1_sit_11 : decode cX1_sit 11 = .ok (.invokevirtual 128, 3) := dk_182 0 128 (dk_at dksX1_sit_0 11 rfl rfl)
theorem dX1_sit_14 : decode cX1_sit 14 = .ok (.istore_n 3, 1) := dk_62 (dk_at dksX1_sit_0 14 rfl rfl)
theorem dX1_sit_15 : decode cX1_sit 15 = .ok (.iload_n 3, 1) := dk_29 (dk_at dksX1_sit_0 15 rfl rfl)
theorem dX1_sit_16 : decode cX1_sit 16 = .ok (.iconst (-1), 1) := dk_2 (dk_at dksX1_sit_0 16 rfl rfl)
theorem dX1_sit_17 : decode cX1_sit 17 = .ok (.if_icmp .eq 10, 3) := dk_159 0 10 (dk_at dksX1_sit_0 17 rfl rfl)
theorem dX1_sit_20 : decode cX1_sit 20 = .ok (.aload_n 0, 1) := dk_42 (dk_at dksX1_sit_0 20 rfl rfl)
theorem dX1_sit_21 : decode cX1_sit 21 = .ok (.getfield 27, 3) := dk_180 0 27 (dk_at dksX1_sit_0 21 rfl rfl)
theorem dX1_sit_24 : decode cX1_sit 24 = .ok (.iload_n 3, 1) := dk_29 (dk_at dksX1_sit_1 0 rfl rfl)
theorem dX1_sit_25 : decode cX1_sit 25 = .ok (.iconst (-1), 1) := dk_2 (dk_at dksX1_sit_1 1 rfl rfl)
theorem dX1_sit_26 : decode cX1_sit 26 = .ok (.iastore, 1) := dk_79 (dk_at dksX1_sit_1 2 rfl rfl)
theorem dX1_sit_27 : decode cX1_sit 27 = .ok (.aload_n 0, 1) := dk_42 (dk_at dksX1_sit_1 3 rfl rfl)
theorem dX1_sit_28 : decode cX1_sit 28 = .ok (.getfield 27, 3) := dk_180 0 27 (dk_at dksX1_sit_1 4 rfl rfl)
theorem dX1_sit_31 : decode cX1_sit 31 = .ok (.iload_n 1, 1) := dk_27 (dk_at dksX1_sit_1 7 rfl rfl)
theorem dX1_sit_32 : decode cX1_sit 32 = .ok (.iload_n 2, 1) := dk_28 (dk_at dksX1_sit_1 8 rfl rfl)
theorem dX1_sit_33 : decode cX1_sit 33 = .ok (.iastore, 1) := dk_79 (dk_at dksX1_sit_1 9 rfl rfl)
theorem dX1_sit_34 : decode cX1_sit 34 = .ok (.return_, 1) := dk_177 (dk_at dksX1_sit_1 10 rfl rfl)
theorem q89 : (Jvm.Cond.initialized "ParrotSpeech$State") ∈ lw_all := lw_g (lw_at lw_m1 2 rfl) rfl
theorem q143 : (Jvm.Cond.instantiable "ParrotSpeech$State" (7 : Nat)) ∈ lw_all := lw_g (lw_at lw_m1 56 rfl) rfl
theorem q145 : (Jvm.Cond.instanceMethod ({ cls := "ParrotSpeech$State", name := "<init>", desc := "(LParrotSpeech;)V" } : Jvm.MethodName)) ∈ lw_all := lw_g (lw_at lw_m1 58 rfl) rfl
theorem q146 : (Jvm.Cond.code ({ cls := "ParrotSpeech$State", name := "<init>", desc := "(LParrotSpeech;)V" } : Jvm.MethodName) prog_15_method_1_code (2 : Nat) (Option.none : Option Jvm.ClassFile.FieldType)) ∈ lw_all := lw_g (lw_at lw_m1 59 rfl) rfl
theorem q147 : (Jvm.Cond.methodLink "ParrotSpeech$State" (9 : Nat) ({ cls := "java/lang/Object", name := "<init>", desc := "()V" } : Jvm.MethodName)) ∈ lw_all := lw_g (lw_at lw_m1 60 rfl) rfl
theorem q148 : (Jvm.Cond.classLink "ParrotSpeech$State" (15 : Nat) "[[B") ∈ lw_all := lw_g (lw_at lw_m1 61 rfl) rfl
theorem q150 : (Jvm.Cond.fieldLink "ParrotSpeech$State" (17 : Nat) "ParrotSpeech$State" "known" "[[B") ∈ lw_all := lw_g (lw_at lw_m1 63 rfl) rfl
theorem q152 : (Jvm.Cond.fieldLink "ParrotSpeech$State" (20 : Nat) "ParrotSpeech$State" "perch" "[I") ∈ lw_all := lw_g (lw_at lw_m1 65 rfl) rfl
theorem q154 : (Jvm.Cond.fieldLink "ParrotSpeech$State" (24 : Nat) "ParrotSpeech$State" "has" "[I") ∈ lw_all := lw_g (lw_at lw_m1 67 rfl) rfl
theorem q156 : (Jvm.Cond.fieldLink "ParrotSpeech$State" (27 : Nat) "ParrotSpeech$State" "by" "[I") ∈ lw_all := lw_g (lw_at lw_m1 69 rfl) rfl
theorem q159 : (Jvm.Cond.fieldLink "ParrotSpeech$State" (36 : Nat) "ParrotSpeech$State" "covered" "I") ∈ lw_all := lw_g (lw_at lw_m1 72 rfl) rfl
theorem q161 : (Jvm.Cond.fieldLink "ParrotSpeech$State" (40 : Nat) "ParrotSpeech$State" "evening" "I") ∈ lw_all := lw_g (lw_at lw_m1 74 rfl) rfl
theorem q163 : (Jvm.Cond.fieldLink "ParrotSpeech$State" (3 : Nat) "ParrotSpeech$State" "this$0" "LParrotSpeech;") ∈ lw_all := lw_g (lw_at lw_m1 76 rfl) rfl
theorem q164 : (Jvm.Cond.laysFinal "ParrotSpeech$State" "ParrotSpeech$State" "known" "[[B") ∈ lw_all := lw_g (lw_at lw_m1 77 rfl) rfl
theorem q165 : (Jvm.Cond.soleField "ParrotSpeech$State" "known") ∈ lw_all := lw_g (lw_at lw_m1 78 rfl) rfl
theorem q166 : (Jvm.Cond.laysFinal "ParrotSpeech$State" "ParrotSpeech$State" "perch" "[I") ∈ lw_all := lw_g (lw_at lw_m1 79 rfl) rfl
theorem q167 : (Jvm.Cond.soleField "ParrotSpeech$State" "perch") ∈ lw_all := lw_g (lw_at lw_m1 80 rfl) rfl
theorem q168 : (Jvm.Cond.laysFinal "ParrotSpeech$State" "ParrotSpeech$State" "has" "[I") ∈ lw_all := lw_g (lw_at lw_m1 81 rfl) rfl
theorem q169 : (Jvm.Cond.soleField "ParrotSpeech$State" "has") ∈ lw_all := lw_g (lw_at lw_m1 82 rfl) rfl
theorem q170 : (Jvm.Cond.laysFinal "ParrotSpeech$State" "ParrotSpeech$State" "by" "[I") ∈ lw_all := lw_g (lw_at lw_m1 83 rfl) rfl
theorem q171 : (Jvm.Cond.soleField "ParrotSpeech$State" "by") ∈ lw_all := lw_g (lw_at lw_m1 84 rfl) rfl
theorem q172 : (Jvm.Cond.lays "ParrotSpeech$State" "ParrotSpeech$State" "covered" "I") ∈ lw_all := lw_g (lw_at lw_m1 85 rfl) rfl
theorem q173 : (Jvm.Cond.soleField "ParrotSpeech$State" "covered") ∈ lw_all := lw_g (lw_at lw_m1 86 rfl) rfl
theorem q174 : (Jvm.Cond.lays "ParrotSpeech$State" "ParrotSpeech$State" "evening" "I") ∈ lw_all := lw_g (lw_at lw_m1 87 rfl) rfl
theorem q175 : (Jvm.Cond.soleField "ParrotSpeech$State" "evening") ∈ lw_all := lw_g (lw_at lw_m1 88 rfl) rfl
theorem q176 : (Jvm.Cond.laysFinal "ParrotSpeech$State" "ParrotSpeech$State" "this$0" "LParrotSpeech;") ∈ lw_all := lw_g (lw_at lw_m1 89 rfl) rfl
theorem q177 : (Jvm.Cond.soleField "ParrotSpeech$State" "this$0") ∈ lw_all := lw_g (lw_at lw_m1 90 rfl) rfl
theorem q178 : (Jvm.Cond.superclass "ParrotSpeech$State" "java/lang/Object") ∈ lw_all := lw_g (lw_at lw_m1 91 rfl) rfl
theorem q197 : (Jvm.Cond.instanceMethod ({ cls := "ParrotSpeech$State", name := "set", desc := "(LParrotSpeech$State;)LParrotSpeech$State;" } : Jvm.MethodName)) ∈ lw_all := lw_g (lw_at lw_m1 110 rfl) rfl
theorem q198 : (Jvm.Cond.selects "ParrotSpeech$State" ({ cls := "ParrotSpeech$State", name := "set", desc := "(LParrotSpeech$State;)LParrotSpeech$State;" } : Jvm.MethodName) ({ cls := "ParrotSpeech$State", name := "set", desc := "(LParrotSpeech$State;)LParrotSpeech$State;" } : Jvm.MethodName)) ∈ lw_all := lw_g (lw_at lw_m1 111 rfl) rfl
theorem q199 : (Jvm.Cond.code ({ cls := "ParrotSpeech$State", name := "set", desc := "(LParrotSpeech$State;)LParrotSpeech$State;" } : Jvm.MethodName) prog_15_method_2_code (3 : Nat) (Option.some (Jvm.ClassFile.FieldType.object "ParrotSpeech$State"))) ∈ lw_all := lw_g (lw_at lw_m1 112 rfl) rfl
theorem q200 : (Jvm.Cond.methodLink "ParrotSpeech$State" (30 : Nat) ({ cls := "java/lang/System", name := "arraycopy", desc := "(Ljava/lang/Object;ILjava/lang/Object;II)V" } : Jvm.MethodName)) ∈ lw_all := lw_g (lw_at lw_m1 113 rfl) rfl
theorem q209 : (Jvm.Cond.fieldLinkNest "ParrotSpeech$State" (75 : Nat) "ParrotSpeech" "many" "I" "ParrotSpeech") ∈ lw_tbl := lw_at lw_m1 122 rfl
theorem q211 : (Jvm.Cond.fieldLinkNest "ParrotSpeech$State" (52 : Nat) "ParrotSpeech" "menMany" "I" "ParrotSpeech") ∈ lw_tbl := lw_at lw_m1 124 rfl
theorem q214 : (Jvm.Cond.fieldLinkNest "ParrotSpeech$State" (88 : Nat) "ParrotSpeech" "said" "[I" "ParrotSpeech") ∈ lw_tbl := lw_at lw_m1 127 rfl
theorem q217 : (Jvm.Cond.fieldLinkNest "ParrotSpeech$State" (91 : Nat) "ParrotSpeech" "saidMany" "I" "ParrotSpeech") ∈ lw_tbl := lw_at lw_m1 130 rfl
theorem q219 : (Jvm.Cond.fieldLinkNest "ParrotSpeech$State" (85 : Nat) "ParrotSpeech" "listened" "I" "ParrotSpeech") ∈ lw_tbl := lw_at lw_m1 132 rfl
theorem q721 : (Jvm.Cond.selects "ParrotSpeech$State" ({ cls := "java/lang/Object", name := "equals", desc := "(Ljava/lang/Object;)Z" } : Jvm.MethodName) ({ cls := "java/lang/Object", name := "equals", desc := "(Ljava/lang/Object;)Z" } : Jvm.MethodName)) ∈ lw_all := lw_g (lw_at lw_m3 154 rfl) rfl
theorem q978 : (Jvm.Cond.selects "ParrotSpeech$State" ({ cls := "java/lang/Object", name := "getClass", desc := "()Ljava/lang/Class;" } : Jvm.MethodName) ({ cls := "java/lang/Object", name := "getClass", desc := "()Ljava/lang/Class;" } : Jvm.MethodName)) ∈ lw_all := lw_g (lw_at lw_m4 171 rfl) rfl
theorem q1223 : (Jvm.Cond.instanceMethod ({ cls := "ParrotSpeech$State", name := "owner", desc := "(I)I" } : Jvm.MethodName)) ∈ lw_all := lw_g (lw_at lw_m5 176 rfl) rfl
theorem q1224 : (Jvm.Cond.selects "ParrotSpeech$State" ({ cls := "ParrotSpeech$State", name := "owner", desc := "(I)I" } : Jvm.MethodName) ({ cls := "ParrotSpeech$State", name := "owner", desc := "(I)I" } : Jvm.MethodName)) ∈ lw_all := lw_g (lw_at lw_m5 177 rfl) rfl
theorem q1225 : (Jvm.Cond.code ({ cls := "ParrotSpeech$State", name := "owner", desc := "(I)I" } : Jvm.MethodName) prog_15_method_14_code (3 : Nat) (Option.some Jvm.ClassFile.FieldType.int)) ∈ lw_all := lw_g (lw_at lw_m5 178 rfl) rfl
theorem q1227 : (Jvm.Cond.instanceMethod ({ cls := "ParrotSpeech$State", name := "well", desc := "(I)I" } : Jvm.MethodName)) ∈ lw_all := lw_g (lw_at lw_m5 180 rfl) rfl
theorem q1228 : (Jvm.Cond.selects "ParrotSpeech$State" ({ cls := "ParrotSpeech$State", name := "well", desc := "(I)I" } : Jvm.MethodName) ({ cls := "ParrotSpeech$State", name := "well", desc := "(I)I" } : Jvm.MethodName)) ∈ lw_all := lw_g (lw_at lw_m5 181 rfl) rfl
theorem q1229 : (Jvm.Cond.code ({ cls := "ParrotSpeech$State", name := "well", desc := "(I)I" } : Jvm.MethodName) prog_15_method_4_code (4 : Nat) (Option.some Jvm.ClassFile.FieldType.int)) ∈ lw_all := lw_g (lw_at lw_m5 182 rfl) rfl
theorem q1248 : (Jvm.Cond.instanceMethod ({ cls := "ParrotSpeech$State", name := "go", desc := "(I)LParrotSpeech$State;" } : Jvm.MethodName)) ∈ lw_all := lw_g (lw_at lw_m5 201 rfl) rfl
theorem q1249 : (Jvm.Cond.selects "ParrotSpeech$State" ({ cls := "ParrotSpeech$State", name := "go", desc := "(I)LParrotSpeech$State;" } : Jvm.MethodName) ({ cls := "ParrotSpeech$State", name := "go", desc := "(I)LParrotSpeech$State;" } : Jvm.MethodName)) ∈ lw_all := lw_g (lw_at lw_m5 202 rfl) rfl
theorem q1250 : (Jvm.Cond.code ({ cls := "ParrotSpeech$State", name := "go", desc := "(I)LParrotSpeech$State;" } : Jvm.MethodName) prog_15_method_13_code (3 : Nat) (Option.some (Jvm.ClassFile.FieldType.object "ParrotSpeech$State"))) ∈ lw_all := lw_g (lw_at lw_m5 203 rfl) rfl
theorem q1251 : (Jvm.Cond.methodLink "ParrotSpeech$State" (124 : Nat) ({ cls := "ParrotSpeech$State", name := "pass", desc := "()LParrotSpeech$State;" } : Jvm.MethodName)) ∈ lw_all := lw_g (lw_at lw_m5 204 rfl) rfl
theorem q1252 : (Jvm.Cond.instanceMethod ({ cls := "ParrotSpeech$State", name := "pass", desc := "()LParrotSpeech$State;" } : Jvm.MethodName)) ∈ lw_all := lw_g (lw_at lw_m5 205 rfl) rfl
theorem q1253 : (Jvm.Cond.selects "ParrotSpeech$State" ({ cls := "ParrotSpeech$State", name := "pass", desc := "()LParrotSpeech$State;" } : Jvm.MethodName) ({ cls := "ParrotSpeech$State", name := "pass", desc := "()LParrotSpeech$State;" } : Jvm.MethodName)) ∈ lw_all := lw_g (lw_at lw_m5 206 rfl) rfl
theorem q1254 : (Jvm.Cond.code ({ cls := "ParrotSpeech$State", name := "pass", desc := "()LParrotSpeech$State;" } : Jvm.MethodName) prog_15_method_12_code (2 : Nat) (Option.some (Jvm.ClassFile.FieldType.object "ParrotSpeech$State"))) ∈ lw_all := lw_g (lw_at lw_m5 207 rfl) rfl
theorem q1255 : (Jvm.Cond.methodLink "ParrotSpeech$State" (110 : Nat) ({ cls := "ParrotSpeech$State", name := "inherit", desc := "()V" } : Jvm.MethodName)) ∈ lw_all := lw_g (lw_at lw_m5 208 rfl) rfl
theorem q1256 : (Jvm.Cond.privateMethod ({ cls := "ParrotSpeech$State", name := "inherit", desc := "()V" } : Jvm.MethodName)) ∈ lw_tbl := lw_at lw_m5 209 rfl
theorem q1257 : (Jvm.Cond.instanceMethod ({ cls := "ParrotSpeech$State", name := "inherit", desc := "()V" } : Jvm.MethodName)) ∈ lw_all := lw_g (lw_at lw_m5 210 rfl) rfl
theorem q1258 : (Jvm.Cond.code ({ cls := "ParrotSpeech$State", name := "inherit", desc := "()V" } : Jvm.MethodName) prog_15_method_7_code (4 : Nat) (Option.none : Option Jvm.ClassFile.FieldType)) ∈ lw_all := lw_g (lw_at lw_m5 211 rfl) rfl
theorem q1259 : (Jvm.Cond.methodLinkNest "ParrotSpeech$State" (49 : Nat) ({ cls := "ParrotSpeech", name := "has", desc := "(II)Z" } : Jvm.MethodName) "ParrotSpeech") ∈ lw_tbl := lw_at lw_m5 212 rfl
theorem q1262 : (Jvm.Cond.methodLinkNest "ParrotSpeech$State" (55 : Nat) ({ cls := "ParrotSpeech", name := "bird", desc := "(I)LParrotSpeech$Bird;" } : Jvm.MethodName) "ParrotSpeech") ∈ lw_tbl := lw_at lw_m5 215 rfl
theorem q1303 : (Jvm.Cond.methodLink "ParrotSpeech$State" (65 : Nat) ({ cls := "java/lang/Integer", name := "numberOfTrailingZeros", desc := "(I)I" } : Jvm.MethodName)) ∈ lw_all := lw_g (lw_at lw_m6 16 rfl) rfl
theorem q1304 : (Jvm.Cond.methodLink "ParrotSpeech$State" (71 : Nat) ({ cls := "ParrotSpeech$State", name := "gains", desc := "(III)V" } : Jvm.MethodName)) ∈ lw_all := lw_g (lw_at lw_m6 17 rfl) rfl
theorem q1305 : (Jvm.Cond.instanceMethod ({ cls := "ParrotSpeech$State", name := "gains", desc := "(III)V" } : Jvm.MethodName)) ∈ lw_all := lw_g (lw_at lw_m6 18 rfl) rfl
theorem q1306 : (Jvm.Cond.selects "ParrotSpeech$State" ({ cls := "ParrotSpeech$State", name := "gains", desc := "(III)V" } : Jvm.MethodName) ({ cls := "ParrotSpeech$State", name := "gains", desc := "(III)V" } : Jvm.MethodName)) ∈ lw_all := lw_g (lw_at lw_m6 19 rfl) rfl
theorem q1307 : (Jvm.Cond.code ({ cls := "ParrotSpeech$State", name := "gains", desc := "(III)V" } : Jvm.MethodName) prog_15_method_3_code (4 : Nat) (Option.none : Option Jvm.ClassFile.FieldType)) ∈ lw_all := lw_g (lw_at lw_m6 20 rfl) rfl
theorem q1308 : (Jvm.Cond.methodLink "ParrotSpeech$State" (43 : Nat) ({ cls := "java/lang/Math", name := "min", desc := "(II)I" } : Jvm.MethodName)) ∈ lw_all := lw_g (lw_at lw_m6 21 rfl) rfl
theorem q1309 : (Jvm.Cond.methodLink "ParrotSpeech$State" (113 : Nat) ({ cls := "ParrotSpeech$State", name := "isSilenced", desc := "(I)Z" } : Jvm.MethodName)) ∈ lw_all := lw_g (lw_at lw_m6 22 rfl) rfl
theorem q1310 : (Jvm.Cond.privateMethod ({ cls := "ParrotSpeech$State", name := "isSilenced", desc := "(I)Z" } : Jvm.MethodName)) ∈ lw_tbl := lw_at lw_m6 23 rfl
theorem q1311 : (Jvm.Cond.instanceMethod ({ cls := "ParrotSpeech$State", name := "isSilenced", desc := "(I)Z" } : Jvm.MethodName)) ∈ lw_all := lw_g (lw_at lw_m6 24 rfl) rfl
theorem q1312 : (Jvm.Cond.code ({ cls := "ParrotSpeech$State", name := "isSilenced", desc := "(I)Z" } : Jvm.MethodName) prog_15_method_8_code (3 : Nat) (Option.some Jvm.ClassFile.FieldType.boolean)) ∈ lw_all := lw_g (lw_at lw_m6 25 rfl) rfl
theorem q1313 : (Jvm.Cond.methodLink "ParrotSpeech$State" (78 : Nat) ({ cls := "ParrotSpeech$State", name := "isUp", desc := "(II)Z" } : Jvm.MethodName)) ∈ lw_all := lw_g (lw_at lw_m6 26 rfl) rfl
theorem q1314 : (Jvm.Cond.instanceMethod ({ cls := "ParrotSpeech$State", name := "isUp", desc := "(II)Z" } : Jvm.MethodName)) ∈ lw_all := lw_g (lw_at lw_m6 27 rfl) rfl
theorem q1315 : (Jvm.Cond.selects "ParrotSpeech$State" ({ cls := "ParrotSpeech$State", name := "isUp", desc := "(II)Z" } : Jvm.MethodName) ({ cls := "ParrotSpeech$State", name := "isUp", desc := "(II)Z" } : Jvm.MethodName)) ∈ lw_all := lw_g (lw_at lw_m6 28 rfl) rfl
theorem q1316 : (Jvm.Cond.code ({ cls := "ParrotSpeech$State", name := "isUp", desc := "(II)Z" } : Jvm.MethodName) prog_15_method_5_code (3 : Nat) (Option.some Jvm.ClassFile.FieldType.boolean)) ∈ lw_all := lw_g (lw_at lw_m6 29 rfl) rfl
theorem q1352 : (Jvm.Cond.methodLink "ParrotSpeech$State" (117 : Nat) ({ cls := "ParrotSpeech$State", name := "speak", desc := "(I)V" } : Jvm.MethodName)) ∈ lw_all := lw_g (lw_at lw_m6 65 rfl) rfl
theorem q1353 : (Jvm.Cond.privateMethod ({ cls := "ParrotSpeech$State", name := "speak", desc := "(I)V" } : Jvm.MethodName)) ∈ lw_tbl := lw_at lw_m6 66 rfl
theorem q1354 : (Jvm.Cond.instanceMethod ({ cls := "ParrotSpeech$State", name := "speak", desc := "(I)V" } : Jvm.MethodName)) ∈ lw_all := lw_g (lw_at lw_m6 67 rfl) rfl
theorem q1355 : (Jvm.Cond.code ({ cls := "ParrotSpeech$State", name := "speak", desc := "(I)V" } : Jvm.MethodName) prog_15_method_10_code (6 : Nat) (Option.none : Option Jvm.ClassFile.FieldType)) ∈ lw_all := lw_g (lw_at lw_m6 68 rfl) rfl
theorem q1356 : (Jvm.Cond.methodLink "ParrotSpeech$State" (100 : Nat) ({ cls := "ParrotSpeech$State", name := "best", desc := "([BI)I" } : Jvm.MethodName)) ∈ lw_all := lw_g (lw_at lw_m6 69 rfl) rfl
theorem q1357 : (Jvm.Cond.privateMethod ({ cls := "ParrotSpeech$State", name := "best", desc := "([BI)I" } : Jvm.MethodName)) ∈ lw_tbl := lw_at lw_m6 70 rfl
theorem q1358 : (Jvm.Cond.instanceMethod ({ cls := "ParrotSpeech$State", name := "best", desc := "([BI)I" } : Jvm.MethodName)) ∈ lw_all := lw_g (lw_at lw_m6 71 rfl) rfl
theorem q1359 : (Jvm.Cond.code ({ cls := "ParrotSpeech$State", name := "best", desc := "([BI)I" } : Jvm.MethodName) prog_15_method_6_code (6 : Nat) (Option.some Jvm.ClassFile.FieldType.int)) ∈ lw_all := lw_g (lw_at lw_m6 72 rfl) rfl
theorem q1360 : (Jvm.Cond.methodLink "ParrotSpeech$State" (104 : Nat) ({ cls := "ParrotSpeech$State", name := "say", desc := "(III)V" } : Jvm.MethodName)) ∈ lw_all := lw_g (lw_at lw_m6 73 rfl) rfl
theorem q1361 : (Jvm.Cond.privateMethod ({ cls := "ParrotSpeech$State", name := "say", desc := "(III)V" } : Jvm.MethodName)) ∈ lw_tbl := lw_at lw_m6 74 rfl
theorem q1362 : (Jvm.Cond.instanceMethod ({ cls := "ParrotSpeech$State", name := "say", desc := "(III)V" } : Jvm.MethodName)) ∈ lw_all := lw_g (lw_at lw_m6 75 rfl) rfl
theorem q1363 : (Jvm.Cond.code ({ cls := "ParrotSpeech$State", name := "say", desc := "(III)V" } : Jvm.MethodName) prog_15_method_9_code (5 : Nat) (Option.none : Option Jvm.ClassFile.FieldType)) ∈ lw_all := lw_g (lw_at lw_m6 76 rfl) rfl
theorem q1364 : (Jvm.Cond.methodLink "ParrotSpeech$State" (121 : Nat) ({ cls := "ParrotSpeech$State", name := "lose", desc := "()V" } : Jvm.MethodName)) ∈ lw_all := lw_g (lw_at lw_m6 77 rfl) rfl
theorem q1365 : (Jvm.Cond.privateMethod ({ cls := "ParrotSpeech$State", name := "lose", desc := "()V" } : Jvm.MethodName)) ∈ lw_tbl := lw_at lw_m6 78 rfl
theorem q1366 : (Jvm.Cond.instanceMethod ({ cls := "ParrotSpeech$State", name := "lose", desc := "()V" } : Jvm.MethodName)) ∈ lw_all := lw_g (lw_at lw_m6 79 rfl) rfl
theorem q1367 : (Jvm.Cond.code ({ cls := "ParrotSpeech$State", name := "lose", desc := "()V" } : Jvm.MethodName) prog_15_method_11_code (3 : Nat) (Option.none : Option Jvm.ClassFile.FieldType)) ∈ lw_all := lw_g (lw_at lw_m6 80 rfl) rfl
theorem q1439 : (Jvm.Cond.instanceMethod ({ cls := "ParrotSpeech$State", name := "sit", desc := "(II)V" } : Jvm.MethodName)) ∈ lw_all := lw_g (lw_at lw_m6 152 rfl) rfl
theorem q1440 : (Jvm.Cond.selects "ParrotSpeech$State" ({ cls := "ParrotSpeech$State", name := "sit", desc := "(II)V" } : Jvm.MethodName) ({ cls := "ParrotSpeech$State", name := "sit", desc := "(II)V" } : Jvm.MethodName)) ∈ lw_all := lw_g (lw_at lw_m6 153 rfl) rfl
theorem q1441 : (Jvm.Cond.code ({ cls := "ParrotSpeech$State", name := "sit", desc := "(II)V" } : Jvm.MethodName) prog_15_method_15_code (4 : Nat) (Option.none : Option Jvm.ClassFile.FieldType)) ∈ lw_all := lw_g (lw_at lw_m6 154 rfl) rfl
theorem q1442 : (Jvm.Cond.methodLink "ParrotSpeech$State" (128 : Nat) ({ cls := "ParrotSpeech$State", name := "owner", desc := "(I)I" } : Jvm.MethodName)) ∈ lw_all := lw_g (lw_at lw_m6 155 rfl) rfl
theorem q2270 : (Jvm.Cond.castable "ParrotSpeech$State" "java/lang/Object") ∈ lw_tbl := lw_at lw_m10 23 rfl
theorem in_X1 : ∀ w ∈ wsX10, w ∈ lw_all := lw_in wsX10 [164, 166, 168, 170, 172, 174, 176] (by decide +kernel) (by decide +kernel)

/-! ParrotSpeech$Reader -/
set_option maxRecDepth 100000
def RX3 : String := "ParrotSpeech$Reader"
def TX3 : u_T := fun k => match k with
  | 0 => ("ParrotSpeech$Reader", "here", "I", false)
  | 1 => ("ParrotSpeech$Reader", "first", "I", false)
  | 2 => ("ParrotSpeech$Reader", "word", "Ljava/lang/String;", false)
  | 3 => ("ParrotSpeech$Reader", "single", "Z", true)
  | 4 => ("ParrotSpeech$Reader", "there", "I", false)
  | 5 => ("ParrotSpeech$Reader", "menThere", "I", false)
  | 6 => ("ParrotSpeech$Reader", "by", "[I", true)
  | 7 => ("ParrotSpeech$Reader", "deep", "I", false)
  | 8 => ("ParrotSpeech$Reader", "leaves", "I", false)
  | 9 => ("ParrotSpeech$Reader", "clauses", "[[I", true)
  | 10 => ("ParrotSpeech$Reader", "read", "I", false)
  | _ => ("ParrotSpeech$Reader", "this$0", "LParrotSpeech;", true)
def tyX3 : Nat → FieldType := fun k => match k with
  | 0 => .int
  | 1 => .int
  | 2 => .object "java/lang/String"
  | 3 => .boolean
  | 4 => .int
  | 5 => .int
  | 6 => .array .int
  | 7 => .int
  | 8 => .int
  | 9 => .array (.array .int)
  | 10 => .int
  | _ => .object "ParrotSpeech"
abbrev wsX30 : List Cond := u_ws RX3 TX3 12
theorem nmX3 : ∀ a, a < 12 → ∀ b, b < 12 → a ≠ b → (TX3 a).2.1 ≠ (TX3 b).2.1 := by decide +kernel
theorem tyX3_ok : ∀ k, k < 12 → parseFieldDescriptor (TX3 k).2.2.1 = some (tyX3 k) := by decide +kernel
abbrev cX3_init : ByteArray := prog_13_method_1_code
def yX3_init : MethodName := ⟨RX3, "<init>", "(LParrotSpeech;Z)V"⟩
def dkwX3_init_3 : List UInt8 := [181, 0, 54, 177]
abbrev dktX3_init_3 : List UInt8 := dkwX3_init_3 ++ []
def dkwX3_init_2 : List UInt8 := [180, 0, 38, 182, 0, 44, 192, 0, 45, 181, 0, 49, 42, 16, 20, 189, 0, 45, 181, 0, 50, 42, 28]
abbrev dktX3_init_2 : List UInt8 := dkwX3_init_2 ++ dktX3_init_3
def dkwX3_init_1 : List UInt8 := [181, 0, 25, 42, 42, 180, 0, 3, 180, 0, 28, 181, 0, 31, 42, 42, 180, 0, 3, 180, 0, 34]
abbrev dktX3_init_1 : List UInt8 := dkwX3_init_1 ++ dktX3_init_2
def dkwX3_init_0 : List UInt8 := [42, 43, 181, 0, 3, 42, 183, 0, 9, 42, 18, 15, 181, 0, 17, 42, 42, 180, 0, 3, 180, 0, 21]
abbrev dktX3_init_0 : List UInt8 := dkwX3_init_0 ++ dktX3_init_1
theorem dksX3_init_0 : cX3_init.data.toList.drop 0 = dktX3_init_0 := by decide +kernel
theorem dksX3_init_1 : cX3_init.data.toList.drop 23 = dktX3_init_1 := dk_seg dksX3_init_0 23 rfl rfl
theorem dksX3_init_2 : cX3_init.data.toList.drop 45 = dktX3_init_2 := dk_seg dksX3_init_1 22 rfl rfl
theorem dksX3_init_3 : cX3_init.data.toList.drop 68 = dktX3_init_3 := dk_seg dksX3_init_2 23 rfl rfl
theorem dX3_init_0 : decode cX3_init 0 = .ok (.aload_n 0, 1) := dk_42 (dk_at dksX3_init_0 0 rfl rfl)
theorem dX3_init_1 : decode cX3_init 1 = .ok (.aload_n 1, 1) := dk_43 (dk_at dksX3_init_0 1 rfl rfl)
theorem dX3_init_2 : decode cX3_init 2 = .ok (.putfield 3, 3) := dk_181 0 3 (dk_at dksX3_init_0 2 rfl rfl)
theorem dX3_init_5 : decode cX3_init 5 = .ok (.aload_n 0, 1) := dk_42 (dk_at dksX3_init_0 5 rfl rfl)
theorem dX3_init_6 : decode cX3_init 6 = .ok (.invokespecial 9, 3) := dk_183 0 9 (dk_at dksX3_init_0 6 rfl rfl)
theorem dX3_init_9 : decode cX3_init 9 = .ok (.aload_n 0, 1) := dk_42 (dk_at dksX3_init_0 9 rfl rfl)
theorem dX3_init_10 : decode cX3_init 10 = .ok (.ldc 15, 2) := dk_18 15 (dk_at dksX3_init_0 10 rfl rfl)
theorem dX3_init_12 : decode cX3_init 12 = .ok (.putfield 17, 3) := dk_181 0 17 (dk_at dksX3_init_0 12 rfl rfl)
theorem dX3_init_15 : decode cX3_init 15 = .ok (.aload_n 0, 1) := dk_42 (dk_at dksX3_init_0 15 rfl rfl)
theorem dX3_init_16 : decode cX3_init 16 = .ok (.aload_n 0, 1) := dk_42 (dk_at dksX3_init_0 16 rfl rfl)
theorem dX3_init_17 : decode cX3_init 17 = .ok (.getfield 3, 3) := dk_180 0 3 (dk_at dksX3_init_0 17 rfl rfl)
theorem dX3_init_20 : decode cX3_init 20 = .ok (.getfield 21, 3) := dk_180 0 21 (dk_at dksX3_init_0 20 rfl rfl)
theorem dX3_init_23 : decode cX3_init 23 = .ok (.putfield 25, 3) := dk_181 0 25 (dk_at dksX3_init_1 0 rfl rfl)
theorem dX3_init_26 : decode cX3_init 26 = .ok (.aload_n 0, 1) := dk_42 (dk_at dksX3_init_1 3 rfl rfl)
theorem dX3_init_27 : decode cX3_init 27 = .ok (.aload_n 0, 1) := dk_42 (dk_at dksX3_init_1 4 rfl rfl)
theorem dX3_init_28 : decode cX3_init 28 = .ok (.getfield 3, 3) := dk_180 0 3 (dk_at dksX3_init_1 5 rfl rfl)
theorem dX3_init_31 : decode cX3_init 31 = .ok (.getfield 28, 3) := dk_180 0 28 (dk_at dksX3_init_1 8 rfl rfl)
theorem dX3_init_34 : decode cX3_init 34 = .ok (.putfield 31, 3) := dk_181 0 31 (dk_at dksX3_init_1 11 rfl rfl)
theorem dX3_init_37 : decode cX3_init 37 = .ok (.aload_n 0, 1) := dk_42 (dk_at dksX3_init_1 14 rfl rfl)
theorem dX3_init_38 : decode cX3_init 38 = .ok (.aload_n 0, 1) := dk_42 (dk_at dksX3_init_1 15 rfl rfl)
theorem dX3_init_39 : decode cX3_init 39 = .ok (.getfield 3, 3) := dk_180 0 3 (dk_at dksX3_init_1 16 rfl rfl)
theorem dX3_init_42 : decode cX3_init 42 = .ok (.getfield 34, 3) := dk_180 0 34 (dk_at dksX3_init_1 19 rfl rfl)
theorem dX3_init_45 : decode cX3_init 45 = .ok (.getfield 38, 3) := dk_180 0 38 (dk_at dksX3_init_2 0 rfl rfl)
theorem dX3_init_48 : decode cX3_init 48 = .ok (.invokevirtual 44, 3) := dk_182 0 44 (dk_at dksX3_init_2 3 rfl rfl)
theorem dX3_init_51 : decode cX3_init 51 = .ok (.checkcast 45, 3) := dk_192 0 45 (dk_at dksX3_init_2 6 rfl rfl)
theorem dX3_init_54 : decode cX3_init 54 = .ok (.putfield 49, 3) := dk_181 0 49 (dk_at dksX3_init_2 9 rfl rfl)
theorem dX3_init_57 : decode cX3_init 57 = .ok (.aload_n 0, 1) := dk_42 (dk_at dksX3_init_2 12 rfl rfl)
theorem dX3_init_58 : decode cX3_init 58 = .ok (.bipush 20, 2) := dk_16 20 (dk_at dksX3_init_2 13 rfl rfl)
theorem dX3_init_60 : decode cX3_init 60 = .ok (.anewarray 45, 3) := dk_189 0 45 (dk_at dksX3_init_2 15 rfl rfl)
theorem dX3_init_63 : decode cX3_init 63 = .ok (.putfield 50, 3) := dk_181 0 50 (dk_at dksX3_init_2 18 rfl rfl)
theorem dX3_init_66 : decode cX3_init 66 = .ok (.aload_n 0, 1) := dk_42 (dk_at dksX3_init_2 21 rfl rfl)
theorem dX3_init_67 : decode cX3_init 67 = .ok (.iload_n 2, 1) := dk_28 (dk_at dksX3_init_2 22 rfl rfl)
theorem dX3_init_68 : decode cX3_init 68 = .ok (.putfield 54, 3) := dk_181 0 54 (dk_at dksX3_init_3 0 rfl rfl)
theorem dX3_init_71 : decode cX3_init 71 = .ok (.return_, 1) := dk_177 (dk_at dksX3_init_3 3 rfl rfl)
abbrev cX3_read : ByteArray := prog_13_method_10_code
def yX3_read : MethodName := ⟨RX3, "read", "()LParrotSpeech$Reader;"⟩
def dkwX3_read_3 : List UInt8 := [182, 0, 176, 153, 0, 7, 4, 167, 0, 4, 3, 182, 0, 116, 167, 255, 175, 42, 176]
abbrev dktX3_read_3 : List UInt8 := dkwX3_read_3 ++ []
def dkwX3_read_2 : List UInt8 := [180, 0, 164, 16, 20, 162, 0, 7, 4, 167, 0, 4, 3, 60, 42, 27, 154, 0, 13, 42, 180, 0, 17]
abbrev dktX3_read_2 : List UInt8 := dkwX3_read_2 ++ dktX3_read_3
def dkwX3_read_1 : List UInt8 := [4, 96, 181, 0, 164, 42, 182, 0, 103, 42, 180, 0, 17, 18, 170, 182, 0, 172, 153, 0, 16, 42]
abbrev dktX3_read_1 : List UInt8 := dkwX3_read_1 ++ dktX3_read_2
def dkwX3_read_0 : List UInt8 := [4, 60, 27, 153, 0, 83, 42, 180, 0, 50, 42, 180, 0, 164, 42, 182, 0, 167, 83, 42, 89, 180, 0, 164]
abbrev dktX3_read_0 : List UInt8 := dkwX3_read_0 ++ dktX3_read_1
theorem dksX3_read_0 : cX3_read.data.toList.drop 0 = dktX3_read_0 := by decide +kernel
theorem dksX3_read_1 : cX3_read.data.toList.drop 24 = dktX3_read_1 := dk_seg dksX3_read_0 24 rfl rfl
theorem dksX3_read_2 : cX3_read.data.toList.drop 46 = dktX3_read_2 := dk_seg dksX3_read_1 22 rfl rfl
theorem dksX3_read_3 : cX3_read.data.toList.drop 69 = dktX3_read_3 := dk_seg dksX3_read_2 23 rfl rfl
theorem dX3_read_0 : decode cX3_read 0 = .ok (.iconst 1, 1) := dk_4 (dk_at dksX3_read_0 0 rfl rfl)
theorem dX3_read_1 : decode cX3_read 1 = .ok (.istore_n 1, 1) := dk_60 (dk_at dksX3_read_0 1 rfl rfl)
theorem dX3_read_2 : decode cX3_read 2 = .ok (.iload_n 1, 1) := dk_27 (dk_at dksX3_read_0 2 rfl rfl)
theorem dX3_read_3 : decode cX3_read 3 = .ok (.ifCond .eq 83, 3) := dk_153 0 83 (dk_at dksX3_read_0 3 rfl rfl)
theorem dX3_read_6 : decode cX3_read 6 = .ok (.aload_n 0, 1) := dk_42 (dk_at dksX3_read_0 6 rfl rfl)
theorem dX3_read_7 : decode cX3_read 7 = .ok (.getfield 50, 3) := dk_180 0 50 (dk_at dksX3_read_0 7 rfl rfl)
theorem dX3_read_10 : decode cX3_read 10 = .ok (.aload_n 0, 1) := dk_42 (dk_at dksX3_read_0 10 rfl rfl)
theorem dX3_read_11 : decode cX3_read 11 = .ok (.getfield 164, 3) := dk_180 0 164 (dk_at dksX3_read_0 11 rfl rfl)
theorem dX3_read_14 : decode cX3_read 14 = .ok (.aload_n 0, 1) := dk_42 (dk_at dksX3_read_0 14 rfl rfl)
theorem dX3_read_15 : decode cX3_read 15 = .ok (.invokevirtual 167, 3) := dk_182 0 167 (dk_at dksX3_read_0 15 rfl rfl)
theorem dX3_read_18 : decode cX3_read 18 = .ok (.aastore, 1) := dk_83 (dk_at dksX3_read_0 18 rfl rfl)
theorem dX3_read_19 : decode cX3_read 19 = .ok (.aload_n 0, 1) := dk_42 (dk_at dksX3_read_0 19 rfl rfl)
theorem dX3_read_20 : decode cX3_read 20 = .ok (.dup, 1) := dk_89 (dk_at dksX3_read_0 20 rfl rfl)
theorem dX3_read_21 : decode cX3_read 21 = .ok (.getfield 164, 3) := dk_180 0 164 (dk_at dksX3_read_0 21 rfl rfl)
theorem dX3_read_24 : decode cX3_read 24 = .ok (.iconst 1, 1) := dk_4 (dk_at dksX3_read_1 0 rfl rfl)
theorem dX3_read_25 : decode cX3_read 25 = .ok (.iadd, 1) := dk_96 (dk_at dksX3_read_1 1 rfl rfl)
theorem dX3_read_26 : decode cX3_read 26 = .ok (.putfield 164, 3) := dk_181 0 164 (dk_at dksX3_read_1 2 rfl rfl)
theorem dX3_read_29 : decode cX3_read 29 = .ok (.aload_n 0, 1) := dk_42 (dk_at dksX3_read_1 5 rfl rfl)
theorem dX3_read_30 : decode cX3_read 30 = .ok (.invokevirtual 103, 3) := dk_182 0 103 (dk_at dksX3_read_1 6 rfl rfl)
theorem dX3_read_33 : decode cX3_read 33 = .ok (.aload_n 0, 1) := dk_42 (dk_at dksX3_read_1 9 rfl rfl)
theorem dX3_read_34 : decode cX3_read 34 = .ok (.getfield 17, 3) := dk_180 0 17 (dk_at dksX3_read_1 10 rfl rfl)
theorem dX3_read_37 : decode cX3_read 37 = .ok (.ldc 170, 2) := dk_18 170 (dk_at dksX3_read_1 13 rfl rfl)
theorem dX3_read_39 : decode cX3_read 39 = .ok (.invokevirtual 172, 3) := dk_182 0 172 (dk_at dksX3_read_1 15 rfl rfl)
theorem dX3_read_42 : decode cX3_read 42 = .ok (.ifCond .eq 16, 3) := dk_153 0 16 (dk_at dksX3_read_1 18 rfl rfl)
theorem dX3_read_45 : decode cX3_read 45 = .ok (.aload_n 0, 1) := dk_42 (dk_at dksX3_read_1 21 rfl rfl)
theorem dX3_read_46 : decode cX3_read 46 = .ok (.getfield 164, 3) := dk_180 0 164 (dk_at dksX3_read_2 0 rfl rfl)
theorem dX3_read_49 : decode cX3_read 49 = .ok (.bipush 20, 2) := dk_16 20 (dk_at dksX3_read_2 3 rfl rfl)
theorem dX3_read_51 : decode cX3_read 51 = .ok (.if_icmp .ge 7, 3) := dk_162 0 7 (dk_at dksX3_read_2 5 rfl rfl)
theorem dX3_read_54 : decode cX3_read 54 = .ok (.iconst 1, 1) := dk_4 (dk_at dksX3_read_2 8 rfl rfl)
theorem dX3_read_55 : decode cX3_read 55 = .ok (.goto 4, 3) := dk_167 0 4 (dk_at dksX3_read_2 9 rfl rfl)
theorem dX3_read_58 : decode cX3_read 58 = .ok (.iconst 0, 1) := dk_3 (dk_at dksX3_read_2 12 rfl rfl)
theorem dX3_read_59 : decode cX3_read 59 = .ok (.istore_n 1, 1) := dk_60 (dk_at dksX3_read_2 13 rfl rfl)
theorem dX3_read_60 : decode cX3_read 60 = .ok (.aload_n 0, 1) := dk_42 (dk_at dksX3_read_2 14 rfl rfl)
theorem dX3_read_61 : decode cX3_read 61 = .ok (.iload_n 1, 1) := dk_27 (dk_at dksX3_read_2 15 rfl rfl)
theorem dX3_read_62 : decode cX3_read 62 = .ok (.ifCond .ne 13, 3) := dk_154 0 13 (dk_at dksX3_read_2 16 rfl rfl)
theorem dX3_read_65 : decode cX3_read 65 = .ok (.aload_n 0, 1) := dk_42 (dk_at dksX3_read_2 19 rfl rfl)
theorem dX3_read_66 : decode cX3_read 66 = .ok (.getfield 17, 3) := dk_180 0 17 (dk_at dksX3_read_2 20 rfl rfl)
theorem dX3_read_69 : decode cX3_read 69 = .ok (.invokevirtual 176, 3) := dk_182 0 176 (dk_at dksX3_read_3 0 rfl rfl)
theorem dX3_read_72 : decode cX3_read 72 = .ok (.ifCond .eq 7, 3) := dk_153 0 7 (dk_at dksX3_read_3 3 rfl rfl)
theorem dX3_read_75 : decode cX3_read 75 = .ok (.iconst 1, 1) := dk_4 (dk_at dksX3_read_3 6 rfl rfl)
theorem dX3_read_76 : decode cX3_read 76 = .ok (.goto 4, 3) := dk_167 0 4 (dk_at dksX3_read_3 7 rfl rfl)
theorem dX3_read_79 : decode cX3_read 79 = .ok (.iconst 0, 1) := dk_3 (dk_at dksX3_read_3 10 rfl rfl)
theorem dX3_read_80 : decode cX3_read 80 = .ok (.invokevirtual 116, 3) := dk_182 0 116 (dk_at dksX3_read_3 11 rfl rfl)
theorem dX3_read_83 : decode cX3_read 83 = .ok (.goto (-81), 3) := dk_167 255 175 (dk_at dksX3_read_3 14 rfl rfl)
theorem dX3_read_86 : decode cX3_read 86 = .ok (.aload_n 0, 1) := dk_42 (dk_at dksX3_read_3 17 rfl rfl)
theorem dX3_read_87 : decode cX3_read 87 = .ok (.areturn, 1) := dk_176 (dk_at dksX3_read_3 18 rfl rfl)
abbrev cX3_clause : ByteArray := prog_13_method_9_code
def yX3_clause : MethodName := ⟨RX3, "clause", "()[I"⟩
def dkwX3_clause_9 : List UInt8 := [89, 4, 42, 3, 6, 182, 0, 122, 79, 176]
abbrev dktX3_clause_9 : List UInt8 := dkwX3_clause_9 ++ []
def dkwX3_clause_8 : List UInt8 := [167, 0, 4, 3, 182, 0, 116, 42, 89, 180, 0, 25, 4, 96, 181, 0, 25, 5, 188, 10, 89, 3, 27, 79]
abbrev dktX3_clause_8 : List UInt8 := dkwX3_clause_8 ++ dktX3_clause_9
def dkwX3_clause_7 : List UInt8 := [42, 3, 42, 180, 0, 25, 4, 100, 182, 0, 122, 79, 176, 42, 42, 180, 0, 25, 16, 8, 162, 0, 7, 4]
abbrev dktX3_clause_7 : List UInt8 := dkwX3_clause_7 ++ dktX3_clause_8
def dkwX3_clause_6 : List UInt8 := [182, 0, 126, 79, 176, 42, 182, 0, 157, 176, 42, 182, 0, 161, 176, 5, 188, 10, 89, 3, 27, 79, 89, 4]
abbrev dktX3_clause_6 : List UInt8 := dkwX3_clause_6 ++ dktX3_clause_7
def dkwX3_clause_5 : List UInt8 := [89, 180, 0, 31, 90, 4, 96, 181, 0, 31, 2, 79, 5, 188, 10, 89, 3, 27, 79, 89, 4, 42]
abbrev dktX3_clause_5 : List UInt8 := dkwX3_clause_5 ++ dktX3_clause_6
def dkwX3_clause_4 : List UInt8 := [79, 176, 42, 42, 180, 0, 31, 7, 162, 0, 7, 4, 167, 0, 4, 3, 182, 0, 116, 42, 180, 0, 49, 42]
abbrev dktX3_clause_4 : List UInt8 := dkwX3_clause_4 ++ dktX3_clause_5
def dkwX3_clause_3 : List UInt8 := [42, 3, 181, 0, 25, 42, 3, 181, 0, 31, 42, 180, 0, 49, 2, 184, 0, 153, 4, 188, 10, 89, 3, 27]
abbrev dktX3_clause_3 : List UInt8 := dkwX3_clause_3 ++ dktX3_clause_4
def dkwX3_clause_2 : List UInt8 := [170, 0, 0, 0, 140, 0, 0, 0, 5, 0, 0, 0, 9, 0, 0, 0, 33, 0, 0, 0, 59, 0, 0, 0, 108, 0, 0, 0, 113, 0, 0, 0, 118]
abbrev dktX3_clause_2 : List UInt8 := dkwX3_clause_2 ++ dktX3_clause_3
def dkwX3_clause_1 : List UInt8 := [159, 0, 7, 4, 167, 0, 4, 3, 182, 0, 116, 27]
abbrev dktX3_clause_1 : List UInt8 := dkwX3_clause_1 ++ dktX3_clause_2
def dkwX3_clause_0 : List UInt8 := [42, 182, 0, 103, 178, 0, 137, 184, 0, 141, 42, 180, 0, 17, 185, 0, 147, 2, 0, 60, 42, 27, 2]
abbrev dktX3_clause_0 : List UInt8 := dkwX3_clause_0 ++ dktX3_clause_1
theorem dksX3_clause_0 : cX3_clause.data.toList.drop 0 = dktX3_clause_0 := by decide +kernel
theorem dksX3_clause_1 : cX3_clause.data.toList.drop 23 = dktX3_clause_1 := dk_seg dksX3_clause_0 23 rfl rfl
theorem dksX3_clause_2 : cX3_clause.data.toList.drop 35 = dktX3_clause_2 := dk_seg dksX3_clause_1 12 rfl rfl
theorem dksX3_clause_3 : cX3_clause.data.toList.drop 68 = dktX3_clause_3 := dk_seg dksX3_clause_2 33 rfl rfl
theorem dksX3_clause_4 : cX3_clause.data.toList.drop 92 = dktX3_clause_4 := dk_seg dksX3_clause_3 24 rfl rfl
theorem dksX3_clause_5 : cX3_clause.data.toList.drop 116 = dktX3_clause_5 := dk_seg dksX3_clause_4 24 rfl rfl
theorem dksX3_clause_6 : cX3_clause.data.toList.drop 138 = dktX3_clause_6 := dk_seg dksX3_clause_5 22 rfl rfl
theorem dksX3_clause_7 : cX3_clause.data.toList.drop 162 = dktX3_clause_7 := dk_seg dksX3_clause_6 24 rfl rfl
theorem dksX3_clause_8 : cX3_clause.data.toList.drop 186 = dktX3_clause_8 := dk_seg dksX3_clause_7 24 rfl rfl
theorem dksX3_clause_9 : cX3_clause.data.toList.drop 210 = dktX3_clause_9 := dk_seg dksX3_clause_8 24 rfl rfl
theorem dX3_clause_0 : decode cX3_clause 0 = .ok (.aload_n 0, 1) := dk_42 (dk_at dksX3_clause_0 0 rfl rfl)
theorem dX3_clause_1 : decode cX3_clause 1 = .ok (.invokevirtual 103, 3) := dk_182 0 103 (dk_at dksX3_clause_0 1 rfl rfl)
theorem dX3_clause_4 : decode cX3_clause 4 = .ok (.getstatic 137, 3) := dk_178 0 137 (dk_at dksX3_clause_0 4 rfl rfl)
theorem dX3_clause_7 : decode cX3_clause 7 = .ok (.invokestatic 141, 3) := dk_184 0 141 (dk_at dksX3_clause_0 7 rfl rfl)
theorem dX3_clause_10 : decode cX3_clause 10 = .ok (.aload_n 0, 1) := dk_42 (dk_at dksX3_clause_0 10 rfl rfl)
theorem dX3_clause_11 : decode cX3_clause 11 = .ok (.getfield 17, 3) := dk_180 0 17 (dk_at dksX3_clause_0 11 rfl rfl)
theorem dX3_clause_14 : decode cX3_clause 14 = .ok (.invokeinterface 147 2, 5) := by decide +kernel
theorem dX3_clause_19 : decode cX3_clause 19 = .ok (.istore_n 1, 1) := dk_60 (dk_at dksX3_clause_0 19 rfl rfl)
theorem dX3_clause_20 : decode cX3_clause 20 = .ok (.aload_n 0, 1) := dk_42 (dk_at dksX3_clause_0 20 rfl rfl)
theorem dX3_clause_21 : decode cX3_clause 21 = .ok (.iload_n 1, 1) := dk_27 (dk_at dksX3_clause_0 21 rfl rfl)
theorem dX3_clause_22 : decode cX3_clause 22 = .ok (.iconst (-1), 1) := dk_2 (dk_at dksX3_clause_0 22 rfl rfl)
theorem dX3_clause_23 : decode cX3_clause 23 = .ok (.if_icmp .eq 7, 3) := dk_159 0 7 (dk_at dksX3_clause_1 0 rfl rfl)
theorem dX3_clause_26 : decode cX3_clause 26 = .ok (.iconst 1, 1) := dk_4 (dk_at dksX3_clause_1 3 rfl rfl)
theorem dX3_clause_27 : decode cX3_clause 27 = .ok (.goto 4, 3) := dk_167 0 4 (dk_at dksX3_clause_1 4 rfl rfl)
theorem dX3_clause_30 : decode cX3_clause 30 = .ok (.iconst 0, 1) := dk_3 (dk_at dksX3_clause_1 7 rfl rfl)
theorem dX3_clause_31 : decode cX3_clause 31 = .ok (.invokevirtual 116, 3) := dk_182 0 116 (dk_at dksX3_clause_1 8 rfl rfl)
theorem dX3_clause_34 : decode cX3_clause 34 = .ok (.iload_n 1, 1) := dk_27 (dk_at dksX3_clause_1 11 rfl rfl)
theorem dX3_clause_35 : decode cX3_clause 35 = .ok (.tableswitch 140 5 9 #[33, 59, 108, 113, 118], 33) := by decide +kernel
theorem dX3_clause_68 : decode cX3_clause 68 = .ok (.aload_n 0, 1) := dk_42 (dk_at dksX3_clause_3 0 rfl rfl)
theorem dX3_clause_69 : decode cX3_clause 69 = .ok (.iconst 0, 1) := dk_3 (dk_at dksX3_clause_3 1 rfl rfl)
theorem dX3_clause_70 : decode cX3_clause 70 = .ok (.putfield 25, 3) := dk_181 0 25 (dk_at dksX3_clause_3 2 rfl rfl)
theorem dX3_clause_73 : decode cX3_clause 73 = .ok (.aload_n 0, 1) := dk_42 (dk_at dksX3_clause_3 5 rfl rfl)
theorem dX3_clause_74 : decode cX3_clause 74 = .ok (.iconst 0, 1) := dk_3 (dk_at dksX3_clause_3 6 rfl rfl)
theorem dX3_clause_75 : decode cX3_clause 75 = .ok (.putfield 31, 3) := dk_181 0 31 (dk_at dksX3_clause_3 7 rfl rfl)
theorem dX3_clause_78 : decode cX3_clause 78 = .ok (.aload_n 0, 1) := dk_42 (dk_at dksX3_clause_3 10 rfl rfl)
theorem dX3_clause_79 : decode cX3_clause 79 = .ok (.getfield 49, 3) := dk_180 0 49 (dk_at dksX3_clause_3 11 rfl rfl)
theorem dX3_clause_82 : decode cX3_clause 82 = .ok (.iconst (-1), 1) := dk_2 (dk_at dksX3_clause_3 14 rfl rfl)
theorem dX3_clause_83 : decode cX3_clause 83 = .ok (.invokestatic 153, 3) := dk_184 0 153 (dk_at dksX3_clause_3 15 rfl rfl)
theorem dX3_clause_86 : decode cX3_clause 86 = .ok (.iconst 1, 1) := dk_4 (dk_at dksX3_clause_3 18 rfl rfl)
theorem dX3_clause_87 : decode cX3_clause 87 = .ok (.newarray .int, 2) := dk_188_10 (dk_at dksX3_clause_3 19 rfl rfl)
theorem dX3_clause_89 : decode cX3_clause 89 = .ok (.dup, 1) := dk_89 (dk_at dksX3_clause_3 21 rfl rfl)
theorem dX3_clause_90 : decode cX3_clause 90 = .ok (.iconst 0, 1) := dk_3 (dk_at dksX3_clause_3 22 rfl rfl)
theorem dX3_clause_91 : decode cX3_clause 91 = .ok (.iload_n 1, 1) := dk_27 (dk_at dksX3_clause_3 23 rfl rfl)
theorem dX3_clause_92 : decode cX3_clause 92 = .ok (.iastore, 1) := dk_79 (dk_at dksX3_clause_4 0 rfl rfl)
theorem dX3_clause_93 : decode cX3_clause 93 = .ok (.areturn, 1) := dk_176 (dk_at dksX3_clause_4 1 rfl rfl)
theorem dX3_clause_94 : decode cX3_clause 94 = .ok (.aload_n 0, 1) := dk_42 (dk_at dksX3_clause_4 2 rfl rfl)
theorem dX3_clause_95 : decode cX3_clause 95 = .ok (.aload_n 0, 1) := dk_42 (dk_at dksX3_clause_4 3 rfl rfl)
theorem dX3_clause_96 : decode cX3_clause 96 = .ok (.getfield 31, 3) := dk_180 0 31 (dk_at dksX3_clause_4 4 rfl rfl)
theorem dX3_clause_99 : decode cX3_clause 99 = .ok (.iconst 4, 1) := dk_7 (dk_at dksX3_clause_4 7 rfl rfl)
theorem dX3_clause_100 : decode cX3_clause 100 = .ok (.if_icmp .ge 7, 3) := dk_162 0 7 (dk_at dksX3_clause_4 8 rfl rfl)
theorem dX3_clause_103 : decode cX3_clause 103 = .ok (.iconst 1, 1) := dk_4 (dk_at dksX3_clause_4 11 rfl rfl)
theorem dX3_clause_104 : decode cX3_clause 104 = .ok (.goto 4, 3) := dk_167 0 4 (dk_at dksX3_clause_4 12 rfl rfl)
theorem dX3_clause_107 : decode cX3_clause 107 = .ok (.iconst 0, 1) := dk_3 (dk_at dksX3_clause_4 15 rfl rfl)
theorem dX3_clause_108 : decode cX3_clause 108 = .ok (.invokevirtual 116, 3) := dk_182 0 116 (dk_at dksX3_clause_4 16 rfl rfl)
theorem dX3_clause_111 : decode cX3_clause 111 = .ok (.aload_n 0, 1) := dk_42 (dk_at dksX3_clause_4 19 rfl rfl)
theorem dX3_clause_112 : decode cX3_clause 112 = .ok (.getfield 49, 3) := dk_180 0 49 (dk_at dksX3_clause_4 20 rfl rfl)
theorem dX3_clause_115 : decode cX3_clause 115 = .ok (.aload_n 0, 1) := dk_42 (dk_at dksX3_clause_4 23 rfl rfl)
theorem dX3_clause_116 : decode cX3_clause 116 = .ok (.dup, 1) := dk_89 (dk_at dksX3_clause_5 0 rfl rfl)
theorem dX3_clause_117 : decode cX3_clause 117 = .ok (.getfield 31, 3) := dk_180 0 31 (dk_at dksX3_clause_5 1 rfl rfl)
theorem dX3_clause_120 : decode cX3_clause 120 = .ok (.dup_x1, 1) := dk_90 (dk_at dksX3_clause_5 4 rfl rfl)
theorem dX3_clause_121 : decode cX3_clause 121 = .ok (.iconst 1, 1) := dk_4 (dk_at dksX3_clause_5 5 rfl rfl)
theorem dX3_clause_122 : decode cX3_clause 122 = .ok (.iadd, 1) := dk_96 (dk_at dksX3_clause_5 6 rfl rfl)
theorem dX3_clause_123 : decode cX3_clause 123 = .ok (.putfield 31, 3) := dk_181 0 31 (dk_at dksX3_clause_5 7 rfl rfl)
theorem dX3_clause_126 : decode cX3_clause 126 = .ok (.iconst (-1), 1) := dk_2 (dk_at dksX3_clause_5 10 rfl rfl)
theorem dX3_clause_127 : decode cX3_clause 127 = .ok (.iastore, 1) := dk_79 (dk_at dksX3_clause_5 11 rfl rfl)
theorem dX3_clause_128 : decode cX3_clause 128 = .ok (.iconst 2, 1) := dk_5 (dk_at dksX3_clause_5 12 rfl rfl)
theorem dX3_clause_129 : decode cX3_clause 129 = .ok (.newarray .int, 2) := dk_188_10 (dk_at dksX3_clause_5 13 rfl rfl)
theorem dX3_clause_131 : decode cX3_clause 131 = .ok (.dup, 1) := dk_89 (dk_at dksX3_clause_5 15 rfl rfl)
theorem dX3_clause_132 : decode cX3_clause 132 = .ok (.iconst 0, 1) := dk_3 (dk_at dksX3_clause_5 16 rfl rfl)
theorem dX3_clause_133 : decode cX3_clause 133 = .ok (.iload_n 1, 1) := dk_27 (dk_at dksX3_clause_5 17 rfl rfl)
theorem dX3_clause_134 : decode cX3_clause 134 = .ok (.iastore, 1) := dk_79 (dk_at dksX3_clause_5 18 rfl rfl)
theorem dX3_clause_135 : decode cX3_clause 135 = .ok (.dup, 1) := dk_89 (dk_at dksX3_clause_5 19 rfl rfl)
theorem dX3_clause_136 : decode cX3_clause 136 = .ok (.iconst 1, 1) := dk_4 (dk_at dksX3_clause_5 20 rfl rfl)
theorem dX3_clause_137 : decode cX3_clause 137 = .ok (.aload_n 0, 1) := dk_42 (dk_at dksX3_clause_5 21 rfl rfl)
theorem dX3_clause_138 : decode cX3_clause 138 = .ok (.invokevirtual 126, 3) := dk_182 0 126 (dk_at dksX3_clause_6 0 rfl rfl)
theorem dX3_clause_141 : decode cX3_clause 141 = .ok (.iastore, 1) := dk_79 (dk_at dksX3_clause_6 3 rfl rfl)
theorem dX3_clause_142 : decode cX3_clause 142 = .ok (.areturn, 1) := dk_176 (dk_at dksX3_clause_6 4 rfl rfl)
theorem dX3_clause_143 : decode cX3_clause 143 = .ok (.aload_n 0, 1) := dk_42 (dk_at dksX3_clause_6 5 rfl rfl)
theorem dX3_clause_144 : decode cX3_clause 144 = .ok (.invokevirtual 157, 3) := dk_182 0 157 (dk_at dksX3_clause_6 6 rfl rfl)
theorem dX3_clause_147 : decode cX3_clause 147 = .ok (.areturn, 1) := dk_176 (dk_at dksX3_clause_6 9 rfl rfl)
theorem dX3_clause_148 : decode cX3_clause 148 = .ok (.aload_n 0, 1) := dk_42 (dk_at dksX3_clause_6 10 rfl rfl)
theorem dX3_clause_149 : decode cX3_clause 149 = .ok (.invokevirtual 161, 3) := dk_182 0 161 (dk_at dksX3_clause_6 11 rfl rfl)
theorem dX3_clause_152 : decode cX3_clause 152 = .ok (.areturn, 1) := dk_176 (dk_at dksX3_clause_6 14 rfl rfl)
theorem dX3_clause_153 : decode cX3_clause 153 = .ok (.iconst 2, 1) := dk_5 (dk_at dksX3_clause_6 15 rfl rfl)
theorem dX3_clause_154 : decode cX3_clause 154 = .ok (.newarray .int, 2) := dk_188_10 (dk_at dksX3_clause_6 16 rfl rfl)
theorem dX3_clause_156 : decode cX3_clause 156 = .ok (.dup, 1) := dk_89 (dk_at dksX3_clause_6 18 rfl rfl)
theorem dX3_clause_157 : decode cX3_clause 157 = .ok (.iconst 0, 1) := dk_3 (dk_at dksX3_clause_6 19 rfl rfl)
theorem dX3_clause_158 : decode cX3_clause 158 = .ok (.iload_n 1, 1) := dk_27 (dk_at dksX3_clause_6 20 rfl rfl)
theorem dX3_clause_159 : decode cX3_clause 159 = .ok (.iastore, 1) := dk_79 (dk_at dksX3_clause_6 21 rfl rfl)
theorem dX3_clause_160 : decode cX3_clause 160 = .ok (.dup, 1) := dk_89 (dk_at dksX3_clause_6 22 rfl rfl)
theorem dX3_clause_161 : decode cX3_clause 161 = .ok (.iconst 1, 1) := dk_4 (dk_at dksX3_clause_6 23 rfl rfl)
theorem dX3_clause_162 : decode cX3_clause 162 = .ok (.aload_n 0, 1) := dk_42 (dk_at dksX3_clause_7 0 rfl rfl)
theorem dX3_clause_163 : decode cX3_clause 163 = .ok (.iconst 0, 1) := dk_3 (dk_at dksX3_clause_7 1 rfl rfl)
theorem dX3_clause_164 : decode cX3_clause 164 = .ok (.aload_n 0, 1) := dk_42 (dk_at dksX3_clause_7 2 rfl rfl)
theorem dX3_clause_165 : decode cX3_clause 165 = .ok (.getfield 25, 3) := dk_180 0 25 (dk_at dksX3_clause_7 3 rfl rfl)
theorem dX3_clause_168 : decode cX3_clause 168 = .ok (.iconst 1, 1) := dk_4 (dk_at dksX3_clause_7 6 rfl rfl)
theorem dX3_clause_169 : decode cX3_clause 169 = .ok (.isub, 1) := dk_100 (dk_at dksX3_clause_7 7 rfl rfl)
theorem dX3_clause_170 : decode cX3_clause 170 = .ok (.invokevirtual 122, 3) := dk_182 0 122 (dk_at dksX3_clause_7 8 rfl rfl)
theorem dX3_clause_173 : decode cX3_clause 173 = .ok (.iastore, 1) := dk_79 (dk_at dksX3_clause_7 11 rfl rfl)
theorem dX3_clause_174 : decode cX3_clause 174 = .ok (.areturn, 1) := dk_176 (dk_at dksX3_clause_7 12 rfl rfl)
theorem dX3_clause_175 : decode cX3_clause 175 = .ok (.aload_n 0, 1) := dk_42 (dk_at dksX3_clause_7 13 rfl rfl)
theorem dX3_clause_176 : decode cX3_clause 176 = .ok (.aload_n 0, 1) := dk_42 (dk_at dksX3_clause_7 14 rfl rfl)
theorem dX3_clause_177 : decode cX3_clause 177 = .ok (.getfield 25, 3) := dk_180 0 25 (dk_at dksX3_clause_7 15 rfl rfl)
theorem dX3_clause_180 : decode cX3_clause 180 = .ok (.bipush 8, 2) := dk_16 8 (dk_at dksX3_clause_7 18 rfl rfl)
theorem dX3_clause_182 : decode cX3_clause 182 = .ok (.if_icmp .ge 7, 3) := dk_162 0 7 (dk_at dksX3_clause_7 20 rfl rfl)
theorem dX3_clause_185 : decode cX3_clause 185 = .ok (.iconst 1, 1) := dk_4 (dk_at dksX3_clause_7 23 rfl rfl)
theorem dX3_clause_186 : decode cX3_clause 186 = .ok (.goto 4, 3) := dk_167 0 4 (dk_at dksX3_clause_8 0 rfl rfl)
theorem dX3_clause_189 : decode cX3_clause 189 = .ok (.iconst 0, 1) := dk_3 (dk_at dksX3_clause_8 3 rfl rfl)
theorem dX3_clause_190 : decode cX3_clause 190 = .ok (.invokevirtual 116, 3) := dk_182 0 116 (dk_at dksX3_clause_8 4 rfl rfl)
theorem dX3_clause_193 : decode cX3_clause 193 = .ok (.aload_n 0, 1) := dk_42 (dk_at dksX3_clause_8 7 rfl rfl)
theorem dX3_clause_194 : decode cX3_clause 194 = .ok (.dup, 1) := dk_89 (dk_at dksX3_clause_8 8 rfl rfl)
theorem dX3_clause_195 : decode cX3_clause 195 = .ok (.getfield 25, 3) := dk_180 0 25 (dk_at dksX3_clause_8 9 rfl rfl)
theorem dX3_clause_198 : decode cX3_clause 198 = .ok (.iconst 1, 1) := dk_4 (dk_at dksX3_clause_8 12 rfl rfl)
theorem dX3_clause_199 : decode cX3_clause 199 = .ok (.iadd, 1) := dk_96 (dk_at dksX3_clause_8 13 rfl rfl)
theorem dX3_clause_200 : decode cX3_clause 200 = .ok (.putfield 25, 3) := dk_181 0 25 (dk_at dksX3_clause_8 14 rfl rfl)
theorem dX3_clause_203 : decode cX3_clause 203 = .ok (.iconst 2, 1) := dk_5 (dk_at dksX3_clause_8 17 rfl rfl)
theorem dX3_clause_204 : decode cX3_clause 204 = .ok (.newarray .int, 2) := dk_188_10 (dk_at dksX3_clause_8 18 rfl rfl)
theorem dX3_clause_206 : decode cX3_clause 206 = .ok (.dup, 1) := dk_89 (dk_at dksX3_clause_8 20 rfl rfl)
theorem dX3_clause_207 : decode cX3_clause 207 = .ok (.iconst 0, 1) := dk_3 (dk_at dksX3_clause_8 21 rfl rfl)
theorem dX3_clause_208 : decode cX3_clause 208 = .ok (.iload_n 1, 1) := dk_27 (dk_at dksX3_clause_8 22 rfl rfl)
theorem dX3_clause_209 : decode cX3_clause 209 = .ok (.iastore, 1) := dk_79 (dk_at dksX3_clause_8 23 rfl rfl)
theorem dX3_clause_210 : decode cX3_clause 210 = .ok (.dup, 1) := dk_89 (dk_at dksX3_clause_9 0 rfl rfl)
theorem dX3_clause_211 : decode cX3_clause 211 = .ok (.iconst 1, 1) := dk_4 (dk_at dksX3_clause_9 1 rfl rfl)
theorem dX3_clause_212 : decode cX3_clause 212 = .ok (.aload_n 0, 1) := dk_42 (dk_at dksX3_clause_9 2 rfl rfl)
theorem dX3_clause_213 : decode cX3_clause 213 = .ok (.iconst 0, 1) := dk_3 (dk_at dksX3_clause_9 3 rfl rfl)
theorem dX3_clause_214 : decode cX3_clause 214 = .ok (.iconst 3, 1) := dk_6 (dk_at dksX3_clause_9 4 rfl rfl)
theorem dX3_clause_215 : decode cX3_clause 215 = .ok (.invokevirtual 122, 3) := dk_182 0 122 (dk_at dksX3_clause_9 5 rfl rfl)
theorem dX3_clause_218 : decode cX3_clause 218 = .ok (.iastore, 1) := dk_79 (dk_at dksX3_clause_9 8 rfl rfl)
theorem dX3_clause_219 : decode cX3_clause 219 = .ok (.areturn, 1) := dk_176 (dk_at dksX3_clause_9 9 rfl rfl)
abbrev cX3_take : ByteArray := prog_13_method_3_code
def yX3_take : MethodName := ⟨RX3, "take", "()V"⟩
def dkwX3_take_8 : List UInt8 := [44, 182, 0, 94, 181, 0, 17, 177]
abbrev dktX3_take_8 : List UInt8 := dkwX3_take_8 ++ []
def dkwX3_take_7 : List UInt8 := [89, 180, 0, 70, 90, 4, 96, 181, 0, 70, 51, 17, 0, 255, 126, 146, 182, 0, 90, 87, 167, 255, 171, 42]
abbrev dktX3_take_7 : List UInt8 := dkwX3_take_7 ++ dktX3_take_8
def dkwX3_take_6 : List UInt8 := [180, 0, 76, 42, 180, 0, 70, 51, 182, 0, 83, 27, 160, 0, 35, 44, 42, 180, 0, 3, 180, 0, 76, 42]
abbrev dktX3_take_6 : List UInt8 := dkwX3_take_6 ++ dktX3_take_7
def dkwX3_take_5 : List UInt8 := [180, 0, 70, 159, 0, 34, 42, 180, 0, 54, 154, 0, 59, 27, 158, 0, 55, 42, 42, 180, 0, 3]
abbrev dktX3_take_5 : List UInt8 := dkwX3_take_5 ++ dktX3_take_6
def dkwX3_take_4 : List UInt8 := [183, 0, 89, 77, 42, 180, 0, 70, 42, 180, 0, 3, 180, 0, 73, 162, 0, 77, 42, 180, 0, 80, 42]
abbrev dktX3_take_4 : List UInt8 := dkwX3_take_4 ++ dktX3_take_5
def dkwX3_take_3 : List UInt8 := [180, 0, 3, 180, 0, 76, 42, 180, 0, 70, 51, 182, 0, 83, 167, 0, 4, 3, 60, 187, 0, 87, 89]
abbrev dktX3_take_3 : List UInt8 := dkwX3_take_3 ++ dktX3_take_4
def dkwX3_take_2 : List UInt8 := [180, 0, 70, 181, 0, 80, 42, 180, 0, 70, 42, 180, 0, 3, 180, 0, 73, 162, 0, 22, 42, 42]
abbrev dktX3_take_2 : List UInt8 := dkwX3_take_2 ++ dktX3_take_3
def dkwX3_take_1 : List UInt8 := [180, 0, 70, 51, 16, 32, 160, 0, 16, 42, 89, 180, 0, 70, 4, 96, 181, 0, 70, 167, 255, 215, 42, 42]
abbrev dktX3_take_1 : List UInt8 := dkwX3_take_1 ++ dktX3_take_2
def dkwX3_take_0 : List UInt8 := [42, 180, 0, 70, 42, 180, 0, 3, 180, 0, 73, 162, 0, 33, 42, 180, 0, 3, 180, 0, 76, 42]
abbrev dktX3_take_0 : List UInt8 := dkwX3_take_0 ++ dktX3_take_1
theorem dksX3_take_0 : cX3_take.data.toList.drop 0 = dktX3_take_0 := by decide +kernel
theorem dksX3_take_1 : cX3_take.data.toList.drop 22 = dktX3_take_1 := dk_seg dksX3_take_0 22 rfl rfl
theorem dksX3_take_2 : cX3_take.data.toList.drop 46 = dktX3_take_2 := dk_seg dksX3_take_1 24 rfl rfl
theorem dksX3_take_3 : cX3_take.data.toList.drop 68 = dktX3_take_3 := dk_seg dksX3_take_2 22 rfl rfl
theorem dksX3_take_4 : cX3_take.data.toList.drop 91 = dktX3_take_4 := dk_seg dksX3_take_3 23 rfl rfl
theorem dksX3_take_5 : cX3_take.data.toList.drop 114 = dktX3_take_5 := dk_seg dksX3_take_4 23 rfl rfl
theorem dksX3_take_6 : cX3_take.data.toList.drop 136 = dktX3_take_6 := dk_seg dksX3_take_5 22 rfl rfl
theorem dksX3_take_7 : cX3_take.data.toList.drop 160 = dktX3_take_7 := dk_seg dksX3_take_6 24 rfl rfl
theorem dksX3_take_8 : cX3_take.data.toList.drop 184 = dktX3_take_8 := dk_seg dksX3_take_7 24 rfl rfl
theorem dX3_take_0 : decode cX3_take 0 = .ok (.aload_n 0, 1) := dk_42 (dk_at dksX3_take_0 0 rfl rfl)
theorem dX3_take_1 : decode cX3_take 1 = .ok (.getfield 70, 3) := dk_180 0 70 (dk_at dksX3_take_0 1 rfl rfl)
theorem dX3_take_4 : decode cX3_take 4 = .ok (.aload_n 0, 1) := dk_42 (dk_at dksX3_take_0 4 rfl rfl)
theorem dX3_take_5 : decode cX3_take 5 = .ok (.getfield 3, 3) := dk_180 0 3 (dk_at dksX3_take_0 5 rfl rfl)
theorem dX3_take_8 : decode cX3_take 8 = .ok (.getfield 73, 3) := dk_180 0 73 (dk_at dksX3_take_0 8 rfl rfl)
theorem dX3_take_11 : decode cX3_take 11 = .ok (.if_icmp .ge 33, 3) := dk_162 0 33 (dk_at dksX3_take_0 11 rfl rfl)
theorem dX3_take_14 : decode cX3_take 14 = .ok (.aload_n 0, 1) := dk_42 (dk_at dksX3_take_0 14 rfl rfl)
theorem dX3_take_15 : decode cX3_take 15 = .ok (.getfield 3, 3) := dk_180 0 3 (dk_at dksX3_take_0 15 rfl rfl)
theorem dX3_take_18 : decode cX3_take 18 = .ok (.getfield 76, 3) := dk_180 0 76 (dk_at dksX3_take_0 18 rfl rfl)
theorem dX3_take_21 : decode cX3_take 21 = .ok (.aload_n 0, 1) := dk_42 (dk_at dksX3_take_0 21 rfl rfl)
theorem dX3_take_22 : decode cX3_take 22 = .ok (.getfield 70, 3) := dk_180 0 70 (dk_at dksX3_take_1 0 rfl rfl)
theorem dX3_take_25 : decode cX3_take 25 = .ok (.baload, 1) := dk_51 (dk_at dksX3_take_1 3 rfl rfl)
theorem dX3_take_26 : decode cX3_take 26 = .ok (.bipush 32, 2) := dk_16 32 (dk_at dksX3_take_1 4 rfl rfl)
theorem dX3_take_28 : decode cX3_take 28 = .ok (.if_icmp .ne 16, 3) := dk_160 0 16 (dk_at dksX3_take_1 6 rfl rfl)
theorem dX3_take_31 : decode cX3_take 31 = .ok (.aload_n 0, 1) := dk_42 (dk_at dksX3_take_1 9 rfl rfl)
theorem dX3_take_32 : decode cX3_take 32 = .ok (.dup, 1) := dk_89 (dk_at dksX3_take_1 10 rfl rfl)
theorem dX3_take_33 : decode cX3_take 33 = .ok (.getfield 70, 3) := dk_180 0 70 (dk_at dksX3_take_1 11 rfl rfl)
theorem dX3_take_36 : decode cX3_take 36 = .ok (.iconst 1, 1) := dk_4 (dk_at dksX3_take_1 14 rfl rfl)
theorem dX3_take_37 : decode cX3_take 37 = .ok (.iadd, 1) := dk_96 (dk_at dksX3_take_1 15 rfl rfl)
theorem dX3_take_38 : decode cX3_take 38 = .ok (.putfield 70, 3) := dk_181 0 70 (dk_at dksX3_take_1 16 rfl rfl)
theorem dX3_take_41 : decode cX3_take 41 = .ok (.goto (-41), 3) := dk_167 255 215 (dk_at dksX3_take_1 19 rfl rfl)
theorem dX3_take_44 : decode cX3_take 44 = .ok (.aload_n 0, 1) := dk_42 (dk_at dksX3_take_1 22 rfl rfl)
theorem dX3_take_45 : decode cX3_take 45 = .ok (.aload_n 0, 1) := dk_42 (dk_at dksX3_take_1 23 rfl rfl)
theorem dX3_take_46 : decode cX3_take 46 = .ok (.getfield 70, 3) := dk_180 0 70 (dk_at dksX3_take_2 0 rfl rfl)
theorem dX3_take_49 : decode cX3_take 49 = .ok (.putfield 80, 3) := dk_181 0 80 (dk_at dksX3_take_2 3 rfl rfl)
theorem dX3_take_52 : decode cX3_take 52 = .ok (.aload_n 0, 1) := dk_42 (dk_at dksX3_take_2 6 rfl rfl)
theorem dX3_take_53 : decode cX3_take 53 = .ok (.getfield 70, 3) := dk_180 0 70 (dk_at dksX3_take_2 7 rfl rfl)
theorem dX3_take_56 : decode cX3_take 56 = .ok (.aload_n 0, 1) := dk_42 (dk_at dksX3_take_2 10 rfl rfl)
theorem dX3_take_57 : decode cX3_take 57 = .ok (.getfield 3, 3) := dk_180 0 3 (dk_at dksX3_take_2 11 rfl rfl)
theorem dX3_take_60 : decode cX3_take 60 = .ok (.getfield 73, 3) := dk_180 0 73 (dk_at dksX3_take_2 14 rfl rfl)
theorem dX3_take_63 : decode cX3_take 63 = .ok (.if_icmp .ge 22, 3) := dk_162 0 22 (dk_at dksX3_take_2 17 rfl rfl)
theorem dX3_take_66 : decode cX3_take 66 = .ok (.aload_n 0, 1) := dk_42 (dk_at dksX3_take_2 20 rfl rfl)
theorem dX3_take_67 : decode cX3_take 67 = .ok (.aload_n 0, 1) := dk_42 (dk_at dksX3_take_2 21 rfl rfl)
theorem dX3_take_68 : decode cX3_take 68 = .ok (.getfield 3, 3) := dk_180 0 3 (dk_at dksX3_take_3 0 rfl rfl)
theorem dX3_take_71 : decode cX3_take 71 = .ok (.getfield 76, 3) := dk_180 0 76 (dk_at dksX3_take_3 3 rfl rfl)
theorem dX3_take_74 : decode cX3_take 74 = .ok (.aload_n 0, 1) := dk_42 (dk_at dksX3_take_3 6 rfl rfl)
theorem dX3_take_75 : decode cX3_take 75 = .ok (.getfield 70, 3) := dk_180 0 70 (dk_at dksX3_take_3 7 rfl rfl)
theorem dX3_take_78 : decode cX3_take 78 = .ok (.baload, 1) := dk_51 (dk_at dksX3_take_3 10 rfl rfl)
theorem dX3_take_79 : decode cX3_take 79 = .ok (.invokevirtual 83, 3) := dk_182 0 83 (dk_at dksX3_take_3 11 rfl rfl)
theorem dX3_take_82 : decode cX3_take 82 = .ok (.goto 4, 3) := dk_167 0 4 (dk_at dksX3_take_3 14 rfl rfl)
theorem dX3_take_85 : decode cX3_take 85 = .ok (.iconst 0, 1) := dk_3 (dk_at dksX3_take_3 17 rfl rfl)
theorem dX3_take_86 : decode cX3_take 86 = .ok (.istore_n 1, 1) := dk_60 (dk_at dksX3_take_3 18 rfl rfl)
theorem dX3_take_87 : decode cX3_take 87 = .ok (.new 87, 3) := dk_187 0 87 (dk_at dksX3_take_3 19 rfl rfl)
theorem dX3_take_90 : decode cX3_take 90 = .ok (.dup, 1) := dk_89 (dk_at dksX3_take_3 22 rfl rfl)
theorem dX3_take_91 : decode cX3_take 91 = .ok (.invokespecial 89, 3) := dk_183 0 89 (dk_at dksX3_take_4 0 rfl rfl)
theorem dX3_take_94 : decode cX3_take 94 = .ok (.astore_n 2, 1) := dk_77 (dk_at dksX3_take_4 3 rfl rfl)
theorem dX3_take_95 : decode cX3_take 95 = .ok (.aload_n 0, 1) := dk_42 (dk_at dksX3_take_4 4 rfl rfl)
theorem dX3_take_96 : decode cX3_take 96 = .ok (.getfield 70, 3) := dk_180 0 70 (dk_at dksX3_take_4 5 rfl rfl)
theorem dX3_take_99 : decode cX3_take 99 = .ok (.aload_n 0, 1) := dk_42 (dk_at dksX3_take_4 8 rfl rfl)
theorem dX3_take_100 : decode cX3_take 100 = .ok (.getfield 3, 3) := dk_180 0 3 (dk_at dksX3_take_4 9 rfl rfl)
theorem dX3_take_103 : decode cX3_take 103 = .ok (.getfield 73, 3) := dk_180 0 73 (dk_at dksX3_take_4 12 rfl rfl)
theorem dX3_take_106 : decode cX3_take 106 = .ok (.if_icmp .ge 77, 3) := dk_162 0 77 (dk_at dksX3_take_4 15 rfl rfl)
theorem dX3_take_109 : decode cX3_take 109 = .ok (.aload_n 0, 1) := dk_42 (dk_at dksX3_take_4 18 rfl rfl)
theorem dX3_take_110 : decode cX3_take 110 = .ok (.getfield 80, 3) := dk_180 0 80 (dk_at dksX3_take_4 19 rfl rfl)
theorem dX3_take_113 : decode cX3_take 113 = .ok (.aload_n 0, 1) := dk_42 (dk_at dksX3_take_4 22 rfl rfl)
theorem dX3_take_114 : decode cX3_take 114 = .ok (.getfield 70, 3) := dk_180 0 70 (dk_at dksX3_take_5 0 rfl rfl)
theorem dX3_take_117 : decode cX3_take 117 = .ok (.if_icmp .eq 34, 3) := dk_159 0 34 (dk_at dksX3_take_5 3 rfl rfl)
theorem dX3_take_120 : decode cX3_take 120 = .ok (.aload_n 0, 1) := dk_42 (dk_at dksX3_take_5 6 rfl rfl)
theorem dX3_take_121 : decode cX3_take 121 = .ok (.getfield 54, 3) := dk_180 0 54 (dk_at dksX3_take_5 7 rfl rfl)
theorem dX3_take_124 : decode cX3_take 124 = .ok (.ifCond .ne 59, 3) := dk_154 0 59 (dk_at dksX3_take_5 10 rfl rfl)
theorem dX3_take_127 : decode cX3_take 127 = .ok (.iload_n 1, 1) := dk_27 (dk_at dksX3_take_5 13 rfl rfl)
theorem dX3_take_128 : decode cX3_take 128 = .ok (.ifCond .le 55, 3) := dk_158 0 55 (dk_at dksX3_take_5 14 rfl rfl)
theorem dX3_take_131 : decode cX3_take 131 = .ok (.aload_n 0, 1) := dk_42 (dk_at dksX3_take_5 17 rfl rfl)
theorem dX3_take_132 : decode cX3_take 132 = .ok (.aload_n 0, 1) := dk_42 (dk_at dksX3_take_5 18 rfl rfl)
theorem dX3_take_133 : decode cX3_take 133 = .ok (.getfield 3, 3) := dk_180 0 3 (dk_at dksX3_take_5 19 rfl rfl)
theorem dX3_take_136 : decode cX3_take 136 = .ok (.getfield 76, 3) := dk_180 0 76 (dk_at dksX3_take_6 0 rfl rfl)
theorem dX3_take_139 : decode cX3_take 139 = .ok (.aload_n 0, 1) := dk_42 (dk_at dksX3_take_6 3 rfl rfl)
theorem dX3_take_140 : decode cX3_take 140 = .ok (.getfield 70, 3) := dk_180 0 70 (dk_at dksX3_take_6 4 rfl rfl)
theorem dX3_take_143 : decode cX3_take 143 = .ok (.baload, 1) := dk_51 (dk_at dksX3_take_6 7 rfl rfl)
theorem dX3_take_144 : decode cX3_take 144 = .ok (.invokevirtual 83, 3) := dk_182 0 83 (dk_at dksX3_take_6 8 rfl rfl)
theorem dX3_take_147 : decode cX3_take 147 = .ok (.iload_n 1, 1) := dk_27 (dk_at dksX3_take_6 11 rfl rfl)
theorem dX3_take_148 : decode cX3_take 148 = .ok (.if_icmp .ne 35, 3) := dk_160 0 35 (dk_at dksX3_take_6 12 rfl rfl)
theorem dX3_take_151 : decode cX3_take 151 = .ok (.aload_n 2, 1) := dk_44 (dk_at dksX3_take_6 15 rfl rfl)
theorem dX3_take_152 : decode cX3_take 152 = .ok (.aload_n 0, 1) := dk_42 (dk_at dksX3_take_6 16 rfl rfl)
theorem dX3_take_153 : decode cX3_take 153 = .ok (.getfield 3, 3) := dk_180 0 3 (dk_at dksX3_take_6 17 rfl rfl)
theorem dX3_take_156 : decode cX3_take 156 = .ok (.getfield 76, 3) := dk_180 0 76 (dk_at dksX3_take_6 20 rfl rfl)
theorem dX3_take_159 : decode cX3_take 159 = .ok (.aload_n 0, 1) := dk_42 (dk_at dksX3_take_6 23 rfl rfl)
theorem dX3_take_160 : decode cX3_take 160 = .ok (.dup, 1) := dk_89 (dk_at dksX3_take_7 0 rfl rfl)
theorem dX3_take_161 : decode cX3_take 161 = .ok (.getfield 70, 3) := dk_180 0 70 (dk_at dksX3_take_7 1 rfl rfl)
theorem dX3_take_164 : decode cX3_take 164 = .ok (.dup_x1, 1) := dk_90 (dk_at dksX3_take_7 4 rfl rfl)
theorem dX3_take_165 : decode cX3_take 165 = .ok (.iconst 1, 1) := dk_4 (dk_at dksX3_take_7 5 rfl rfl)
theorem dX3_take_166 : decode cX3_take 166 = .ok (.iadd, 1) := dk_96 (dk_at dksX3_take_7 6 rfl rfl)
theorem dX3_take_167 : decode cX3_take 167 = .ok (.putfield 70, 3) := dk_181 0 70 (dk_at dksX3_take_7 7 rfl rfl)
theorem dX3_take_170 : decode cX3_take 170 = .ok (.baload, 1) := dk_51 (dk_at dksX3_take_7 10 rfl rfl)
theorem dX3_take_171 : decode cX3_take 171 = .ok (.sipush 255, 3) := dk_17 0 255 (dk_at dksX3_take_7 11 rfl rfl)
theorem dX3_take_174 : decode cX3_take 174 = .ok (.iand, 1) := dk_126 (dk_at dksX3_take_7 14 rfl rfl)
theorem dX3_take_175 : decode cX3_take 175 = .ok (.i2c, 1) := dk_146 (dk_at dksX3_take_7 15 rfl rfl)
theorem dX3_take_176 : decode cX3_take 176 = .ok (.invokevirtual 90, 3) := dk_182 0 90 (dk_at dksX3_take_7 16 rfl rfl)
theorem dX3_take_179 : decode cX3_take 179 = .ok (.pop, 1) := dk_87 (dk_at dksX3_take_7 19 rfl rfl)
theorem dX3_take_180 : decode cX3_take 180 = .ok (.goto (-85), 3) := dk_167 255 171 (dk_at dksX3_take_7 20 rfl rfl)
theorem dX3_take_183 : decode cX3_take 183 = .ok (.aload_n 0, 1) := dk_42 (dk_at dksX3_take_7 23 rfl rfl)
theorem dX3_take_184 : decode cX3_take 184 = .ok (.aload_n 2, 1) := dk_44 (dk_at dksX3_take_8 0 rfl rfl)
theorem dX3_take_185 : decode cX3_take 185 = .ok (.invokevirtual 94, 3) := dk_182 0 94 (dk_at dksX3_take_8 1 rfl rfl)
theorem dX3_take_188 : decode cX3_take 188 = .ok (.putfield 17, 3) := dk_181 0 17 (dk_at dksX3_take_8 4 rfl rfl)
theorem dX3_take_191 : decode cX3_take 191 = .ok (.return_, 1) := dk_177 (dk_at dksX3_take_8 7 rfl rfl)
abbrev cX3_kindOf : ByteArray := prog_13_method_2_code
def yX3_kindOf : MethodName := ⟨RX3, "kindOf", "(I)I"⟩
def dkwX3_kindOf_1 : List UInt8 := [20, 0, 68, 184, 0, 62, 153, 0, 7, 5, 167, 0, 4, 3, 172]
abbrev dktX3_kindOf_1 : List UInt8 := dkwX3_kindOf_1 ++ []
def dkwX3_kindOf_0 : List UInt8 := [27, 133, 20, 0, 58, 20, 0, 60, 184, 0, 62, 153, 0, 7, 4, 167, 0, 22, 27, 133, 20, 0, 66]
abbrev dktX3_kindOf_0 : List UInt8 := dkwX3_kindOf_0 ++ dktX3_kindOf_1
theorem dksX3_kindOf_0 : cX3_kindOf.data.toList.drop 0 = dktX3_kindOf_0 := by decide +kernel
theorem dksX3_kindOf_1 : cX3_kindOf.data.toList.drop 23 = dktX3_kindOf_1 := dk_seg dksX3_kindOf_0 23 rfl rfl
theorem dX3_kindOf_0 : decode cX3_kindOf 0 = .ok (.iload_n 1, 1) := dk_27 (dk_at dksX3_kindOf_0 0 rfl rfl)
theorem dX3_kindOf_1 : decode cX3_kindOf 1 = .ok (.i2l, 1) := dk_133 (dk_at dksX3_kindOf_0 1 rfl rfl)
theorem dX3_kindOf_2 : decode cX3_kindOf 2 = .ok (.ldc2_w 58, 3) := dk_20 0 58 (dk_at dksX3_kindOf_0 2 rfl rfl)
theorem dX3_kindOf_5 : decode cX3_kindOf 5 = .ok (.ldc2_w 60, 3) := dk_20 0 60 (dk_at dksX3_kindOf_0 5 rfl rfl)
theorem dX3_kindOf_8 : decode cX3_kindOf 8 = .ok (.invokestatic 62, 3) := dk_184 0 62 (dk_at dksX3_kindOf_0 8 rfl rfl)
theorem dX3_kindOf_11 : decode cX3_kindOf 11 = .ok (.ifCond .eq 7, 3) := dk_153 0 7 (dk_at dksX3_kindOf_0 11 rfl rfl)
theorem dX3_kindOf_14 : decode cX3_kindOf 14 = .ok (.iconst 1, 1) := dk_4 (dk_at dksX3_kindOf_0 14 rfl rfl)
theorem dX3_kindOf_15 : decode cX3_kindOf 15 = .ok (.goto 22, 3) := dk_167 0 22 (dk_at dksX3_kindOf_0 15 rfl rfl)
theorem dX3_kindOf_18 : decode cX3_kindOf 18 = .ok (.iload_n 1, 1) := dk_27 (dk_at dksX3_kindOf_0 18 rfl rfl)
theorem dX3_kindOf_19 : decode cX3_kindOf 19 = .ok (.i2l, 1) := dk_133 (dk_at dksX3_kindOf_0 19 rfl rfl)
theorem dX3_kindOf_20 : decode cX3_kindOf 20 = .ok (.ldc2_w 66, 3) := dk_20 0 66 (dk_at dksX3_kindOf_0 20 rfl rfl)
theorem dX3_kindOf_23 : decode cX3_kindOf 23 = .ok (.ldc2_w 68, 3) := dk_20 0 68 (dk_at dksX3_kindOf_1 0 rfl rfl)
theorem dX3_kindOf_26 : decode cX3_kindOf 26 = .ok (.invokestatic 62, 3) := dk_184 0 62 (dk_at dksX3_kindOf_1 3 rfl rfl)
theorem dX3_kindOf_29 : decode cX3_kindOf 29 = .ok (.ifCond .eq 7, 3) := dk_153 0 7 (dk_at dksX3_kindOf_1 6 rfl rfl)
theorem dX3_kindOf_32 : decode cX3_kindOf 32 = .ok (.iconst 2, 1) := dk_5 (dk_at dksX3_kindOf_1 9 rfl rfl)
theorem dX3_kindOf_33 : decode cX3_kindOf 33 = .ok (.goto 4, 3) := dk_167 0 4 (dk_at dksX3_kindOf_1 10 rfl rfl)
theorem dX3_kindOf_36 : decode cX3_kindOf 36 = .ok (.iconst 0, 1) := dk_3 (dk_at dksX3_kindOf_1 13 rfl rfl)
theorem dX3_kindOf_37 : decode cX3_kindOf 37 = .ok (.ireturn, 1) := dk_172 (dk_at dksX3_kindOf_1 14 rfl rfl)
abbrev cX3_want : ByteArray := prog_13_method_4_code
def yX3_want : MethodName := ⟨RX3, "want", "(Z)V"⟩
def dkwX3_want_0 : List UInt8 := [27, 154, 0, 15, 187, 0, 98, 89, 42, 180, 0, 80, 183, 0, 100, 191, 177]
abbrev dktX3_want_0 : List UInt8 := dkwX3_want_0 ++ []
theorem dksX3_want_0 : cX3_want.data.toList.drop 0 = dktX3_want_0 := by decide +kernel
theorem dX3_want_0 : decode cX3_want 0 = .ok (.iload_n 1, 1) := dk_27 (dk_at dksX3_want_0 0 rfl rfl)
theorem dX3_want_1 : decode cX3_want 1 = .ok (.ifCond .ne 15, 3) := dk_154 0 15 (dk_at dksX3_want_0 1 rfl rfl)
theorem dX3_want_4 : decode cX3_want 4 = .ok (.new 98, 3) := dk_187 0 98 (dk_at dksX3_want_0 4 rfl rfl)
theorem dX3_want_7 : decode cX3_want 7 = .ok (.dup, 1) := dk_89 (dk_at dksX3_want_0 7 rfl rfl)
theorem dX3_want_8 : decode cX3_want 8 = .ok (.aload_n 0, 1) := dk_42 (dk_at dksX3_want_0 8 rfl rfl)
theorem dX3_want_9 : decode cX3_want 9 = .ok (.getfield 80, 3) := dk_180 0 80 (dk_at dksX3_want_0 9 rfl rfl)
theorem dX3_want_12 : decode cX3_want 12 = .ok (.invokespecial 100, 3) := dk_183 0 100 (dk_at dksX3_want_0 12 rfl rfl)
theorem dX3_want_15 : decode cX3_want 15 = .ok (.athrow, 1) := dk_191 (dk_at dksX3_want_0 15 rfl rfl)
theorem dX3_want_16 : decode cX3_want 16 = .ok (.return_, 1) := dk_177 (dk_at dksX3_want_0 16 rfl rfl)
abbrev cX3_words : ByteArray := prog_13_method_6_code
def yX3_words : MethodName := ⟨RX3, "words", "()I"⟩
def dkwX3_words_3 : List UInt8 := [27, 153, 0, 7, 4, 167, 0, 4, 3, 182, 0, 116, 27, 172]
abbrev dktX3_words_3 : List UInt8 := dkwX3_words_3 ++ []
def dkwX3_words_2 : List UInt8 := [162, 0, 7, 4, 167, 0, 4, 3, 182, 0, 116, 27, 4, 29, 120, 128, 60, 132, 2, 1, 167, 255, 196, 42]
abbrev dktX3_words_2 : List UInt8 := dkwX3_words_2 ++ dktX3_words_3
def dkwX3_words_1 : List UInt8 := [182, 0, 112, 16, 97, 100, 62, 42, 29, 133, 9, 20, 0, 120, 184, 0, 62, 153, 0, 14, 27, 4, 29, 120]
abbrev dktX3_words_1 : List UInt8 := dkwX3_words_1 ++ dktX3_words_2
def dkwX3_words_0 : List UInt8 := [42, 182, 0, 103, 3, 60, 3, 61, 28, 42, 180, 0, 17, 182, 0, 106, 162, 0, 55, 42, 180, 0, 17, 28]
abbrev dktX3_words_0 : List UInt8 := dkwX3_words_0 ++ dktX3_words_1
theorem dksX3_words_0 : cX3_words.data.toList.drop 0 = dktX3_words_0 := by decide +kernel
theorem dksX3_words_1 : cX3_words.data.toList.drop 24 = dktX3_words_1 := dk_seg dksX3_words_0 24 rfl rfl
theorem dksX3_words_2 : cX3_words.data.toList.drop 48 = dktX3_words_2 := dk_seg dksX3_words_1 24 rfl rfl
theorem dksX3_words_3 : cX3_words.data.toList.drop 72 = dktX3_words_3 := dk_seg dksX3_words_2 24 rfl rfl
theorem dX3_words_0 : decode cX3_words 0 = .ok (.aload_n 0, 1) := dk_42 (dk_at dksX3_words_0 0 rfl rfl)
theorem dX3_words_1 : decode cX3_words 1 = .ok (.invokevirtual 103, 3) := dk_182 0 103 (dk_at dksX3_words_0 1 rfl rfl)
theorem dX3_words_4 : decode cX3_words 4 = .ok (.iconst 0, 1) := dk_3 (dk_at dksX3_words_0 4 rfl rfl)
theorem dX3_words_5 : decode cX3_words 5 = .ok (.istore_n 1, 1) := dk_60 (dk_at dksX3_words_0 5 rfl rfl)
theorem dX3_words_6 : decode cX3_words 6 = .ok (.iconst 0, 1) := dk_3 (dk_at dksX3_words_0 6 rfl rfl)
theorem dX3_words_7 : decode cX3_words 7 = .ok (.istore_n 2, 1) := dk_61 (dk_at dksX3_words_0 7 rfl rfl)
theorem dX3_words_8 : decode cX3_words 8 = .ok (.iload_n 2, 1) := dk_28 (dk_at dksX3_words_0 8 rfl rfl)
theorem dX3_words_9 : decode cX3_words 9 = .ok (.aload_n 0, 1) := dk_42 (dk_at dksX3_words_0 9 rfl rfl)
theorem dX3_words_10 : decode cX3_words 10 = .ok (.getfield 17, 3) := dk_180 0 17 (dk_at dksX3_words_0 10 rfl rfl)
theorem dX3_words_13 : decode cX3_words 13 = .ok (.invokevirtual 106, 3) := dk_182 0 106 (dk_at dksX3_words_0 13 rfl rfl)
theorem dX3_words_16 : decode cX3_words 16 = .ok (.if_icmp .ge 55, 3) := dk_162 0 55 (dk_at dksX3_words_0 16 rfl rfl)
theorem dX3_words_19 : decode cX3_words 19 = .ok (.aload_n 0, 1) := dk_42 (dk_at dksX3_words_0 19 rfl rfl)
theorem dX3_words_20 : decode cX3_words 20 = .ok (.getfield 17, 3) := dk_180 0 17 (dk_at dksX3_words_0 20 rfl rfl)
theorem dX3_words_23 : decode cX3_words 23 = .ok (.iload_n 2, 1) := dk_28 (dk_at dksX3_words_0 23 rfl rfl)
theorem dX3_words_24 : decode cX3_words 24 = .ok (.invokevirtual 112, 3) := dk_182 0 112 (dk_at dksX3_words_1 0 rfl rfl)
theorem dX3_words_27 : decode cX3_words 27 = .ok (.bipush 97, 2) := dk_16 97 (dk_at dksX3_words_1 3 rfl rfl)
theorem dX3_words_29 : decode cX3_words 29 = .ok (.isub, 1) := dk_100 (dk_at dksX3_words_1 5 rfl rfl)
theorem dX3_words_30 : decode cX3_words 30 = .ok (.istore_n 3, 1) := dk_62 (dk_at dksX3_words_1 6 rfl rfl)
theorem dX3_words_31 : decode cX3_words 31 = .ok (.aload_n 0, 1) := dk_42 (dk_at dksX3_words_1 7 rfl rfl)
theorem dX3_words_32 : decode cX3_words 32 = .ok (.iload_n 3, 1) := dk_29 (dk_at dksX3_words_1 8 rfl rfl)
theorem dX3_words_33 : decode cX3_words 33 = .ok (.i2l, 1) := dk_133 (dk_at dksX3_words_1 9 rfl rfl)
theorem dX3_words_34 : decode cX3_words 34 = .ok (.lconst 0, 1) := dk_9 (dk_at dksX3_words_1 10 rfl rfl)
theorem dX3_words_35 : decode cX3_words 35 = .ok (.ldc2_w 120, 3) := dk_20 0 120 (dk_at dksX3_words_1 11 rfl rfl)
theorem dX3_words_38 : decode cX3_words 38 = .ok (.invokestatic 62, 3) := dk_184 0 62 (dk_at dksX3_words_1 14 rfl rfl)
theorem dX3_words_41 : decode cX3_words 41 = .ok (.ifCond .eq 14, 3) := dk_153 0 14 (dk_at dksX3_words_1 17 rfl rfl)
theorem dX3_words_44 : decode cX3_words 44 = .ok (.iload_n 1, 1) := dk_27 (dk_at dksX3_words_1 20 rfl rfl)
theorem dX3_words_45 : decode cX3_words 45 = .ok (.iconst 1, 1) := dk_4 (dk_at dksX3_words_1 21 rfl rfl)
theorem dX3_words_46 : decode cX3_words 46 = .ok (.iload_n 3, 1) := dk_29 (dk_at dksX3_words_1 22 rfl rfl)
theorem dX3_words_47 : decode cX3_words 47 = .ok (.ishl, 1) := dk_120 (dk_at dksX3_words_1 23 rfl rfl)
theorem dX3_words_48 : decode cX3_words 48 = .ok (.if_icmp .ge 7, 3) := dk_162 0 7 (dk_at dksX3_words_2 0 rfl rfl)
theorem dX3_words_51 : decode cX3_words 51 = .ok (.iconst 1, 1) := dk_4 (dk_at dksX3_words_2 3 rfl rfl)
theorem dX3_words_52 : decode cX3_words 52 = .ok (.goto 4, 3) := dk_167 0 4 (dk_at dksX3_words_2 4 rfl rfl)
theorem dX3_words_55 : decode cX3_words 55 = .ok (.iconst 0, 1) := dk_3 (dk_at dksX3_words_2 7 rfl rfl)
theorem dX3_words_56 : decode cX3_words 56 = .ok (.invokevirtual 116, 3) := dk_182 0 116 (dk_at dksX3_words_2 8 rfl rfl)
theorem dX3_words_59 : decode cX3_words 59 = .ok (.iload_n 1, 1) := dk_27 (dk_at dksX3_words_2 11 rfl rfl)
theorem dX3_words_60 : decode cX3_words 60 = .ok (.iconst 1, 1) := dk_4 (dk_at dksX3_words_2 12 rfl rfl)
theorem dX3_words_61 : decode cX3_words 61 = .ok (.iload_n 3, 1) := dk_29 (dk_at dksX3_words_2 13 rfl rfl)
theorem dX3_words_62 : decode cX3_words 62 = .ok (.ishl, 1) := dk_120 (dk_at dksX3_words_2 14 rfl rfl)
theorem dX3_words_63 : decode cX3_words 63 = .ok (.ior, 1) := dk_128 (dk_at dksX3_words_2 15 rfl rfl)
theorem dX3_words_64 : decode cX3_words 64 = .ok (.istore_n 1, 1) := dk_60 (dk_at dksX3_words_2 16 rfl rfl)
theorem dX3_words_65 : decode cX3_words 65 = .ok (.iinc 2 1, 3) := dk_132 2 1 (dk_at dksX3_words_2 17 rfl rfl)
theorem dX3_words_68 : decode cX3_words 68 = .ok (.goto (-60), 3) := dk_167 255 196 (dk_at dksX3_words_2 20 rfl rfl)
theorem dX3_words_71 : decode cX3_words 71 = .ok (.aload_n 0, 1) := dk_42 (dk_at dksX3_words_2 23 rfl rfl)
theorem dX3_words_72 : decode cX3_words 72 = .ok (.iload_n 1, 1) := dk_27 (dk_at dksX3_words_3 0 rfl rfl)
theorem dX3_words_73 : decode cX3_words 73 = .ok (.ifCond .eq 7, 3) := dk_153 0 7 (dk_at dksX3_words_3 1 rfl rfl)
theorem dX3_words_76 : decode cX3_words 76 = .ok (.iconst 1, 1) := dk_4 (dk_at dksX3_words_3 4 rfl rfl)
theorem dX3_words_77 : decode cX3_words 77 = .ok (.goto 4, 3) := dk_167 0 4 (dk_at dksX3_words_3 5 rfl rfl)
theorem dX3_words_80 : decode cX3_words 80 = .ok (.iconst 0, 1) := dk_3 (dk_at dksX3_words_3 8 rfl rfl)
theorem dX3_words_81 : decode cX3_words 81 = .ok (.invokevirtual 116, 3) := dk_182 0 116 (dk_at dksX3_words_3 9 rfl rfl)
theorem dX3_words_84 : decode cX3_words 84 = .ok (.iload_n 1, 1) := dk_27 (dk_at dksX3_words_3 12 rfl rfl)
theorem dX3_words_85 : decode cX3_words 85 = .ok (.ireturn, 1) := dk_172 (dk_at dksX3_words_3 13 rfl rfl)
abbrev cX3_knows : ByteArray := prog_13_method_8_code
def yX3_knows : MethodName := ⟨RX3, "knows", "()[I"⟩
def dkwX3_knows_2 : List UInt8 := [5, 28, 184, 0, 134, 79, 89, 6, 42, 3, 16, 9, 182, 0, 122, 79, 176]
abbrev dktX3_knows_2 : List UInt8 := dkwX3_knows_2 ++ []
def dkwX3_knows_1 : List UInt8 := [160, 0, 7, 4, 167, 0, 4, 3, 182, 0, 116, 7, 188, 10, 89, 3, 16, 7, 79, 89, 4, 27, 79, 89]
abbrev dktX3_knows_1 : List UInt8 := dkwX3_knows_1 ++ dktX3_knows_2
def dkwX3_knows_0 : List UInt8 := [42, 3, 42, 180, 0, 25, 4, 100, 182, 0, 122, 60, 42, 182, 0, 126, 61, 42, 28, 184, 0, 129, 4]
abbrev dktX3_knows_0 : List UInt8 := dkwX3_knows_0 ++ dktX3_knows_1
theorem dksX3_knows_0 : cX3_knows.data.toList.drop 0 = dktX3_knows_0 := by decide +kernel
theorem dksX3_knows_1 : cX3_knows.data.toList.drop 23 = dktX3_knows_1 := dk_seg dksX3_knows_0 23 rfl rfl
theorem dksX3_knows_2 : cX3_knows.data.toList.drop 47 = dktX3_knows_2 := dk_seg dksX3_knows_1 24 rfl rfl
theorem dX3_knows_0 : decode cX3_knows 0 = .ok (.aload_n 0, 1) := dk_42 (dk_at dksX3_knows_0 0 rfl rfl)
theorem dX3_knows_1 : decode cX3_knows 1 = .ok (.iconst 0, 1) := dk_3 (dk_at dksX3_knows_0 1 rfl rfl)
theorem dX3_knows_2 : decode cX3_knows 2 = .ok (.aload_n 0, 1) := dk_42 (dk_at dksX3_knows_0 2 rfl rfl)
theorem dX3_knows_3 : decode cX3_knows 3 = .ok (.getfield 25, 3) := dk_180 0 25 (dk_at dksX3_knows_0 3 rfl rfl)
theorem dX3_knows_6 : decode cX3_knows 6 = .ok (.iconst 1, 1) := dk_4 (dk_at dksX3_knows_0 6 rfl rfl)
theorem dX3_knows_7 : decode cX3_knows 7 = .ok (.isub, 1) := dk_100 (dk_at dksX3_knows_0 7 rfl rfl)
theorem dX3_knows_8 : decode cX3_knows 8 = .ok (.invokevirtual 122, 3) := dk_182 0 122 (dk_at dksX3_knows_0 8 rfl rfl)
theorem dX3_knows_11 : decode cX3_knows 11 = .ok (.istore_n 1, 1) := dk_60 (dk_at dksX3_knows_0 11 rfl rfl)
theorem dX3_knows_12 : decode cX3_knows 12 = .ok (.aload_n 0, 1) := dk_42 (dk_at dksX3_knows_0 12 rfl rfl)
theorem dX3_knows_13 : decode cX3_knows 13 = .ok (.invokevirtual 126, 3) := dk_182 0 126 (dk_at dksX3_knows_0 13 rfl rfl)
theorem dX3_knows_16 : decode cX3_knows 16 = .ok (.istore_n 2, 1) := dk_61 (dk_at dksX3_knows_0 16 rfl rfl)
theorem dX3_knows_17 : decode cX3_knows 17 = .ok (.aload_n 0, 1) := dk_42 (dk_at dksX3_knows_0 17 rfl rfl)
theorem dX3_knows_18 : decode cX3_knows 18 = .ok (.iload_n 2, 1) := dk_28 (dk_at dksX3_knows_0 18 rfl rfl)
theorem dX3_knows_19 : decode cX3_knows 19 = .ok (.invokestatic 129, 3) := dk_184 0 129 (dk_at dksX3_knows_0 19 rfl rfl)
theorem dX3_knows_22 : decode cX3_knows 22 = .ok (.iconst 1, 1) := dk_4 (dk_at dksX3_knows_0 22 rfl rfl)
theorem dX3_knows_23 : decode cX3_knows 23 = .ok (.if_icmp .ne 7, 3) := dk_160 0 7 (dk_at dksX3_knows_1 0 rfl rfl)
theorem dX3_knows_26 : decode cX3_knows 26 = .ok (.iconst 1, 1) := dk_4 (dk_at dksX3_knows_1 3 rfl rfl)
theorem dX3_knows_27 : decode cX3_knows 27 = .ok (.goto 4, 3) := dk_167 0 4 (dk_at dksX3_knows_1 4 rfl rfl)
theorem dX3_knows_30 : decode cX3_knows 30 = .ok (.iconst 0, 1) := dk_3 (dk_at dksX3_knows_1 7 rfl rfl)
theorem dX3_knows_31 : decode cX3_knows 31 = .ok (.invokevirtual 116, 3) := dk_182 0 116 (dk_at dksX3_knows_1 8 rfl rfl)
theorem dX3_knows_34 : decode cX3_knows 34 = .ok (.iconst 4, 1) := dk_7 (dk_at dksX3_knows_1 11 rfl rfl)
theorem dX3_knows_35 : decode cX3_knows 35 = .ok (.newarray .int, 2) := dk_188_10 (dk_at dksX3_knows_1 12 rfl rfl)
theorem dX3_knows_37 : decode cX3_knows 37 = .ok (.dup, 1) := dk_89 (dk_at dksX3_knows_1 14 rfl rfl)
theorem dX3_knows_38 : decode cX3_knows 38 = .ok (.iconst 0, 1) := dk_3 (dk_at dksX3_knows_1 15 rfl rfl)
theorem dX3_knows_39 : decode cX3_knows 39 = .ok (.bipush 7, 2) := dk_16 7 (dk_at dksX3_knows_1 16 rfl rfl)
theorem dX3_knows_41 : decode cX3_knows 41 = .ok (.iastore, 1) := dk_79 (dk_at dksX3_knows_1 18 rfl rfl)
theorem dX3_knows_42 : decode cX3_knows 42 = .ok (.dup, 1) := dk_89 (dk_at dksX3_knows_1 19 rfl rfl)
theorem dX3_knows_43 : decode cX3_knows 43 = .ok (.iconst 1, 1) := dk_4 (dk_at dksX3_knows_1 20 rfl rfl)
theorem dX3_knows_44 : decode cX3_knows 44 = .ok (.iload_n 1, 1) := dk_27 (dk_at dksX3_knows_1 21 rfl rfl)
theorem dX3_knows_45 : decode cX3_knows 45 = .ok (.iastore, 1) := dk_79 (dk_at dksX3_knows_1 22 rfl rfl)
theorem dX3_knows_46 : decode cX3_knows 46 = .ok (.dup, 1) := dk_89 (dk_at dksX3_knows_1 23 rfl rfl)
theorem dX3_knows_47 : decode cX3_knows 47 = .ok (.iconst 2, 1) := dk_5 (dk_at dksX3_knows_2 0 rfl rfl)
theorem dX3_knows_48 : decode cX3_knows 48 = .ok (.iload_n 2, 1) := dk_28 (dk_at dksX3_knows_2 1 rfl rfl)
theorem dX3_knows_49 : decode cX3_knows 49 = .ok (.invokestatic 134, 3) := dk_184 0 134 (dk_at dksX3_knows_2 2 rfl rfl)
theorem dX3_knows_52 : decode cX3_knows 52 = .ok (.iastore, 1) := dk_79 (dk_at dksX3_knows_2 5 rfl rfl)
theorem dX3_knows_53 : decode cX3_knows 53 = .ok (.dup, 1) := dk_89 (dk_at dksX3_knows_2 6 rfl rfl)
theorem dX3_knows_54 : decode cX3_knows 54 = .ok (.iconst 3, 1) := dk_6 (dk_at dksX3_knows_2 7 rfl rfl)
theorem dX3_knows_55 : decode cX3_knows 55 = .ok (.aload_n 0, 1) := dk_42 (dk_at dksX3_knows_2 8 rfl rfl)
theorem dX3_knows_56 : decode cX3_knows 56 = .ok (.iconst 0, 1) := dk_3 (dk_at dksX3_knows_2 9 rfl rfl)
theorem dX3_knows_57 : decode cX3_knows 57 = .ok (.bipush 9, 2) := dk_16 9 (dk_at dksX3_knows_2 10 rfl rfl)
theorem dX3_knows_59 : decode cX3_knows 59 = .ok (.invokevirtual 122, 3) := dk_182 0 122 (dk_at dksX3_knows_2 12 rfl rfl)
theorem dX3_knows_62 : decode cX3_knows 62 = .ok (.iastore, 1) := dk_79 (dk_at dksX3_knows_2 15 rfl rfl)
theorem dX3_knows_63 : decode cX3_knows 63 = .ok (.areturn, 1) := dk_176 (dk_at dksX3_knows_2 16 rfl rfl)
abbrev cX3_number : ByteArray := prog_13_method_5_code
def yX3_number : MethodName := ⟨RX3, "number", "(II)I"⟩
def dkwX3_number_2 : List UInt8 := [182, 0, 116, 42, 180, 0, 17, 3, 182, 0, 112, 16, 48, 100, 172]
abbrev dktX3_number_2 : List UInt8 := dkwX3_number_2 ++ []
def dkwX3_number_1 : List UInt8 := [133, 16, 48, 27, 96, 133, 16, 48, 28, 96, 133, 184, 0, 62, 153, 0, 7, 4, 167, 0, 4, 3]
abbrev dktX3_number_1 : List UInt8 := dkwX3_number_1 ++ dktX3_number_2
def dkwX3_number_0 : List UInt8 := [42, 182, 0, 103, 42, 42, 180, 0, 17, 182, 0, 106, 4, 160, 0, 32, 42, 180, 0, 17, 3, 182, 0, 112]
abbrev dktX3_number_0 : List UInt8 := dkwX3_number_0 ++ dktX3_number_1
theorem dksX3_number_0 : cX3_number.data.toList.drop 0 = dktX3_number_0 := by decide +kernel
theorem dksX3_number_1 : cX3_number.data.toList.drop 24 = dktX3_number_1 := dk_seg dksX3_number_0 24 rfl rfl
theorem dksX3_number_2 : cX3_number.data.toList.drop 46 = dktX3_number_2 := dk_seg dksX3_number_1 22 rfl rfl
theorem dX3_number_0 : decode cX3_number 0 = .ok (.aload_n 0, 1) := dk_42 (dk_at dksX3_number_0 0 rfl rfl)
theorem dX3_number_1 : decode cX3_number 1 = .ok (.invokevirtual 103, 3) := dk_182 0 103 (dk_at dksX3_number_0 1 rfl rfl)
theorem dX3_number_4 : decode cX3_number 4 = .ok (.aload_n 0, 1) := dk_42 (dk_at dksX3_number_0 4 rfl rfl)
theorem dX3_number_5 : decode cX3_number 5 = .ok (.aload_n 0, 1) := dk_42 (dk_at dksX3_number_0 5 rfl rfl)
theorem dX3_number_6 : decode cX3_number 6 = .ok (.getfield 17, 3) := dk_180 0 17 (dk_at dksX3_number_0 6 rfl rfl)
theorem dX3_number_9 : decode cX3_number 9 = .ok (.invokevirtual 106, 3) := dk_182 0 106 (dk_at dksX3_number_0 9 rfl rfl)
theorem dX3_number_12 : decode cX3_number 12 = .ok (.iconst 1, 1) := dk_4 (dk_at dksX3_number_0 12 rfl rfl)
theorem dX3_number_13 : decode cX3_number 13 = .ok (.if_icmp .ne 32, 3) := dk_160 0 32 (dk_at dksX3_number_0 13 rfl rfl)
theorem dX3_number_16 : decode cX3_number 16 = .ok (.aload_n 0, 1) := dk_42 (dk_at dksX3_number_0 16 rfl rfl)
theorem dX3_number_17 : decode cX3_number 17 = .ok (.getfield 17, 3) := dk_180 0 17 (dk_at dksX3_number_0 17 rfl rfl)
theorem dX3_number_20 : decode cX3_number 20 = .ok (.iconst 0, 1) := dk_3 (dk_at dksX3_number_0 20 rfl rfl)
theorem dX3_number_21 : decode cX3_number 21 = .ok (.invokevirtual 112, 3) := dk_182 0 112 (dk_at dksX3_number_0 21 rfl rfl)
theorem dX3_number_24 : decode cX3_number 24 = .ok (.i2l, 1) := dk_133 (dk_at dksX3_number_1 0 rfl rfl)
theorem dX3_number_25 : decode cX3_number 25 = .ok (.bipush 48, 2) := dk_16 48 (dk_at dksX3_number_1 1 rfl rfl)
theorem dX3_number_27 : decode cX3_number 27 = .ok (.iload_n 1, 1) := dk_27 (dk_at dksX3_number_1 3 rfl rfl)
theorem dX3_number_28 : decode cX3_number 28 = .ok (.iadd, 1) := dk_96 (dk_at dksX3_number_1 4 rfl rfl)
theorem dX3_number_29 : decode cX3_number 29 = .ok (.i2l, 1) := dk_133 (dk_at dksX3_number_1 5 rfl rfl)
theorem dX3_number_30 : decode cX3_number 30 = .ok (.bipush 48, 2) := dk_16 48 (dk_at dksX3_number_1 6 rfl rfl)
theorem dX3_number_32 : decode cX3_number 32 = .ok (.iload_n 2, 1) := dk_28 (dk_at dksX3_number_1 8 rfl rfl)
theorem dX3_number_33 : decode cX3_number 33 = .ok (.iadd, 1) := dk_96 (dk_at dksX3_number_1 9 rfl rfl)
theorem dX3_number_34 : decode cX3_number 34 = .ok (.i2l, 1) := dk_133 (dk_at dksX3_number_1 10 rfl rfl)
theorem dX3_number_35 : decode cX3_number 35 = .ok (.invokestatic 62, 3) := dk_184 0 62 (dk_at dksX3_number_1 11 rfl rfl)
theorem dX3_number_38 : decode cX3_number 38 = .ok (.ifCond .eq 7, 3) := dk_153 0 7 (dk_at dksX3_number_1 14 rfl rfl)
theorem dX3_number_41 : decode cX3_number 41 = .ok (.iconst 1, 1) := dk_4 (dk_at dksX3_number_1 17 rfl rfl)
theorem dX3_number_42 : decode cX3_number 42 = .ok (.goto 4, 3) := dk_167 0 4 (dk_at dksX3_number_1 18 rfl rfl)
theorem dX3_number_45 : decode cX3_number 45 = .ok (.iconst 0, 1) := dk_3 (dk_at dksX3_number_1 21 rfl rfl)
theorem dX3_number_46 : decode cX3_number 46 = .ok (.invokevirtual 116, 3) := dk_182 0 116 (dk_at dksX3_number_2 0 rfl rfl)
theorem dX3_number_49 : decode cX3_number 49 = .ok (.aload_n 0, 1) := dk_42 (dk_at dksX3_number_2 3 rfl rfl)
theorem dX3_number_50 : decode cX3_number 50 = .ok (.getfield 17, 3) := dk_180 0 17 (dk_at dksX3_number_2 4 rfl rfl)
theorem dX3_number_53 : decode cX3_number 53 = .ok (.iconst 0, 1) := dk_3 (dk_at dksX3_number_2 7 rfl rfl)
theorem dX3_number_54 : decode cX3_number 54 = .ok (.invokevirtual 112, 3) := dk_182 0 112 (dk_at dksX3_number_2 8 rfl rfl)
theorem dX3_number_57 : decode cX3_number 57 = .ok (.bipush 48, 2) := dk_16 48 (dk_at dksX3_number_2 11 rfl rfl)
theorem dX3_number_59 : decode cX3_number 59 = .ok (.isub, 1) := dk_100 (dk_at dksX3_number_2 13 rfl rfl)
theorem dX3_number_60 : decode cX3_number 60 = .ok (.ireturn, 1) := dk_172 (dk_at dksX3_number_2 14 rfl rfl)
abbrev cX3_sits : ByteArray := prog_13_method_7_code
def yX3_sits : MethodName := ⟨RX3, "sits", "()[I"⟩
def dkwX3_sits_3 : List UInt8 := [6, 188, 10, 89, 3, 16, 8, 79, 89, 4, 27, 79, 89, 5, 28, 79, 176]
abbrev dktX3_sits_3 : List UInt8 := dkwX3_sits_3 ++ []
def dkwX3_sits_2 : List UInt8 := [159, 0, 7, 4, 167, 0, 4, 3, 182, 0, 116, 132, 3, 1, 167, 255, 221, 42, 180, 0, 49, 27, 28, 79]
abbrev dktX3_sits_2 : List UInt8 := dkwX3_sits_2 ++ dktX3_sits_3
def dkwX3_sits_1 : List UInt8 := [3, 62, 29, 42, 180, 0, 31, 162, 0, 33, 42, 29, 27, 159, 0, 13, 42, 180, 0, 49, 29, 46, 28]
abbrev dktX3_sits_1 : List UInt8 := dkwX3_sits_1 ++ dktX3_sits_2
def dkwX3_sits_0 : List UInt8 := [42, 3, 42, 180, 0, 31, 4, 100, 182, 0, 122, 60, 42, 3, 42, 180, 0, 25, 4, 100, 182, 0, 122, 61]
abbrev dktX3_sits_0 : List UInt8 := dkwX3_sits_0 ++ dktX3_sits_1
theorem dksX3_sits_0 : cX3_sits.data.toList.drop 0 = dktX3_sits_0 := by decide +kernel
theorem dksX3_sits_1 : cX3_sits.data.toList.drop 24 = dktX3_sits_1 := dk_seg dksX3_sits_0 24 rfl rfl
theorem dksX3_sits_2 : cX3_sits.data.toList.drop 47 = dktX3_sits_2 := dk_seg dksX3_sits_1 23 rfl rfl
theorem dksX3_sits_3 : cX3_sits.data.toList.drop 71 = dktX3_sits_3 := dk_seg dksX3_sits_2 24 rfl rfl
theorem dX3_sits_0 : decode cX3_sits 0 = .ok (.aload_n 0, 1) := dk_42 (dk_at dksX3_sits_0 0 rfl rfl)
theorem dX3_sits_1 : decode cX3_sits 1 = .ok (.iconst 0, 1) := dk_3 (dk_at dksX3_sits_0 1 rfl rfl)
theorem dX3_sits_2 : decode cX3_sits 2 = .ok (.aload_n 0, 1) := dk_42 (dk_at dksX3_sits_0 2 rfl rfl)
theorem dX3_sits_3 : decode cX3_sits 3 = .ok (.getfield 31, 3) := dk_180 0 31 (dk_at dksX3_sits_0 3 rfl rfl)
theorem dX3_sits_6 : decode cX3_sits 6 = .ok (.iconst 1, 1) := dk_4 (dk_at dksX3_sits_0 6 rfl rfl)
theorem dX3_sits_7 : decode cX3_sits 7 = .ok (.isub, 1) := dk_100 (dk_at dksX3_sits_0 7 rfl rfl)
theorem dX3_sits_8 : decode cX3_sits 8 = .ok (.invokevirtual 122, 3) := dk_182 0 122 (dk_at dksX3_sits_0 8 rfl rfl)
theorem dX3_sits_11 : decode cX3_sits 11 = .ok (.istore_n 1, 1) := dk_60 (dk_at dksX3_sits_0 11 rfl rfl)
theorem dX3_sits_12 : decode cX3_sits 12 = .ok (.aload_n 0, 1) := dk_42 (dk_at dksX3_sits_0 12 rfl rfl)
theorem dX3_sits_13 : decode cX3_sits 13 = .ok (.iconst 0, 1) := dk_3 (dk_at dksX3_sits_0 13 rfl rfl)
theorem dX3_sits_14 : decode cX3_sits 14 = .ok (.aload_n 0, 1) := dk_42 (dk_at dksX3_sits_0 14 rfl rfl)
theorem dX3_sits_15 : decode cX3_sits 15 = .ok (.getfield 25, 3) := dk_180 0 25 (dk_at dksX3_sits_0 15 rfl rfl)
theorem dX3_sits_18 : decode cX3_sits 18 = .ok (.iconst 1, 1) := dk_4 (dk_at dksX3_sits_0 18 rfl rfl)
theorem dX3_sits_19 : decode cX3_sits 19 = .ok (.isub, 1) := dk_100 (dk_at dksX3_sits_0 19 rfl rfl)
theorem dX3_sits_20 : decode cX3_sits 20 = .ok (.invokevirtual 122, 3) := dk_182 0 122 (dk_at dksX3_sits_0 20 rfl rfl)
theorem dX3_sits_23 : decode cX3_sits 23 = .ok (.istore_n 2, 1) := dk_61 (dk_at dksX3_sits_0 23 rfl rfl)
theorem dX3_sits_24 : decode cX3_sits 24 = .ok (.iconst 0, 1) := dk_3 (dk_at dksX3_sits_1 0 rfl rfl)
theorem dX3_sits_25 : decode cX3_sits 25 = .ok (.istore_n 3, 1) := dk_62 (dk_at dksX3_sits_1 1 rfl rfl)
theorem dX3_sits_26 : decode cX3_sits 26 = .ok (.iload_n 3, 1) := dk_29 (dk_at dksX3_sits_1 2 rfl rfl)
theorem dX3_sits_27 : decode cX3_sits 27 = .ok (.aload_n 0, 1) := dk_42 (dk_at dksX3_sits_1 3 rfl rfl)
theorem dX3_sits_28 : decode cX3_sits 28 = .ok (.getfield 31, 3) := dk_180 0 31 (dk_at dksX3_sits_1 4 rfl rfl)
theorem dX3_sits_31 : decode cX3_sits 31 = .ok (.if_icmp .ge 33, 3) := dk_162 0 33 (dk_at dksX3_sits_1 7 rfl rfl)
theorem dX3_sits_34 : decode cX3_sits 34 = .ok (.aload_n 0, 1) := dk_42 (dk_at dksX3_sits_1 10 rfl rfl)
theorem dX3_sits_35 : decode cX3_sits 35 = .ok (.iload_n 3, 1) := dk_29 (dk_at dksX3_sits_1 11 rfl rfl)
theorem dX3_sits_36 : decode cX3_sits 36 = .ok (.iload_n 1, 1) := dk_27 (dk_at dksX3_sits_1 12 rfl rfl)
theorem dX3_sits_37 : decode cX3_sits 37 = .ok (.if_icmp .eq 13, 3) := dk_159 0 13 (dk_at dksX3_sits_1 13 rfl rfl)
theorem dX3_sits_40 : decode cX3_sits 40 = .ok (.aload_n 0, 1) := dk_42 (dk_at dksX3_sits_1 16 rfl rfl)
theorem dX3_sits_41 : decode cX3_sits 41 = .ok (.getfield 49, 3) := dk_180 0 49 (dk_at dksX3_sits_1 17 rfl rfl)
theorem dX3_sits_44 : decode cX3_sits 44 = .ok (.iload_n 3, 1) := dk_29 (dk_at dksX3_sits_1 20 rfl rfl)
theorem dX3_sits_45 : decode cX3_sits 45 = .ok (.iaload, 1) := dk_46 (dk_at dksX3_sits_1 21 rfl rfl)
theorem dX3_sits_46 : decode cX3_sits 46 = .ok (.iload_n 2, 1) := dk_28 (dk_at dksX3_sits_1 22 rfl rfl)
theorem dX3_sits_47 : decode cX3_sits 47 = .ok (.if_icmp .eq 7, 3) := dk_159 0 7 (dk_at dksX3_sits_2 0 rfl rfl)
theorem dX3_sits_50 : decode cX3_sits 50 = .ok (.iconst 1, 1) := dk_4 (dk_at dksX3_sits_2 3 rfl rfl)
theorem dX3_sits_51 : decode cX3_sits 51 = .ok (.goto 4, 3) := dk_167 0 4 (dk_at dksX3_sits_2 4 rfl rfl)
theorem dX3_sits_54 : decode cX3_sits 54 = .ok (.iconst 0, 1) := dk_3 (dk_at dksX3_sits_2 7 rfl rfl)
theorem dX3_sits_55 : decode cX3_sits 55 = .ok (.invokevirtual 116, 3) := dk_182 0 116 (dk_at dksX3_sits_2 8 rfl rfl)
theorem dX3_sits_58 : decode cX3_sits 58 = .ok (.iinc 3 1, 3) := dk_132 3 1 (dk_at dksX3_sits_2 11 rfl rfl)
theorem dX3_sits_61 : decode cX3_sits 61 = .ok (.goto (-35), 3) := dk_167 255 221 (dk_at dksX3_sits_2 14 rfl rfl)
theorem dX3_sits_64 : decode cX3_sits 64 = .ok (.aload_n 0, 1) := dk_42 (dk_at dksX3_sits_2 17 rfl rfl)
theorem dX3_sits_65 : decode cX3_sits 65 = .ok (.getfield 49, 3) := dk_180 0 49 (dk_at dksX3_sits_2 18 rfl rfl)
theorem dX3_sits_68 : decode cX3_sits 68 = .ok (.iload_n 1, 1) := dk_27 (dk_at dksX3_sits_2 21 rfl rfl)
theorem dX3_sits_69 : decode cX3_sits 69 = .ok (.iload_n 2, 1) := dk_28 (dk_at dksX3_sits_2 22 rfl rfl)
theorem dX3_sits_70 : decode cX3_sits 70 = .ok (.iastore, 1) := dk_79 (dk_at dksX3_sits_2 23 rfl rfl)
theorem dX3_sits_71 : decode cX3_sits 71 = .ok (.iconst 3, 1) := dk_6 (dk_at dksX3_sits_3 0 rfl rfl)
theorem dX3_sits_72 : decode cX3_sits 72 = .ok (.newarray .int, 2) := dk_188_10 (dk_at dksX3_sits_3 1 rfl rfl)
theorem dX3_sits_74 : decode cX3_sits 74 = .ok (.dup, 1) := dk_89 (dk_at dksX3_sits_3 3 rfl rfl)
theorem dX3_sits_75 : decode cX3_sits 75 = .ok (.iconst 0, 1) := dk_3 (dk_at dksX3_sits_3 4 rfl rfl)
theorem dX3_sits_76 : decode cX3_sits 76 = .ok (.bipush 8, 2) := dk_16 8 (dk_at dksX3_sits_3 5 rfl rfl)
theorem dX3_sits_78 : decode cX3_sits 78 = .ok (.iastore, 1) := dk_79 (dk_at dksX3_sits_3 7 rfl rfl)
theorem dX3_sits_79 : decode cX3_sits 79 = .ok (.dup, 1) := dk_89 (dk_at dksX3_sits_3 8 rfl rfl)
theorem dX3_sits_80 : decode cX3_sits 80 = .ok (.iconst 1, 1) := dk_4 (dk_at dksX3_sits_3 9 rfl rfl)
theorem dX3_sits_81 : decode cX3_sits 81 = .ok (.iload_n 1, 1) := dk_27 (dk_at dksX3_sits_3 10 rfl rfl)
theorem dX3_sits_82 : decode cX3_sits 82 = .ok (.iastore, 1) := dk_79 (dk_at dksX3_sits_3 11 rfl rfl)
theorem dX3_sits_83 : decode cX3_sits 83 = .ok (.dup, 1) := dk_89 (dk_at dksX3_sits_3 12 rfl rfl)
theorem dX3_sits_84 : decode cX3_sits 84 = .ok (.iconst 2, 1) := dk_5 (dk_at dksX3_sits_3 13 rfl rfl)
theorem dX3_sits_85 : decode cX3_sits 85 = .ok (.iload_n 2, 1) := dk_28 (dk_at dksX3_sits_3 14 rfl rfl)
theorem dX3_sits_86 : decode cX3_sits 86 = .ok (.iastore, 1) := dk_79 (dk_at dksX3_sits_3 15 rfl rfl)
theorem dX3_sits_87 : decode cX3_sits 87 = .ok (.areturn, 1) := dk_176 (dk_at dksX3_sits_3 16 rfl rfl)
abbrev cX3_tongue : ByteArray := prog_13_method_15_code
def yX3_tongue : MethodName := ⟨RX3, "tongue", "()LParrotSpeech$Part;"⟩
def dkwX3_tongue_0 : List UInt8 := [42, 182, 0, 103, 42, 182, 0, 192, 76, 42, 42, 180, 0, 17, 182, 0, 176, 182, 0, 116, 43, 176]
abbrev dktX3_tongue_0 : List UInt8 := dkwX3_tongue_0 ++ []
theorem dksX3_tongue_0 : cX3_tongue.data.toList.drop 0 = dktX3_tongue_0 := by decide +kernel
theorem dX3_tongue_0 : decode cX3_tongue 0 = .ok (.aload_n 0, 1) := dk_42 (dk_at dksX3_tongue_0 0 rfl rfl)
theorem dX3_tongue_1 : decode cX3_tongue 1 = .ok (.invokevirtual 103, 3) := dk_182 0 103 (dk_at dksX3_tongue_0 1 rfl rfl)
theorem dX3_tongue_4 : decode cX3_tongue 4 = .ok (.aload_n 0, 1) := dk_42 (dk_at dksX3_tongue_0 4 rfl rfl)
theorem dX3_tongue_5 : decode cX3_tongue 5 = .ok (.invokevirtual 192, 3) := dk_182 0 192 (dk_at dksX3_tongue_0 5 rfl rfl)
theorem dX3_tongue_8 : decode cX3_tongue 8 = .ok (.astore_n 1, 1) := dk_76 (dk_at dksX3_tongue_0 8 rfl rfl)
theorem dX3_tongue_9 : decode cX3_tongue 9 = .ok (.aload_n 0, 1) := dk_42 (dk_at dksX3_tongue_0 9 rfl rfl)
theorem dX3_tongue_10 : decode cX3_tongue 10 = .ok (.aload_n 0, 1) := dk_42 (dk_at dksX3_tongue_0 10 rfl rfl)
theorem dX3_tongue_11 : decode cX3_tongue 11 = .ok (.getfield 17, 3) := dk_180 0 17 (dk_at dksX3_tongue_0 11 rfl rfl)
theorem dX3_tongue_14 : decode cX3_tongue 14 = .ok (.invokevirtual 176, 3) := dk_182 0 176 (dk_at dksX3_tongue_0 14 rfl rfl)
theorem dX3_tongue_17 : decode cX3_tongue 17 = .ok (.invokevirtual 116, 3) := dk_182 0 116 (dk_at dksX3_tongue_0 17 rfl rfl)
theorem dX3_tongue_20 : decode cX3_tongue 20 = .ok (.aload_n 1, 1) := dk_43 (dk_at dksX3_tongue_0 20 rfl rfl)
theorem dX3_tongue_21 : decode cX3_tongue 21 = .ok (.areturn, 1) := dk_176 (dk_at dksX3_tongue_0 21 rfl rfl)
abbrev cX3_sum : ByteArray := prog_13_method_14_code
def yX3_sum : MethodName := ⟨RX3, "sum", "()LParrotSpeech$Part;"⟩
def dkwX3_sum_2 : List UInt8 := [180, 0, 231, 42, 182, 0, 232, 185, 0, 225, 2, 0, 87, 167, 255, 226, 43, 176]
abbrev dktX3_sum_2 : List UInt8 := dkwX3_sum_2 ++ []
def dkwX3_sum_1 : List UInt8 := [185, 0, 225, 2, 0, 87, 42, 180, 0, 17, 18, 235, 182, 0, 172, 153, 0, 24, 42, 182, 0, 103, 43]
abbrev dktX3_sum_1 : List UInt8 := dkwX3_sum_1 ++ dktX3_sum_2
def dkwX3_sum_0 : List UInt8 := [187, 0, 228, 89, 42, 180, 0, 3, 183, 0, 230, 76, 43, 180, 0, 231, 42, 182, 0, 232]
abbrev dktX3_sum_0 : List UInt8 := dkwX3_sum_0 ++ dktX3_sum_1
theorem dksX3_sum_0 : cX3_sum.data.toList.drop 0 = dktX3_sum_0 := by decide +kernel
theorem dksX3_sum_1 : cX3_sum.data.toList.drop 20 = dktX3_sum_1 := dk_seg dksX3_sum_0 20 rfl rfl
theorem dksX3_sum_2 : cX3_sum.data.toList.drop 43 = dktX3_sum_2 := dk_seg dksX3_sum_1 23 rfl rfl
theorem dX3_sum_0 : decode cX3_sum 0 = .ok (.new 228, 3) := dk_187 0 228 (dk_at dksX3_sum_0 0 rfl rfl)
theorem dX3_sum_3 : decode cX3_sum 3 = .ok (.dup, 1) := dk_89 (dk_at dksX3_sum_0 3 rfl rfl)
theorem dX3_sum_4 : decode cX3_sum 4 = .ok (.aload_n 0, 1) := dk_42 (dk_at dksX3_sum_0 4 rfl rfl)
theorem dX3_sum_5 : decode cX3_sum 5 = .ok (.getfield 3, 3) := dk_180 0 3 (dk_at dksX3_sum_0 5 rfl rfl)
theorem dX3_sum_8 : decode cX3_sum 8 = .ok (.invokespecial 230, 3) := dk_183 0 230 (dk_at dksX3_sum_0 8 rfl rfl)
theorem dX3_sum_11 : decode cX3_sum 11 = .ok (.astore_n 1, 1) := dk_76 (dk_at dksX3_sum_0 11 rfl rfl)
theorem dX3_sum_12 : decode cX3_sum 12 = .ok (.aload_n 1, 1) := dk_43 (dk_at dksX3_sum_0 12 rfl rfl)
theorem dX3_sum_13 : decode cX3_sum 13 = .ok (.getfield 231, 3) := dk_180 0 231 (dk_at dksX3_sum_0 13 rfl rfl)
theorem dX3_sum_16 : decode cX3_sum 16 = .ok (.aload_n 0, 1) := dk_42 (dk_at dksX3_sum_0 16 rfl rfl)
theorem dX3_sum_17 : decode cX3_sum 17 = .ok (.invokevirtual 232, 3) := dk_182 0 232 (dk_at dksX3_sum_0 17 rfl rfl)
theorem dX3_sum_20 : decode cX3_sum 20 = .ok (.invokeinterface 225 2, 5) := by decide +kernel
theorem dX3_sum_25 : decode cX3_sum 25 = .ok (.pop, 1) := dk_87 (dk_at dksX3_sum_1 5 rfl rfl)
theorem dX3_sum_26 : decode cX3_sum 26 = .ok (.aload_n 0, 1) := dk_42 (dk_at dksX3_sum_1 6 rfl rfl)
theorem dX3_sum_27 : decode cX3_sum 27 = .ok (.getfield 17, 3) := dk_180 0 17 (dk_at dksX3_sum_1 7 rfl rfl)
theorem dX3_sum_30 : decode cX3_sum 30 = .ok (.ldc 235, 2) := dk_18 235 (dk_at dksX3_sum_1 10 rfl rfl)
theorem dX3_sum_32 : decode cX3_sum 32 = .ok (.invokevirtual 172, 3) := dk_182 0 172 (dk_at dksX3_sum_1 12 rfl rfl)
theorem dX3_sum_35 : decode cX3_sum 35 = .ok (.ifCond .eq 24, 3) := dk_153 0 24 (dk_at dksX3_sum_1 15 rfl rfl)
theorem dX3_sum_38 : decode cX3_sum 38 = .ok (.aload_n 0, 1) := dk_42 (dk_at dksX3_sum_1 18 rfl rfl)
theorem dX3_sum_39 : decode cX3_sum 39 = .ok (.invokevirtual 103, 3) := dk_182 0 103 (dk_at dksX3_sum_1 19 rfl rfl)
theorem dX3_sum_42 : decode cX3_sum 42 = .ok (.aload_n 1, 1) := dk_43 (dk_at dksX3_sum_1 22 rfl rfl)
theorem dX3_sum_43 : decode cX3_sum 43 = .ok (.getfield 231, 3) := dk_180 0 231 (dk_at dksX3_sum_2 0 rfl rfl)
theorem dX3_sum_46 : decode cX3_sum 46 = .ok (.aload_n 0, 1) := dk_42 (dk_at dksX3_sum_2 3 rfl rfl)
theorem dX3_sum_47 : decode cX3_sum 47 = .ok (.invokevirtual 232, 3) := dk_182 0 232 (dk_at dksX3_sum_2 4 rfl rfl)
theorem dX3_sum_50 : decode cX3_sum 50 = .ok (.invokeinterface 225 2, 5) := by decide +kernel
theorem dX3_sum_55 : decode cX3_sum 55 = .ok (.pop, 1) := dk_87 (dk_at dksX3_sum_2 12 rfl rfl)
theorem dX3_sum_56 : decode cX3_sum 56 = .ok (.goto (-30), 3) := dk_167 255 226 (dk_at dksX3_sum_2 13 rfl rfl)
theorem dX3_sum_59 : decode cX3_sum 59 = .ok (.aload_n 1, 1) := dk_43 (dk_at dksX3_sum_2 16 rfl rfl)
theorem dX3_sum_60 : decode cX3_sum 60 = .ok (.areturn, 1) := dk_176 (dk_at dksX3_sum_2 17 rfl rfl)
abbrev cX3_row : ByteArray := prog_13_method_13_code
def yX3_row : MethodName := ⟨RX3, "row", "()LParrotSpeech$Part;"⟩
def dkwX3_row_1 : List UInt8 := [185, 0, 225, 2, 0, 87, 42, 182, 0, 186, 154, 255, 238, 43, 176]
abbrev dktX3_row_1 : List UInt8 := dkwX3_row_1 ++ []
def dkwX3_row_0 : List UInt8 := [187, 0, 213, 89, 42, 180, 0, 3, 183, 0, 215, 76, 43, 180, 0, 218, 42, 182, 0, 222]
abbrev dktX3_row_0 : List UInt8 := dkwX3_row_0 ++ dktX3_row_1
theorem dksX3_row_0 : cX3_row.data.toList.drop 0 = dktX3_row_0 := by decide +kernel
theorem dksX3_row_1 : cX3_row.data.toList.drop 20 = dktX3_row_1 := dk_seg dksX3_row_0 20 rfl rfl
theorem dX3_row_0 : decode cX3_row 0 = .ok (.new 213, 3) := dk_187 0 213 (dk_at dksX3_row_0 0 rfl rfl)
theorem dX3_row_3 : decode cX3_row 3 = .ok (.dup, 1) := dk_89 (dk_at dksX3_row_0 3 rfl rfl)
theorem dX3_row_4 : decode cX3_row 4 = .ok (.aload_n 0, 1) := dk_42 (dk_at dksX3_row_0 4 rfl rfl)
theorem dX3_row_5 : decode cX3_row 5 = .ok (.getfield 3, 3) := dk_180 0 3 (dk_at dksX3_row_0 5 rfl rfl)
theorem dX3_row_8 : decode cX3_row 8 = .ok (.invokespecial 215, 3) := dk_183 0 215 (dk_at dksX3_row_0 8 rfl rfl)
theorem dX3_row_11 : decode cX3_row 11 = .ok (.astore_n 1, 1) := dk_76 (dk_at dksX3_row_0 11 rfl rfl)
theorem dX3_row_12 : decode cX3_row 12 = .ok (.aload_n 1, 1) := dk_43 (dk_at dksX3_row_0 12 rfl rfl)
theorem dX3_row_13 : decode cX3_row 13 = .ok (.getfield 218, 3) := dk_180 0 218 (dk_at dksX3_row_0 13 rfl rfl)
theorem dX3_row_16 : decode cX3_row 16 = .ok (.aload_n 0, 1) := dk_42 (dk_at dksX3_row_0 16 rfl rfl)
theorem dX3_row_17 : decode cX3_row 17 = .ok (.invokevirtual 222, 3) := dk_182 0 222 (dk_at dksX3_row_0 17 rfl rfl)
theorem dX3_row_20 : decode cX3_row 20 = .ok (.invokeinterface 225 2, 5) := by decide +kernel
theorem dX3_row_25 : decode cX3_row 25 = .ok (.pop, 1) := dk_87 (dk_at dksX3_row_1 5 rfl rfl)
theorem dX3_row_26 : decode cX3_row 26 = .ok (.aload_n 0, 1) := dk_42 (dk_at dksX3_row_1 6 rfl rfl)
theorem dX3_row_27 : decode cX3_row 27 = .ok (.invokevirtual 186, 3) := dk_182 0 186 (dk_at dksX3_row_1 7 rfl rfl)
theorem dX3_row_30 : decode cX3_row 30 = .ok (.ifCond .ne (-18), 3) := dk_154 255 238 (dk_at dksX3_row_1 10 rfl rfl)
theorem dX3_row_33 : decode cX3_row 33 = .ok (.aload_n 1, 1) := dk_43 (dk_at dksX3_row_1 13 rfl rfl)
theorem dX3_row_34 : decode cX3_row 34 = .ok (.areturn, 1) := dk_176 (dk_at dksX3_row_1 14 rfl rfl)
abbrev cX3_part : ByteArray := prog_13_method_12_code
def yX3_part : MethodName := ⟨RX3, "part", "()LParrotSpeech$Part;"⟩
def dkwX3_part_7 : List UInt8 := [183, 0, 210, 76, 43, 176]
abbrev dktX3_part_7 : List UInt8 := dkwX3_part_7 ++ []
def dkwX3_part_6 : List UInt8 := [180, 0, 17, 18, 206, 182, 0, 172, 153, 0, 20, 42, 182, 0, 103, 187, 0, 208, 89, 42, 180, 0, 3, 43]
abbrev dktX3_part_6 : List UInt8 := dkwX3_part_6 ++ dktX3_part_7
def dkwX3_part_5 : List UInt8 := [167, 0, 14, 42, 180, 0, 17, 3, 182, 0, 112, 16, 97, 100, 183, 0, 203, 76, 42, 182, 0, 103, 42]
abbrev dktX3_part_5 : List UInt8 := dkwX3_part_5 ++ dktX3_part_6
def dkwX3_part_4 : List UInt8 := [181, 0, 198, 187, 0, 201, 89, 42, 180, 0, 3, 42, 180, 0, 17, 18, 182, 182, 0, 172, 153, 0, 7, 2]
abbrev dktX3_part_4 : List UInt8 := dkwX3_part_4 ++ dktX3_part_5
def dkwX3_part_3 : List UInt8 := [182, 0, 116, 42, 89, 180, 0, 189, 4, 100, 181, 0, 189, 167, 0, 52, 42, 89, 180, 0, 198, 4, 96]
abbrev dktX3_part_3 : List UInt8 := dkwX3_part_3 ++ dktX3_part_4
def dkwX3_part_2 : List UInt8 := [181, 0, 189, 42, 182, 0, 103, 42, 182, 0, 192, 76, 42, 42, 180, 0, 17, 18, 196, 182, 0, 172]
abbrev dktX3_part_2 : List UInt8 := dkwX3_part_2 ++ dktX3_part_3
def dkwX3_part_1 : List UInt8 := [180, 0, 189, 16, 6, 162, 0, 7, 4, 167, 0, 4, 3, 182, 0, 116, 42, 89, 180, 0, 189, 4, 96]
abbrev dktX3_part_1 : List UInt8 := dkwX3_part_1 ++ dktX3_part_2
def dkwX3_part_0 : List UInt8 := [42, 42, 182, 0, 186, 182, 0, 116, 42, 180, 0, 17, 18, 184, 182, 0, 172, 153, 0, 66, 42, 42]
abbrev dktX3_part_0 : List UInt8 := dkwX3_part_0 ++ dktX3_part_1
theorem dksX3_part_0 : cX3_part.data.toList.drop 0 = dktX3_part_0 := by decide +kernel
theorem dksX3_part_1 : cX3_part.data.toList.drop 22 = dktX3_part_1 := dk_seg dksX3_part_0 22 rfl rfl
theorem dksX3_part_2 : cX3_part.data.toList.drop 45 = dktX3_part_2 := dk_seg dksX3_part_1 23 rfl rfl
theorem dksX3_part_3 : cX3_part.data.toList.drop 67 = dktX3_part_3 := dk_seg dksX3_part_2 22 rfl rfl
theorem dksX3_part_4 : cX3_part.data.toList.drop 90 = dktX3_part_4 := dk_seg dksX3_part_3 23 rfl rfl
theorem dksX3_part_5 : cX3_part.data.toList.drop 114 = dktX3_part_5 := dk_seg dksX3_part_4 24 rfl rfl
theorem dksX3_part_6 : cX3_part.data.toList.drop 137 = dktX3_part_6 := dk_seg dksX3_part_5 23 rfl rfl
theorem dksX3_part_7 : cX3_part.data.toList.drop 161 = dktX3_part_7 := dk_seg dksX3_part_6 24 rfl rfl
theorem dX3_part_0 : decode cX3_part 0 = .ok (.aload_n 0, 1) := dk_42 (dk_at dksX3_part_0 0 rfl rfl)
theorem dX3_part_1 : decode cX3_part 1 = .ok (.aload_n 0, 1) := dk_42 (dk_at dksX3_part_0 1 rfl rfl)
theorem dX3_part_2 : decode cX3_part 2 = .ok (.invokevirtual 186, 3) := dk_182 0 186 (dk_at dksX3_part_0 2 rfl rfl)
theorem dX3_part_5 : decode cX3_part 5 = .ok (.invokevirtual 116, 3) := dk_182 0 116 (dk_at dksX3_part_0 5 rfl rfl)
theorem dX3_part_8 : decode cX3_part 8 = .ok (.aload_n 0, 1) := dk_42 (dk_at dksX3_part_0 8 rfl rfl)
theorem dX3_part_9 : decode cX3_part 9 = .ok (.getfield 17, 3) := dk_180 0 17 (dk_at dksX3_part_0 9 rfl rfl)
theorem dX3_part_12 : decode cX3_part 12 = .ok (.ldc 184, 2) := dk_18 184 (dk_at dksX3_part_0 12 rfl rfl)
theorem dX3_part_14 : decode cX3_part 14 = .ok (.invokevirtual 172, 3) := dk_182 0 172 (dk_at dksX3_part_0 14 rfl rfl)
theorem dX3_part_17 : decode cX3_part 17 = .ok (.ifCond .eq 66, 3) := dk_153 0 66 (dk_at dksX3_part_0 17 rfl rfl)
theorem dX3_part_20 : decode cX3_part 20 = .ok (.aload_n 0, 1) := dk_42 (dk_at dksX3_part_0 20 rfl rfl)
theorem dX3_part_21 : decode cX3_part 21 = .ok (.aload_n 0, 1) := dk_42 (dk_at dksX3_part_0 21 rfl rfl)
theorem dX3_part_22 : decode cX3_part 22 = .ok (.getfield 189, 3) := dk_180 0 189 (dk_at dksX3_part_1 0 rfl rfl)
theorem dX3_part_25 : decode cX3_part 25 = .ok (.bipush 6, 2) := dk_16 6 (dk_at dksX3_part_1 3 rfl rfl)
theorem dX3_part_27 : decode cX3_part 27 = .ok (.if_icmp .ge 7, 3) := dk_162 0 7 (dk_at dksX3_part_1 5 rfl rfl)
theorem dX3_part_30 : decode cX3_part 30 = .ok (.iconst 1, 1) := dk_4 (dk_at dksX3_part_1 8 rfl rfl)
theorem dX3_part_31 : decode cX3_part 31 = .ok (.goto 4, 3) := dk_167 0 4 (dk_at dksX3_part_1 9 rfl rfl)
theorem dX3_part_34 : decode cX3_part 34 = .ok (.iconst 0, 1) := dk_3 (dk_at dksX3_part_1 12 rfl rfl)
theorem dX3_part_35 : decode cX3_part 35 = .ok (.invokevirtual 116, 3) := dk_182 0 116 (dk_at dksX3_part_1 13 rfl rfl)
theorem dX3_part_38 : decode cX3_part 38 = .ok (.aload_n 0, 1) := dk_42 (dk_at dksX3_part_1 16 rfl rfl)
theorem dX3_part_39 : decode cX3_part 39 = .ok (.dup, 1) := dk_89 (dk_at dksX3_part_1 17 rfl rfl)
theorem dX3_part_40 : decode cX3_part 40 = .ok (.getfield 189, 3) := dk_180 0 189 (dk_at dksX3_part_1 18 rfl rfl)
theorem dX3_part_43 : decode cX3_part 43 = .ok (.iconst 1, 1) := dk_4 (dk_at dksX3_part_1 21 rfl rfl)
theorem dX3_part_44 : decode cX3_part 44 = .ok (.iadd, 1) := dk_96 (dk_at dksX3_part_1 22 rfl rfl)
theorem dX3_part_45 : decode cX3_part 45 = .ok (.putfield 189, 3) := dk_181 0 189 (dk_at dksX3_part_2 0 rfl rfl)
theorem dX3_part_48 : decode cX3_part 48 = .ok (.aload_n 0, 1) := dk_42 (dk_at dksX3_part_2 3 rfl rfl)
theorem dX3_part_49 : decode cX3_part 49 = .ok (.invokevirtual 103, 3) := dk_182 0 103 (dk_at dksX3_part_2 4 rfl rfl)
theorem dX3_part_52 : decode cX3_part 52 = .ok (.aload_n 0, 1) := dk_42 (dk_at dksX3_part_2 7 rfl rfl)
theorem dX3_part_53 : decode cX3_part 53 = .ok (.invokevirtual 192, 3) := dk_182 0 192 (dk_at dksX3_part_2 8 rfl rfl)
theorem dX3_part_56 : decode cX3_part 56 = .ok (.astore_n 1, 1) := dk_76 (dk_at dksX3_part_2 11 rfl rfl)
theorem dX3_part_57 : decode cX3_part 57 = .ok (.aload_n 0, 1) := dk_42 (dk_at dksX3_part_2 12 rfl rfl)
theorem dX3_part_58 : decode cX3_part 58 = .ok (.aload_n 0, 1) := dk_42 (dk_at dksX3_part_2 13 rfl rfl)
theorem dX3_part_59 : decode cX3_part 59 = .ok (.getfield 17, 3) := dk_180 0 17 (dk_at dksX3_part_2 14 rfl rfl)
theorem dX3_part_62 : decode cX3_part 62 = .ok (.ldc 196, 2) := dk_18 196 (dk_at dksX3_part_2 17 rfl rfl)
theorem dX3_part_64 : decode cX3_part 64 = .ok (.invokevirtual 172, 3) := dk_182 0 172 (dk_at dksX3_part_2 19 rfl rfl)
theorem dX3_part_67 : decode cX3_part 67 = .ok (.invokevirtual 116, 3) := dk_182 0 116 (dk_at dksX3_part_3 0 rfl rfl)
theorem dX3_part_70 : decode cX3_part 70 = .ok (.aload_n 0, 1) := dk_42 (dk_at dksX3_part_3 3 rfl rfl)
theorem dX3_part_71 : decode cX3_part 71 = .ok (.dup, 1) := dk_89 (dk_at dksX3_part_3 4 rfl rfl)
theorem dX3_part_72 : decode cX3_part 72 = .ok (.getfield 189, 3) := dk_180 0 189 (dk_at dksX3_part_3 5 rfl rfl)
theorem dX3_part_75 : decode cX3_part 75 = .ok (.iconst 1, 1) := dk_4 (dk_at dksX3_part_3 8 rfl rfl)
theorem dX3_part_76 : decode cX3_part 76 = .ok (.isub, 1) := dk_100 (dk_at dksX3_part_3 9 rfl rfl)
theorem dX3_part_77 : decode cX3_part 77 = .ok (.putfield 189, 3) := dk_181 0 189 (dk_at dksX3_part_3 10 rfl rfl)
theorem dX3_part_80 : decode cX3_part 80 = .ok (.goto 52, 3) := dk_167 0 52 (dk_at dksX3_part_3 13 rfl rfl)
theorem dX3_part_83 : decode cX3_part 83 = .ok (.aload_n 0, 1) := dk_42 (dk_at dksX3_part_3 16 rfl rfl)
theorem dX3_part_84 : decode cX3_part 84 = .ok (.dup, 1) := dk_89 (dk_at dksX3_part_3 17 rfl rfl)
theorem dX3_part_85 : decode cX3_part 85 = .ok (.getfield 198, 3) := dk_180 0 198 (dk_at dksX3_part_3 18 rfl rfl)
theorem dX3_part_88 : decode cX3_part 88 = .ok (.iconst 1, 1) := dk_4 (dk_at dksX3_part_3 21 rfl rfl)
theorem dX3_part_89 : decode cX3_part 89 = .ok (.iadd, 1) := dk_96 (dk_at dksX3_part_3 22 rfl rfl)
theorem dX3_part_90 : decode cX3_part 90 = .ok (.putfield 198, 3) := dk_181 0 198 (dk_at dksX3_part_4 0 rfl rfl)
theorem dX3_part_93 : decode cX3_part 93 = .ok (.new 201, 3) := dk_187 0 201 (dk_at dksX3_part_4 3 rfl rfl)
theorem dX3_part_96 : decode cX3_part 96 = .ok (.dup, 1) := dk_89 (dk_at dksX3_part_4 6 rfl rfl)
theorem dX3_part_97 : decode cX3_part 97 = .ok (.aload_n 0, 1) := dk_42 (dk_at dksX3_part_4 7 rfl rfl)
theorem dX3_part_98 : decode cX3_part 98 = .ok (.getfield 3, 3) := dk_180 0 3 (dk_at dksX3_part_4 8 rfl rfl)
theorem dX3_part_101 : decode cX3_part 101 = .ok (.aload_n 0, 1) := dk_42 (dk_at dksX3_part_4 11 rfl rfl)
theorem dX3_part_102 : decode cX3_part 102 = .ok (.getfield 17, 3) := dk_180 0 17 (dk_at dksX3_part_4 12 rfl rfl)
theorem dX3_part_105 : decode cX3_part 105 = .ok (.ldc 182, 2) := dk_18 182 (dk_at dksX3_part_4 15 rfl rfl)
theorem dX3_part_107 : decode cX3_part 107 = .ok (.invokevirtual 172, 3) := dk_182 0 172 (dk_at dksX3_part_4 17 rfl rfl)
theorem dX3_part_110 : decode cX3_part 110 = .ok (.ifCond .eq 7, 3) := dk_153 0 7 (dk_at dksX3_part_4 20 rfl rfl)
theorem dX3_part_113 : decode cX3_part 113 = .ok (.iconst (-1), 1) := dk_2 (dk_at dksX3_part_4 23 rfl rfl)
theorem dX3_part_114 : decode cX3_part 114 = .ok (.goto 14, 3) := dk_167 0 14 (dk_at dksX3_part_5 0 rfl rfl)
theorem dX3_part_117 : decode cX3_part 117 = .ok (.aload_n 0, 1) := dk_42 (dk_at dksX3_part_5 3 rfl rfl)
theorem dX3_part_118 : decode cX3_part 118 = .ok (.getfield 17, 3) := dk_180 0 17 (dk_at dksX3_part_5 4 rfl rfl)
theorem dX3_part_121 : decode cX3_part 121 = .ok (.iconst 0, 1) := dk_3 (dk_at dksX3_part_5 7 rfl rfl)
theorem dX3_part_122 : decode cX3_part 122 = .ok (.invokevirtual 112, 3) := dk_182 0 112 (dk_at dksX3_part_5 8 rfl rfl)
theorem dX3_part_125 : decode cX3_part 125 = .ok (.bipush 97, 2) := dk_16 97 (dk_at dksX3_part_5 11 rfl rfl)
theorem dX3_part_127 : decode cX3_part 127 = .ok (.isub, 1) := dk_100 (dk_at dksX3_part_5 13 rfl rfl)
theorem dX3_part_128 : decode cX3_part 128 = .ok (.invokespecial 203, 3) := dk_183 0 203 (dk_at dksX3_part_5 14 rfl rfl)
theorem dX3_part_131 : decode cX3_part 131 = .ok (.astore_n 1, 1) := dk_76 (dk_at dksX3_part_5 17 rfl rfl)
theorem dX3_part_132 : decode cX3_part 132 = .ok (.aload_n 0, 1) := dk_42 (dk_at dksX3_part_5 18 rfl rfl)
theorem dX3_part_133 : decode cX3_part 133 = .ok (.invokevirtual 103, 3) := dk_182 0 103 (dk_at dksX3_part_5 19 rfl rfl)
theorem dX3_part_136 : decode cX3_part 136 = .ok (.aload_n 0, 1) := dk_42 (dk_at dksX3_part_5 22 rfl rfl)
theorem dX3_part_137 : decode cX3_part 137 = .ok (.getfield 17, 3) := dk_180 0 17 (dk_at dksX3_part_6 0 rfl rfl)
theorem dX3_part_140 : decode cX3_part 140 = .ok (.ldc 206, 2) := dk_18 206 (dk_at dksX3_part_6 3 rfl rfl)
theorem dX3_part_142 : decode cX3_part 142 = .ok (.invokevirtual 172, 3) := dk_182 0 172 (dk_at dksX3_part_6 5 rfl rfl)
theorem dX3_part_145 : decode cX3_part 145 = .ok (.ifCond .eq 20, 3) := dk_153 0 20 (dk_at dksX3_part_6 8 rfl rfl)
theorem dX3_part_148 : decode cX3_part 148 = .ok (.aload_n 0, 1) := dk_42 (dk_at dksX3_part_6 11 rfl rfl)
theorem dX3_part_149 : decode cX3_part 149 = .ok (.invokevirtual 103, 3) := dk_182 0 103 (dk_at dksX3_part_6 12 rfl rfl)
theorem dX3_part_152 : decode cX3_part 152 = .ok (.new 208, 3) := dk_187 0 208 (dk_at dksX3_part_6 15 rfl rfl)
theorem dX3_part_155 : decode cX3_part 155 = .ok (.dup, 1) := dk_89 (dk_at dksX3_part_6 18 rfl rfl)
theorem dX3_part_156 : decode cX3_part 156 = .ok (.aload_n 0, 1) := dk_42 (dk_at dksX3_part_6 19 rfl rfl)
theorem dX3_part_157 : decode cX3_part 157 = .ok (.getfield 3, 3) := dk_180 0 3 (dk_at dksX3_part_6 20 rfl rfl)
theorem dX3_part_160 : decode cX3_part 160 = .ok (.aload_n 1, 1) := dk_43 (dk_at dksX3_part_6 23 rfl rfl)
theorem dX3_part_161 : decode cX3_part 161 = .ok (.invokespecial 210, 3) := dk_183 0 210 (dk_at dksX3_part_7 0 rfl rfl)
theorem dX3_part_164 : decode cX3_part 164 = .ok (.astore_n 1, 1) := dk_76 (dk_at dksX3_part_7 3 rfl rfl)
theorem dX3_part_165 : decode cX3_part 165 = .ok (.aload_n 1, 1) := dk_43 (dk_at dksX3_part_7 4 rfl rfl)
theorem dX3_part_166 : decode cX3_part 166 = .ok (.areturn, 1) := dk_176 (dk_at dksX3_part_7 5 rfl rfl)
abbrev cX3_isPart : ByteArray := prog_13_method_11_code
def yX3_isPart : MethodName := ⟨RX3, "isPart", "()Z"⟩
def dkwX3_isPart_2 : List UInt8 := [180, 0, 17, 18, 184, 182, 0, 172, 153, 0, 7, 4, 167, 0, 4, 3, 172]
abbrev dktX3_isPart_2 : List UInt8 := dkwX3_isPart_2 ++ []
def dkwX3_isPart_1 : List UInt8 := [20, 0, 180, 184, 0, 62, 154, 0, 27, 42, 180, 0, 17, 18, 182, 182, 0, 172, 154, 0, 15, 42]
abbrev dktX3_isPart_1 : List UInt8 := dkwX3_isPart_1 ++ dktX3_isPart_2
def dkwX3_isPart_0 : List UInt8 := [42, 180, 0, 17, 182, 0, 176, 154, 0, 52, 42, 180, 0, 17, 3, 182, 0, 112, 133, 20, 0, 58]
abbrev dktX3_isPart_0 : List UInt8 := dkwX3_isPart_0 ++ dktX3_isPart_1
theorem dksX3_isPart_0 : cX3_isPart.data.toList.drop 0 = dktX3_isPart_0 := by decide +kernel
theorem dksX3_isPart_1 : cX3_isPart.data.toList.drop 22 = dktX3_isPart_1 := dk_seg dksX3_isPart_0 22 rfl rfl
theorem dksX3_isPart_2 : cX3_isPart.data.toList.drop 44 = dktX3_isPart_2 := dk_seg dksX3_isPart_1 22 rfl rfl
theorem dX3_isPart_0 : decode cX3_isPart 0 = .ok (.aload_n 0, 1) := dk_42 (dk_at dksX3_isPart_0 0 rfl rfl)
theorem dX3_isPart_1 : decode cX3_isPart 1 = .ok (.getfield 17, 3) := dk_180 0 17 (dk_at dksX3_isPart_0 1 rfl rfl)
theorem dX3_isPart_4 : decode cX3_isPart 4 = .ok (.invokevirtual 176, 3) := dk_182 0 176 (dk_at dksX3_isPart_0 4 rfl rfl)
theorem dX3_isPart_7 : decode cX3_isPart 7 = .ok (.ifCond .ne 52, 3) := dk_154 0 52 (dk_at dksX3_isPart_0 7 rfl rfl)
theorem dX3_isPart_10 : decode cX3_isPart 10 = .ok (.aload_n 0, 1) := dk_42 (dk_at dksX3_isPart_0 10 rfl rfl)
theorem dX3_isPart_11 : decode cX3_isPart 11 = .ok (.getfield 17, 3) := dk_180 0 17 (dk_at dksX3_isPart_0 11 rfl rfl)
theorem dX3_isPart_14 : decode cX3_isPart 14 = .ok (.iconst 0, 1) := dk_3 (dk_at dksX3_isPart_0 14 rfl rfl)
theorem dX3_isPart_15 : decode cX3_isPart 15 = .ok (.invokevirtual 112, 3) := dk_182 0 112 (dk_at dksX3_isPart_0 15 rfl rfl)
theorem dX3_isPart_18 : decode cX3_isPart 18 = .ok (.i2l, 1) := dk_133 (dk_at dksX3_isPart_0 18 rfl rfl)
theorem dX3_isPart_19 : decode cX3_isPart 19 = .ok (.ldc2_w 58, 3) := dk_20 0 58 (dk_at dksX3_isPart_0 19 rfl rfl)
theorem dX3_isPart_22 : decode cX3_isPart 22 = .ok (.ldc2_w 180, 3) := dk_20 0 180 (dk_at dksX3_isPart_1 0 rfl rfl)
theorem dX3_isPart_25 : decode cX3_isPart 25 = .ok (.invokestatic 62, 3) := dk_184 0 62 (dk_at dksX3_isPart_1 3 rfl rfl)
theorem dX3_isPart_28 : decode cX3_isPart 28 = .ok (.ifCond .ne 27, 3) := dk_154 0 27 (dk_at dksX3_isPart_1 6 rfl rfl)
theorem dX3_isPart_31 : decode cX3_isPart 31 = .ok (.aload_n 0, 1) := dk_42 (dk_at dksX3_isPart_1 9 rfl rfl)
theorem dX3_isPart_32 : decode cX3_isPart 32 = .ok (.getfield 17, 3) := dk_180 0 17 (dk_at dksX3_isPart_1 10 rfl rfl)
theorem dX3_isPart_35 : decode cX3_isPart 35 = .ok (.ldc 182, 2) := dk_18 182 (dk_at dksX3_isPart_1 13 rfl rfl)
theorem dX3_isPart_37 : decode cX3_isPart 37 = .ok (.invokevirtual 172, 3) := dk_182 0 172 (dk_at dksX3_isPart_1 15 rfl rfl)
theorem dX3_isPart_40 : decode cX3_isPart 40 = .ok (.ifCond .ne 15, 3) := dk_154 0 15 (dk_at dksX3_isPart_1 18 rfl rfl)
theorem dX3_isPart_43 : decode cX3_isPart 43 = .ok (.aload_n 0, 1) := dk_42 (dk_at dksX3_isPart_1 21 rfl rfl)
theorem dX3_isPart_44 : decode cX3_isPart 44 = .ok (.getfield 17, 3) := dk_180 0 17 (dk_at dksX3_isPart_2 0 rfl rfl)
theorem dX3_isPart_47 : decode cX3_isPart 47 = .ok (.ldc 184, 2) := dk_18 184 (dk_at dksX3_isPart_2 3 rfl rfl)
theorem dX3_isPart_49 : decode cX3_isPart 49 = .ok (.invokevirtual 172, 3) := dk_182 0 172 (dk_at dksX3_isPart_2 5 rfl rfl)
theorem dX3_isPart_52 : decode cX3_isPart 52 = .ok (.ifCond .eq 7, 3) := dk_153 0 7 (dk_at dksX3_isPart_2 8 rfl rfl)
theorem dX3_isPart_55 : decode cX3_isPart 55 = .ok (.iconst 1, 1) := dk_4 (dk_at dksX3_isPart_2 11 rfl rfl)
theorem dX3_isPart_56 : decode cX3_isPart 56 = .ok (.goto 4, 3) := dk_167 0 4 (dk_at dksX3_isPart_2 12 rfl rfl)
theorem dX3_isPart_59 : decode cX3_isPart 59 = .ok (.iconst 0, 1) := dk_3 (dk_at dksX3_isPart_2 15 rfl rfl)
theorem dX3_isPart_60 : decode cX3_isPart 60 = .ok (.ireturn, 1) := dk_172 (dk_at dksX3_isPart_2 16 rfl rfl)
theorem q93 : (Jvm.Cond.initialized "ParrotSpeech$Reader") ∈ lw_all := lw_g (lw_at lw_m1 6 rfl) rfl
theorem q157 : (Jvm.Cond.fieldLink "ParrotSpeech$Reader" (38 : Nat) "ParrotSpeech$State" "by" "[I") ∈ lw_all := lw_g (lw_at lw_m1 70 rfl) rfl
theorem q207 : (Jvm.Cond.fieldLinkNest "ParrotSpeech$Reader" (21 : Nat) "ParrotSpeech" "many" "I" "ParrotSpeech") ∈ lw_tbl := lw_at lw_m1 120 rfl
theorem q210 : (Jvm.Cond.fieldLinkNest "ParrotSpeech$Reader" (28 : Nat) "ParrotSpeech" "menMany" "I" "ParrotSpeech") ∈ lw_tbl := lw_at lw_m1 123 rfl
theorem q221 : (Jvm.Cond.fieldLinkNest "ParrotSpeech$Reader" (34 : Nat) "ParrotSpeech" "told" "LParrotSpeech$State;" "ParrotSpeech") ∈ lw_tbl := lw_at lw_m1 134 rfl
theorem q231 : (Jvm.Cond.fieldLinkNest "ParrotSpeech$Reader" (76 : Nat) "ParrotSpeech" "text" "[B" "ParrotSpeech") ∈ lw_tbl := lw_at lw_m1 144 rfl
theorem q233 : (Jvm.Cond.fieldLinkNest "ParrotSpeech$Reader" (73 : Nat) "ParrotSpeech" "letters" "I" "ParrotSpeech") ∈ lw_tbl := lw_at lw_m1 146 rfl
theorem q303 : (Jvm.Cond.instantiable "ParrotSpeech$Reader" (12 : Nat)) ∈ lw_all := lw_g (lw_at lw_m1 216 rfl) rfl
theorem q305 : (Jvm.Cond.instanceMethod ({ cls := "ParrotSpeech$Reader", name := "<init>", desc := "(LParrotSpeech;Z)V" } : Jvm.MethodName)) ∈ lw_all := lw_g (lw_at lw_m1 218 rfl) rfl
theorem q306 : (Jvm.Cond.code ({ cls := "ParrotSpeech$Reader", name := "<init>", desc := "(LParrotSpeech;Z)V" } : Jvm.MethodName) prog_13_method_1_code (3 : Nat) (Option.none : Option Jvm.ClassFile.FieldType)) ∈ lw_all := lw_g (lw_at lw_m1 219 rfl) rfl
theorem q307 : (Jvm.Cond.methodLink "ParrotSpeech$Reader" (9 : Nat) ({ cls := "java/lang/Object", name := "<init>", desc := "()V" } : Jvm.MethodName)) ∈ lw_all := lw_g (lw_at lw_m1 220 rfl) rfl
theorem q308 : (Jvm.Cond.stringRef "ParrotSpeech$Reader" (15 : Nat) "") ∈ lw_tbl := lw_at lw_m1 221 rfl
theorem q309 : (Jvm.Cond.methodLink "ParrotSpeech$Reader" (44 : Nat) ({ cls := "[I", name := "clone", desc := "()Ljava/lang/Object;" } : Jvm.MethodName)) ∈ lw_all := lw_g (lw_at lw_m1 222 rfl) rfl
theorem q315 : (Jvm.Cond.classLink "ParrotSpeech$Reader" (45 : Nat) "[I") ∈ lw_all := lw_g (lw_at lw_m1 228 rfl) rfl
theorem q316 : (Jvm.Cond.fieldLink "ParrotSpeech$Reader" (70 : Nat) "ParrotSpeech$Reader" "here" "I") ∈ lw_all := lw_g (lw_at lw_m1 229 rfl) rfl
theorem q317 : (Jvm.Cond.fieldLink "ParrotSpeech$Reader" (80 : Nat) "ParrotSpeech$Reader" "first" "I") ∈ lw_all := lw_g (lw_at lw_m1 230 rfl) rfl
theorem q318 : (Jvm.Cond.fieldLink "ParrotSpeech$Reader" (17 : Nat) "ParrotSpeech$Reader" "word" "Ljava/lang/String;") ∈ lw_all := lw_g (lw_at lw_m1 231 rfl) rfl
theorem q319 : (Jvm.Cond.fieldLink "ParrotSpeech$Reader" (54 : Nat) "ParrotSpeech$Reader" "single" "Z") ∈ lw_all := lw_g (lw_at lw_m1 232 rfl) rfl
theorem q320 : (Jvm.Cond.fieldLink "ParrotSpeech$Reader" (25 : Nat) "ParrotSpeech$Reader" "there" "I") ∈ lw_all := lw_g (lw_at lw_m1 233 rfl) rfl
theorem q321 : (Jvm.Cond.fieldLink "ParrotSpeech$Reader" (31 : Nat) "ParrotSpeech$Reader" "menThere" "I") ∈ lw_all := lw_g (lw_at lw_m1 234 rfl) rfl
theorem q322 : (Jvm.Cond.fieldLink "ParrotSpeech$Reader" (49 : Nat) "ParrotSpeech$Reader" "by" "[I") ∈ lw_all := lw_g (lw_at lw_m1 235 rfl) rfl
theorem q323 : (Jvm.Cond.fieldLink "ParrotSpeech$Reader" (189 : Nat) "ParrotSpeech$Reader" "deep" "I") ∈ lw_all := lw_g (lw_at lw_m1 236 rfl) rfl
theorem q324 : (Jvm.Cond.fieldLink "ParrotSpeech$Reader" (198 : Nat) "ParrotSpeech$Reader" "leaves" "I") ∈ lw_all := lw_g (lw_at lw_m1 237 rfl) rfl
theorem q326 : (Jvm.Cond.fieldLink "ParrotSpeech$Reader" (50 : Nat) "ParrotSpeech$Reader" "clauses" "[[I") ∈ lw_all := lw_g (lw_at lw_m1 239 rfl) rfl
theorem q328 : (Jvm.Cond.fieldLink "ParrotSpeech$Reader" (164 : Nat) "ParrotSpeech$Reader" "read" "I") ∈ lw_all := lw_g (lw_at lw_m2 1 rfl) rfl
theorem q330 : (Jvm.Cond.fieldLink "ParrotSpeech$Reader" (3 : Nat) "ParrotSpeech$Reader" "this$0" "LParrotSpeech;") ∈ lw_all := lw_g (lw_at lw_m2 3 rfl) rfl
theorem q331 : (Jvm.Cond.lays "ParrotSpeech$Reader" "ParrotSpeech$Reader" "here" "I") ∈ lw_all := lw_g (lw_at lw_m2 4 rfl) rfl
theorem q332 : (Jvm.Cond.soleField "ParrotSpeech$Reader" "here") ∈ lw_all := lw_g (lw_at lw_m2 5 rfl) rfl
theorem q333 : (Jvm.Cond.lays "ParrotSpeech$Reader" "ParrotSpeech$Reader" "first" "I") ∈ lw_all := lw_g (lw_at lw_m2 6 rfl) rfl
theorem q334 : (Jvm.Cond.soleField "ParrotSpeech$Reader" "first") ∈ lw_all := lw_g (lw_at lw_m2 7 rfl) rfl
theorem q335 : (Jvm.Cond.lays "ParrotSpeech$Reader" "ParrotSpeech$Reader" "word" "Ljava/lang/String;") ∈ lw_all := lw_g (lw_at lw_m2 8 rfl) rfl
theorem q336 : (Jvm.Cond.soleField "ParrotSpeech$Reader" "word") ∈ lw_all := lw_g (lw_at lw_m2 9 rfl) rfl
theorem q337 : (Jvm.Cond.laysFinal "ParrotSpeech$Reader" "ParrotSpeech$Reader" "single" "Z") ∈ lw_all := lw_g (lw_at lw_m2 10 rfl) rfl
theorem q338 : (Jvm.Cond.soleField "ParrotSpeech$Reader" "single") ∈ lw_all := lw_g (lw_at lw_m2 11 rfl) rfl
theorem q339 : (Jvm.Cond.lays "ParrotSpeech$Reader" "ParrotSpeech$Reader" "there" "I") ∈ lw_all := lw_g (lw_at lw_m2 12 rfl) rfl
theorem q340 : (Jvm.Cond.soleField "ParrotSpeech$Reader" "there") ∈ lw_all := lw_g (lw_at lw_m2 13 rfl) rfl
theorem q341 : (Jvm.Cond.lays "ParrotSpeech$Reader" "ParrotSpeech$Reader" "menThere" "I") ∈ lw_all := lw_g (lw_at lw_m2 14 rfl) rfl
theorem q342 : (Jvm.Cond.soleField "ParrotSpeech$Reader" "menThere") ∈ lw_all := lw_g (lw_at lw_m2 15 rfl) rfl
theorem q343 : (Jvm.Cond.laysFinal "ParrotSpeech$Reader" "ParrotSpeech$Reader" "by" "[I") ∈ lw_all := lw_g (lw_at lw_m2 16 rfl) rfl
theorem q344 : (Jvm.Cond.soleField "ParrotSpeech$Reader" "by") ∈ lw_all := lw_g (lw_at lw_m2 17 rfl) rfl
theorem q345 : (Jvm.Cond.lays "ParrotSpeech$Reader" "ParrotSpeech$Reader" "deep" "I") ∈ lw_all := lw_g (lw_at lw_m2 18 rfl) rfl
theorem q346 : (Jvm.Cond.soleField "ParrotSpeech$Reader" "deep") ∈ lw_all := lw_g (lw_at lw_m2 19 rfl) rfl
theorem q347 : (Jvm.Cond.lays "ParrotSpeech$Reader" "ParrotSpeech$Reader" "leaves" "I") ∈ lw_all := lw_g (lw_at lw_m2 20 rfl) rfl
theorem q348 : (Jvm.Cond.soleField "ParrotSpeech$Reader" "leaves") ∈ lw_all := lw_g (lw_at lw_m2 21 rfl) rfl
theorem q349 : (Jvm.Cond.laysFinal "ParrotSpeech$Reader" "ParrotSpeech$Reader" "clauses" "[[I") ∈ lw_all := lw_g (lw_at lw_m2 22 rfl) rfl
theorem q350 : (Jvm.Cond.soleField "ParrotSpeech$Reader" "clauses") ∈ lw_all := lw_g (lw_at lw_m2 23 rfl) rfl
theorem q351 : (Jvm.Cond.lays "ParrotSpeech$Reader" "ParrotSpeech$Reader" "read" "I") ∈ lw_all := lw_g (lw_at lw_m2 24 rfl) rfl
theorem q352 : (Jvm.Cond.soleField "ParrotSpeech$Reader" "read") ∈ lw_all := lw_g (lw_at lw_m2 25 rfl) rfl
theorem q353 : (Jvm.Cond.laysFinal "ParrotSpeech$Reader" "ParrotSpeech$Reader" "this$0" "LParrotSpeech;") ∈ lw_all := lw_g (lw_at lw_m2 26 rfl) rfl
theorem q354 : (Jvm.Cond.soleField "ParrotSpeech$Reader" "this$0") ∈ lw_all := lw_g (lw_at lw_m2 27 rfl) rfl
theorem q355 : (Jvm.Cond.superclass "ParrotSpeech$Reader" "java/lang/Object") ∈ lw_all := lw_g (lw_at lw_m2 28 rfl) rfl
theorem q357 : (Jvm.Cond.instanceMethod ({ cls := "ParrotSpeech$Reader", name := "read", desc := "()LParrotSpeech$Reader;" } : Jvm.MethodName)) ∈ lw_all := lw_g (lw_at lw_m2 30 rfl) rfl
theorem q358 : (Jvm.Cond.selects "ParrotSpeech$Reader" ({ cls := "ParrotSpeech$Reader", name := "read", desc := "()LParrotSpeech$Reader;" } : Jvm.MethodName) ({ cls := "ParrotSpeech$Reader", name := "read", desc := "()LParrotSpeech$Reader;" } : Jvm.MethodName)) ∈ lw_all := lw_g (lw_at lw_m2 31 rfl) rfl
theorem q359 : (Jvm.Cond.code ({ cls := "ParrotSpeech$Reader", name := "read", desc := "()LParrotSpeech$Reader;" } : Jvm.MethodName) prog_13_method_10_code (2 : Nat) (Option.some (Jvm.ClassFile.FieldType.object "ParrotSpeech$Reader"))) ∈ lw_all := lw_g (lw_at lw_m2 32 rfl) rfl
theorem q360 : (Jvm.Cond.methodLink "ParrotSpeech$Reader" (167 : Nat) ({ cls := "ParrotSpeech$Reader", name := "clause", desc := "()[I" } : Jvm.MethodName)) ∈ lw_all := lw_g (lw_at lw_m2 33 rfl) rfl
theorem q361 : (Jvm.Cond.privateMethod ({ cls := "ParrotSpeech$Reader", name := "clause", desc := "()[I" } : Jvm.MethodName)) ∈ lw_tbl := lw_at lw_m2 34 rfl
theorem q362 : (Jvm.Cond.instanceMethod ({ cls := "ParrotSpeech$Reader", name := "clause", desc := "()[I" } : Jvm.MethodName)) ∈ lw_all := lw_g (lw_at lw_m2 35 rfl) rfl
theorem q363 : (Jvm.Cond.code ({ cls := "ParrotSpeech$Reader", name := "clause", desc := "()[I" } : Jvm.MethodName) prog_13_method_9_code (2 : Nat) (Option.some (Jvm.ClassFile.FieldType.array Jvm.ClassFile.FieldType.int))) ∈ lw_all := lw_g (lw_at lw_m2 36 rfl) rfl
theorem q364 : (Jvm.Cond.methodLink "ParrotSpeech$Reader" (103 : Nat) ({ cls := "ParrotSpeech$Reader", name := "take", desc := "()V" } : Jvm.MethodName)) ∈ lw_all := lw_g (lw_at lw_m2 37 rfl) rfl
theorem q365 : (Jvm.Cond.privateMethod ({ cls := "ParrotSpeech$Reader", name := "take", desc := "()V" } : Jvm.MethodName)) ∈ lw_tbl := lw_at lw_m2 38 rfl
theorem q366 : (Jvm.Cond.instanceMethod ({ cls := "ParrotSpeech$Reader", name := "take", desc := "()V" } : Jvm.MethodName)) ∈ lw_all := lw_g (lw_at lw_m2 39 rfl) rfl
theorem q367 : (Jvm.Cond.code ({ cls := "ParrotSpeech$Reader", name := "take", desc := "()V" } : Jvm.MethodName) prog_13_method_3_code (3 : Nat) (Option.none : Option Jvm.ClassFile.FieldType)) ∈ lw_all := lw_g (lw_at lw_m2 40 rfl) rfl
theorem q368 : (Jvm.Cond.methodLink "ParrotSpeech$Reader" (83 : Nat) ({ cls := "ParrotSpeech$Reader", name := "kindOf", desc := "(I)I" } : Jvm.MethodName)) ∈ lw_all := lw_g (lw_at lw_m2 41 rfl) rfl
theorem q369 : (Jvm.Cond.privateMethod ({ cls := "ParrotSpeech$Reader", name := "kindOf", desc := "(I)I" } : Jvm.MethodName)) ∈ lw_tbl := lw_at lw_m2 42 rfl
theorem q370 : (Jvm.Cond.instanceMethod ({ cls := "ParrotSpeech$Reader", name := "kindOf", desc := "(I)I" } : Jvm.MethodName)) ∈ lw_all := lw_g (lw_at lw_m2 43 rfl) rfl
theorem q371 : (Jvm.Cond.code ({ cls := "ParrotSpeech$Reader", name := "kindOf", desc := "(I)I" } : Jvm.MethodName) prog_13_method_2_code (2 : Nat) (Option.some Jvm.ClassFile.FieldType.int)) ∈ lw_all := lw_g (lw_at lw_m2 44 rfl) rfl
theorem q372 : (Jvm.Cond.constantLong "ParrotSpeech$Reader" (58 : Nat) (97 : Int64)) ∈ lw_all := lw_g (lw_at lw_m2 45 rfl) rfl
theorem q373 : (Jvm.Cond.constantLong "ParrotSpeech$Reader" (60 : Nat) (122 : Int64)) ∈ lw_all := lw_g (lw_at lw_m2 46 rfl) rfl
theorem q374 : (Jvm.Cond.methodLinkNest "ParrotSpeech$Reader" (62 : Nat) ({ cls := "ParrotSpeech", name := "in", desc := "(JJJ)Z" } : Jvm.MethodName) "ParrotSpeech") ∈ lw_tbl := lw_at lw_m2 47 rfl
theorem q375 : (Jvm.Cond.constantLong "ParrotSpeech$Reader" (66 : Nat) (48 : Int64)) ∈ lw_all := lw_g (lw_at lw_m2 48 rfl) rfl
theorem q376 : (Jvm.Cond.constantLong "ParrotSpeech$Reader" (68 : Nat) (57 : Int64)) ∈ lw_all := lw_g (lw_at lw_m2 49 rfl) rfl
theorem q377 : (Jvm.Cond.classLink "ParrotSpeech$Reader" (87 : Nat) "java/lang/StringBuilder") ∈ lw_all := lw_g (lw_at lw_m2 50 rfl) rfl
theorem q379 : (Jvm.Cond.methodLink "ParrotSpeech$Reader" (89 : Nat) ({ cls := "java/lang/StringBuilder", name := "<init>", desc := "()V" } : Jvm.MethodName)) ∈ lw_all := lw_g (lw_at lw_m2 52 rfl) rfl
theorem q489 : (Jvm.Cond.methodLink "ParrotSpeech$Reader" (90 : Nat) ({ cls := "java/lang/StringBuilder", name := "append", desc := "(C)Ljava/lang/StringBuilder;" } : Jvm.MethodName)) ∈ lw_all := lw_g (lw_at lw_m2 162 rfl) rfl
theorem q580 : (Jvm.Cond.methodLink "ParrotSpeech$Reader" (94 : Nat) ({ cls := "java/lang/StringBuilder", name := "toString", desc := "()Ljava/lang/String;" } : Jvm.MethodName)) ∈ lw_all := lw_g (lw_at lw_m3 13 rfl) rfl
theorem q641 : (Jvm.Cond.fieldLinkNest "ParrotSpeech$Reader" (137 : Nat) "ParrotSpeech" "HEADS" "[Ljava/lang/String;" "ParrotSpeech") ∈ lw_tbl := lw_at lw_m3 74 rfl
theorem q643 : (Jvm.Cond.methodLink "ParrotSpeech$Reader" (141 : Nat) ({ cls := "java/util/Arrays", name := "asList", desc := "([Ljava/lang/Object;)Ljava/util/List;" } : Jvm.MethodName)) ∈ lw_all := lw_g (lw_at lw_m3 76 rfl) rfl
theorem q691 : (Jvm.Cond.interfaceEntry "ParrotSpeech$Reader" (147 : Nat)) ∈ lw_tbl := lw_at lw_m3 124 rfl
theorem q692 : (Jvm.Cond.methodLink "ParrotSpeech$Reader" (147 : Nat) ({ cls := "java/util/List", name := "indexOf", desc := "(Ljava/lang/Object;)I" } : Jvm.MethodName)) ∈ lw_all := lw_g (lw_at lw_m3 125 rfl) rfl
theorem q719 : (Jvm.Cond.selects "ParrotSpeech$Reader" ({ cls := "java/lang/Object", name := "equals", desc := "(Ljava/lang/Object;)Z" } : Jvm.MethodName) ({ cls := "java/lang/Object", name := "equals", desc := "(Ljava/lang/Object;)Z" } : Jvm.MethodName)) ∈ lw_all := lw_g (lw_at lw_m3 152 rfl) rfl
theorem q745 : (Jvm.Cond.methodLink "ParrotSpeech$Reader" (116 : Nat) ({ cls := "ParrotSpeech$Reader", name := "want", desc := "(Z)V" } : Jvm.MethodName)) ∈ lw_all := lw_g (lw_at lw_m3 178 rfl) rfl
theorem q746 : (Jvm.Cond.privateMethod ({ cls := "ParrotSpeech$Reader", name := "want", desc := "(Z)V" } : Jvm.MethodName)) ∈ lw_tbl := lw_at lw_m3 179 rfl
theorem q747 : (Jvm.Cond.instanceMethod ({ cls := "ParrotSpeech$Reader", name := "want", desc := "(Z)V" } : Jvm.MethodName)) ∈ lw_all := lw_g (lw_at lw_m3 180 rfl) rfl
theorem q748 : (Jvm.Cond.code ({ cls := "ParrotSpeech$Reader", name := "want", desc := "(Z)V" } : Jvm.MethodName) prog_13_method_4_code (2 : Nat) (Option.none : Option Jvm.ClassFile.FieldType)) ∈ lw_all := lw_g (lw_at lw_m3 181 rfl) rfl
theorem q749 : (Jvm.Cond.classLink "ParrotSpeech$Reader" (98 : Nat) "ParrotSpeech$Fault") ∈ lw_all := lw_g (lw_at lw_m3 182 rfl) rfl
theorem q758 : (Jvm.Cond.methodLink "ParrotSpeech$Reader" (100 : Nat) ({ cls := "ParrotSpeech$Fault", name := "<init>", desc := "(I)V" } : Jvm.MethodName)) ∈ lw_all := lw_g (lw_at lw_m3 191 rfl) rfl
theorem q773 : (Jvm.Cond.methodLink "ParrotSpeech$Reader" (153 : Nat) ({ cls := "java/util/Arrays", name := "fill", desc := "([II)V" } : Jvm.MethodName)) ∈ lw_all := lw_g (lw_at lw_m3 206 rfl) rfl
theorem q774 : (Jvm.Cond.methodLink "ParrotSpeech$Reader" (126 : Nat) ({ cls := "ParrotSpeech$Reader", name := "words", desc := "()I" } : Jvm.MethodName)) ∈ lw_all := lw_g (lw_at lw_m3 207 rfl) rfl
theorem q775 : (Jvm.Cond.privateMethod ({ cls := "ParrotSpeech$Reader", name := "words", desc := "()I" } : Jvm.MethodName)) ∈ lw_tbl := lw_at lw_m3 208 rfl
theorem q776 : (Jvm.Cond.instanceMethod ({ cls := "ParrotSpeech$Reader", name := "words", desc := "()I" } : Jvm.MethodName)) ∈ lw_all := lw_g (lw_at lw_m3 209 rfl) rfl
theorem q777 : (Jvm.Cond.code ({ cls := "ParrotSpeech$Reader", name := "words", desc := "()I" } : Jvm.MethodName) prog_13_method_6_code (4 : Nat) (Option.some Jvm.ClassFile.FieldType.int)) ∈ lw_all := lw_g (lw_at lw_m3 210 rfl) rfl
theorem q778 : (Jvm.Cond.methodLink "ParrotSpeech$Reader" (106 : Nat) ({ cls := "java/lang/String", name := "length", desc := "()I" } : Jvm.MethodName)) ∈ lw_all := lw_g (lw_at lw_m3 211 rfl) rfl
theorem q786 : (Jvm.Cond.methodLink "ParrotSpeech$Reader" (112 : Nat) ({ cls := "java/lang/String", name := "charAt", desc := "(I)C" } : Jvm.MethodName)) ∈ lw_all := lw_g (lw_at lw_m3 219 rfl) rfl
theorem q801 : (Jvm.Cond.constantLong "ParrotSpeech$Reader" (120 : Nat) (9 : Int64)) ∈ lw_all := lw_g (lw_at lw_m3 234 rfl) rfl
theorem q802 : (Jvm.Cond.methodLink "ParrotSpeech$Reader" (157 : Nat) ({ cls := "ParrotSpeech$Reader", name := "knows", desc := "()[I" } : Jvm.MethodName)) ∈ lw_all := lw_g (lw_at lw_m3 235 rfl) rfl
theorem q803 : (Jvm.Cond.privateMethod ({ cls := "ParrotSpeech$Reader", name := "knows", desc := "()[I" } : Jvm.MethodName)) ∈ lw_tbl := lw_at lw_m3 236 rfl
theorem q804 : (Jvm.Cond.instanceMethod ({ cls := "ParrotSpeech$Reader", name := "knows", desc := "()[I" } : Jvm.MethodName)) ∈ lw_all := lw_g (lw_at lw_m3 237 rfl) rfl
theorem q805 : (Jvm.Cond.code ({ cls := "ParrotSpeech$Reader", name := "knows", desc := "()[I" } : Jvm.MethodName) prog_13_method_8_code (3 : Nat) (Option.some (Jvm.ClassFile.FieldType.array Jvm.ClassFile.FieldType.int))) ∈ lw_all := lw_g (lw_at lw_m3 238 rfl) rfl
theorem q806 : (Jvm.Cond.methodLink "ParrotSpeech$Reader" (122 : Nat) ({ cls := "ParrotSpeech$Reader", name := "number", desc := "(II)I" } : Jvm.MethodName)) ∈ lw_all := lw_g (lw_at lw_m3 239 rfl) rfl
theorem q807 : (Jvm.Cond.privateMethod ({ cls := "ParrotSpeech$Reader", name := "number", desc := "(II)I" } : Jvm.MethodName)) ∈ lw_tbl := lw_at lw_m4 0 rfl
theorem q808 : (Jvm.Cond.instanceMethod ({ cls := "ParrotSpeech$Reader", name := "number", desc := "(II)I" } : Jvm.MethodName)) ∈ lw_all := lw_g (lw_at lw_m4 1 rfl) rfl
theorem q809 : (Jvm.Cond.code ({ cls := "ParrotSpeech$Reader", name := "number", desc := "(II)I" } : Jvm.MethodName) prog_13_method_5_code (3 : Nat) (Option.some Jvm.ClassFile.FieldType.int)) ∈ lw_all := lw_g (lw_at lw_m4 2 rfl) rfl
theorem q810 : (Jvm.Cond.methodLink "ParrotSpeech$Reader" (129 : Nat) ({ cls := "java/lang/Integer", name := "bitCount", desc := "(I)I" } : Jvm.MethodName)) ∈ lw_all := lw_g (lw_at lw_m4 3 rfl) rfl
theorem q816 : (Jvm.Cond.methodLink "ParrotSpeech$Reader" (134 : Nat) ({ cls := "java/lang/Integer", name := "numberOfTrailingZeros", desc := "(I)I" } : Jvm.MethodName)) ∈ lw_all := lw_g (lw_at lw_m4 9 rfl) rfl
theorem q820 : (Jvm.Cond.methodLink "ParrotSpeech$Reader" (161 : Nat) ({ cls := "ParrotSpeech$Reader", name := "sits", desc := "()[I" } : Jvm.MethodName)) ∈ lw_all := lw_g (lw_at lw_m4 13 rfl) rfl
theorem q821 : (Jvm.Cond.privateMethod ({ cls := "ParrotSpeech$Reader", name := "sits", desc := "()[I" } : Jvm.MethodName)) ∈ lw_tbl := lw_at lw_m4 14 rfl
theorem q822 : (Jvm.Cond.instanceMethod ({ cls := "ParrotSpeech$Reader", name := "sits", desc := "()[I" } : Jvm.MethodName)) ∈ lw_all := lw_g (lw_at lw_m4 15 rfl) rfl
theorem q823 : (Jvm.Cond.code ({ cls := "ParrotSpeech$Reader", name := "sits", desc := "()[I" } : Jvm.MethodName) prog_13_method_7_code (4 : Nat) (Option.some (Jvm.ClassFile.FieldType.array Jvm.ClassFile.FieldType.int))) ∈ lw_all := lw_g (lw_at lw_m4 16 rfl) rfl
theorem q824 : (Jvm.Cond.stringRef "ParrotSpeech$Reader" (170 : Nat) ";") ∈ lw_tbl := lw_at lw_m4 17 rfl
theorem q825 : (Jvm.Cond.methodLink "ParrotSpeech$Reader" (172 : Nat) ({ cls := "java/lang/String", name := "equals", desc := "(Ljava/lang/Object;)Z" } : Jvm.MethodName)) ∈ lw_all := lw_g (lw_at lw_m4 18 rfl) rfl
theorem q826 : (Jvm.Cond.methodLink "ParrotSpeech$Reader" (176 : Nat) ({ cls := "java/lang/String", name := "isEmpty", desc := "()Z" } : Jvm.MethodName)) ∈ lw_all := lw_g (lw_at lw_m4 19 rfl) rfl
theorem q831 : (Jvm.Cond.instanceMethod ({ cls := "ParrotSpeech$Reader", name := "tongue", desc := "()LParrotSpeech$Part;" } : Jvm.MethodName)) ∈ lw_all := lw_g (lw_at lw_m4 24 rfl) rfl
theorem q832 : (Jvm.Cond.selects "ParrotSpeech$Reader" ({ cls := "ParrotSpeech$Reader", name := "tongue", desc := "()LParrotSpeech$Part;" } : Jvm.MethodName) ({ cls := "ParrotSpeech$Reader", name := "tongue", desc := "()LParrotSpeech$Part;" } : Jvm.MethodName)) ∈ lw_all := lw_g (lw_at lw_m4 25 rfl) rfl
theorem q833 : (Jvm.Cond.code ({ cls := "ParrotSpeech$Reader", name := "tongue", desc := "()LParrotSpeech$Part;" } : Jvm.MethodName) prog_13_method_15_code (2 : Nat) (Option.some (Jvm.ClassFile.FieldType.object "ParrotSpeech$Part"))) ∈ lw_all := lw_g (lw_at lw_m4 26 rfl) rfl
theorem q834 : (Jvm.Cond.methodLink "ParrotSpeech$Reader" (192 : Nat) ({ cls := "ParrotSpeech$Reader", name := "sum", desc := "()LParrotSpeech$Part;" } : Jvm.MethodName)) ∈ lw_all := lw_g (lw_at lw_m4 27 rfl) rfl
theorem q835 : (Jvm.Cond.privateMethod ({ cls := "ParrotSpeech$Reader", name := "sum", desc := "()LParrotSpeech$Part;" } : Jvm.MethodName)) ∈ lw_tbl := lw_at lw_m4 28 rfl
theorem q836 : (Jvm.Cond.instanceMethod ({ cls := "ParrotSpeech$Reader", name := "sum", desc := "()LParrotSpeech$Part;" } : Jvm.MethodName)) ∈ lw_all := lw_g (lw_at lw_m4 29 rfl) rfl
theorem q837 : (Jvm.Cond.code ({ cls := "ParrotSpeech$Reader", name := "sum", desc := "()LParrotSpeech$Part;" } : Jvm.MethodName) prog_13_method_14_code (2 : Nat) (Option.some (Jvm.ClassFile.FieldType.object "ParrotSpeech$Part"))) ∈ lw_all := lw_g (lw_at lw_m4 30 rfl) rfl
theorem q838 : (Jvm.Cond.classLink "ParrotSpeech$Reader" (228 : Nat) "ParrotSpeech$Either") ∈ lw_all := lw_g (lw_at lw_m4 31 rfl) rfl
theorem q840 : (Jvm.Cond.methodLinkNest "ParrotSpeech$Reader" (230 : Nat) ({ cls := "ParrotSpeech$Either", name := "<init>", desc := "(LParrotSpeech;)V" } : Jvm.MethodName) "ParrotSpeech") ∈ lw_tbl := lw_at lw_m4 33 rfl
theorem q866 : (Jvm.Cond.fieldLink "ParrotSpeech$Reader" (231 : Nat) "ParrotSpeech$Either" "parts" "Ljava/util/List;") ∈ lw_all := lw_g (lw_at lw_m4 59 rfl) rfl
theorem q876 : (Jvm.Cond.methodLink "ParrotSpeech$Reader" (232 : Nat) ({ cls := "ParrotSpeech$Reader", name := "row", desc := "()LParrotSpeech$Part;" } : Jvm.MethodName)) ∈ lw_all := lw_g (lw_at lw_m4 69 rfl) rfl
theorem q877 : (Jvm.Cond.privateMethod ({ cls := "ParrotSpeech$Reader", name := "row", desc := "()LParrotSpeech$Part;" } : Jvm.MethodName)) ∈ lw_tbl := lw_at lw_m4 70 rfl
theorem q878 : (Jvm.Cond.instanceMethod ({ cls := "ParrotSpeech$Reader", name := "row", desc := "()LParrotSpeech$Part;" } : Jvm.MethodName)) ∈ lw_all := lw_g (lw_at lw_m4 71 rfl) rfl
theorem q879 : (Jvm.Cond.code ({ cls := "ParrotSpeech$Reader", name := "row", desc := "()LParrotSpeech$Part;" } : Jvm.MethodName) prog_13_method_13_code (2 : Nat) (Option.some (Jvm.ClassFile.FieldType.object "ParrotSpeech$Part"))) ∈ lw_all := lw_g (lw_at lw_m4 72 rfl) rfl
theorem q880 : (Jvm.Cond.classLink "ParrotSpeech$Reader" (213 : Nat) "ParrotSpeech$Row") ∈ lw_all := lw_g (lw_at lw_m4 73 rfl) rfl
theorem q882 : (Jvm.Cond.methodLinkNest "ParrotSpeech$Reader" (215 : Nat) ({ cls := "ParrotSpeech$Row", name := "<init>", desc := "(LParrotSpeech;)V" } : Jvm.MethodName) "ParrotSpeech") ∈ lw_tbl := lw_at lw_m4 75 rfl
theorem q889 : (Jvm.Cond.fieldLink "ParrotSpeech$Reader" (218 : Nat) "ParrotSpeech$Row" "parts" "Ljava/util/List;") ∈ lw_all := lw_g (lw_at lw_m4 82 rfl) rfl
theorem q897 : (Jvm.Cond.methodLink "ParrotSpeech$Reader" (222 : Nat) ({ cls := "ParrotSpeech$Reader", name := "part", desc := "()LParrotSpeech$Part;" } : Jvm.MethodName)) ∈ lw_all := lw_g (lw_at lw_m4 90 rfl) rfl
theorem q898 : (Jvm.Cond.privateMethod ({ cls := "ParrotSpeech$Reader", name := "part", desc := "()LParrotSpeech$Part;" } : Jvm.MethodName)) ∈ lw_tbl := lw_at lw_m4 91 rfl
theorem q899 : (Jvm.Cond.instanceMethod ({ cls := "ParrotSpeech$Reader", name := "part", desc := "()LParrotSpeech$Part;" } : Jvm.MethodName)) ∈ lw_all := lw_g (lw_at lw_m4 92 rfl) rfl
theorem q900 : (Jvm.Cond.code ({ cls := "ParrotSpeech$Reader", name := "part", desc := "()LParrotSpeech$Part;" } : Jvm.MethodName) prog_13_method_12_code (2 : Nat) (Option.some (Jvm.ClassFile.FieldType.object "ParrotSpeech$Part"))) ∈ lw_all := lw_g (lw_at lw_m4 93 rfl) rfl
theorem q901 : (Jvm.Cond.methodLink "ParrotSpeech$Reader" (186 : Nat) ({ cls := "ParrotSpeech$Reader", name := "isPart", desc := "()Z" } : Jvm.MethodName)) ∈ lw_all := lw_g (lw_at lw_m4 94 rfl) rfl
theorem q902 : (Jvm.Cond.privateMethod ({ cls := "ParrotSpeech$Reader", name := "isPart", desc := "()Z" } : Jvm.MethodName)) ∈ lw_tbl := lw_at lw_m4 95 rfl
theorem q903 : (Jvm.Cond.instanceMethod ({ cls := "ParrotSpeech$Reader", name := "isPart", desc := "()Z" } : Jvm.MethodName)) ∈ lw_all := lw_g (lw_at lw_m4 96 rfl) rfl
theorem q904 : (Jvm.Cond.code ({ cls := "ParrotSpeech$Reader", name := "isPart", desc := "()Z" } : Jvm.MethodName) prog_13_method_11_code (1 : Nat) (Option.some Jvm.ClassFile.FieldType.boolean)) ∈ lw_all := lw_g (lw_at lw_m4 97 rfl) rfl
theorem q905 : (Jvm.Cond.constantLong "ParrotSpeech$Reader" (180 : Nat) (106 : Int64)) ∈ lw_all := lw_g (lw_at lw_m4 98 rfl) rfl
theorem q906 : (Jvm.Cond.stringRef "ParrotSpeech$Reader" (182 : Nat) ".") ∈ lw_tbl := lw_at lw_m4 99 rfl
theorem q907 : (Jvm.Cond.stringRef "ParrotSpeech$Reader" (184 : Nat) "(") ∈ lw_tbl := lw_at lw_m4 100 rfl
theorem q908 : (Jvm.Cond.stringRef "ParrotSpeech$Reader" (196 : Nat) ")") ∈ lw_tbl := lw_at lw_m4 101 rfl
theorem q909 : (Jvm.Cond.classLink "ParrotSpeech$Reader" (201 : Nat) "ParrotSpeech$OneWord") ∈ lw_all := lw_g (lw_at lw_m4 102 rfl) rfl
theorem q911 : (Jvm.Cond.methodLink "ParrotSpeech$Reader" (203 : Nat) ({ cls := "ParrotSpeech$OneWord", name := "<init>", desc := "(LParrotSpeech;I)V" } : Jvm.MethodName)) ∈ lw_all := lw_g (lw_at lw_m4 104 rfl) rfl
theorem q923 : (Jvm.Cond.stringRef "ParrotSpeech$Reader" (206 : Nat) "*") ∈ lw_tbl := lw_at lw_m4 116 rfl
theorem q924 : (Jvm.Cond.classLink "ParrotSpeech$Reader" (208 : Nat) "ParrotSpeech$Often") ∈ lw_all := lw_g (lw_at lw_m4 117 rfl) rfl
theorem q926 : (Jvm.Cond.methodLink "ParrotSpeech$Reader" (210 : Nat) ({ cls := "ParrotSpeech$Often", name := "<init>", desc := "(LParrotSpeech;LParrotSpeech$Part;)V" } : Jvm.MethodName)) ∈ lw_all := lw_g (lw_at lw_m4 119 rfl) rfl
theorem q938 : (Jvm.Cond.interfaceEntry "ParrotSpeech$Reader" (225 : Nat)) ∈ lw_tbl := lw_at lw_m4 131 rfl
theorem q939 : (Jvm.Cond.methodLink "ParrotSpeech$Reader" (225 : Nat) ({ cls := "java/util/List", name := "add", desc := "(Ljava/lang/Object;)Z" } : Jvm.MethodName)) ∈ lw_all := lw_g (lw_at lw_m4 132 rfl) rfl
theorem q976 : (Jvm.Cond.selects "ParrotSpeech$Reader" ({ cls := "java/lang/Object", name := "getClass", desc := "()Ljava/lang/Class;" } : Jvm.MethodName) ({ cls := "java/lang/Object", name := "getClass", desc := "()Ljava/lang/Class;" } : Jvm.MethodName)) ∈ lw_all := lw_g (lw_at lw_m4 169 rfl) rfl
theorem q1123 : (Jvm.Cond.stringRef "ParrotSpeech$Reader" (235 : Nat) "|") ∈ lw_tbl := lw_at lw_m5 76 rfl
theorem q2275 : (Jvm.Cond.castable "ParrotSpeech$Reader" "java/lang/Object") ∈ lw_tbl := lw_at lw_m10 28 rfl
theorem in_X3 : ∀ w ∈ wsX30, w ∈ lw_all := lw_in wsX30 [331, 333, 335, 337, 339, 341, 343, 345, 347, 349, 351, 353] (by decide +kernel) (by decide +kernel)
