/-! THE COMPONENT, 1: small ones; the JDK's numbers -/
abbrev cR (h : Nat) (ad : Nat → Nat) (iv : Nat → Int32) (tg : Option Nat) : va_W := [(h, oX0 ad iv tg)]
def jBits0 (x : Int32) : Int32 := x - ((x.toUInt32 >>> ((1 : Int32).toUInt32 &&& Int32.toUInt32 31)).toInt32 &&& 1431655765)
def jBits1 (x : Int32) : Int32 := (x &&& 858993459) + ((x.toUInt32 >>> ((2 : Int32).toUInt32 &&& Int32.toUInt32 31)).toInt32 &&& 858993459)
def jBits2 (x : Int32) : Int32 := (x + (x.toUInt32 >>> ((4 : Int32).toUInt32 &&& Int32.toUInt32 31)).toInt32) &&& 252645135
def jBits3 (s x : Int32) : Int32 := x + (x.toUInt32 >>> (s.toUInt32 &&& Int32.toUInt32 31)).toInt32
theorem jBits_h : ∀ n, n < 1024 → jBits3 16 (jBits3 8 (jBits2 (jBits1 (jBits0 (nI n))))) &&& 63 = nI (hBits n 10) := by decide +kernel
theorem jTz_h : ∀ n, n < 1024 → n ≠ 0 → (nI n ^^^ (-1)) &&& (nI n - 1) = nI (2 ^ loBit n - 1) := by decide +kernel
section C1
variable {D : xG} {h : Nat} {ad : Nat → Nat} {iv : Nat → Int32} {tg : Option Nat}
theorem m_J18_bitCount (n : Nat) (hn : n < 1024) : XC D yJ18_bitCount (ws_ yJ18_bitCount cJ18_bitCount 1 (Option.some Jvm.ClassFile.FieldType.int)) 0 0 (0) (0) [.int (nI n)] [] (fun r cs' => r = some (.int (nI (hBits n 10))) ∧ cs' = []) x0 := by
  refine XC.of (by decide) (by simp [Value.category]) (Nat.le_of_ble_eq_true rfl) fun X B => ?_
  show WX D X [] 0 0 0 [some (.int (nI n))] []
  refine x_iload0 B 1 dJ18_bitCount_0 rfl ?_
  refine x_iload0 B 2 dJ18_bitCount_1 rfl ?_
  refine x_iconst B 3 (v := 1) dJ18_bitCount_2 (by decide) rfl ?_
  refine x_iushr B 4 dJ18_bitCount_3 rfl ?_
  refine x_ldcw B 7 dJ18_bitCount_4 q813 rfl ?_
  refine x_iand B 8 dJ18_bitCount_7 rfl ?_
  refine x_isub B 9 dJ18_bitCount_8 rfl ?_
  refine x_istore0 B 10 dJ18_bitCount_9 rfl ?_
  refine x_iload0 B 11 dJ18_bitCount_10 rfl ?_
  refine x_ldcw B 14 dJ18_bitCount_11 q814 rfl ?_
  refine x_iand B 15 dJ18_bitCount_14 rfl ?_
  refine x_iload0 B 16 dJ18_bitCount_15 rfl ?_
  refine x_iconst B 17 (v := 2) dJ18_bitCount_16 (by decide) rfl ?_
  refine x_iushr B 18 dJ18_bitCount_17 rfl ?_
  refine x_ldcw B 21 dJ18_bitCount_18 q814 rfl ?_
  refine x_iand B 22 dJ18_bitCount_21 rfl ?_
  refine x_iadd B 23 dJ18_bitCount_22 rfl ?_
  refine x_istore0 B 24 dJ18_bitCount_23 rfl ?_
  refine x_iload0 B 25 dJ18_bitCount_24 rfl ?_
  refine x_iload0 B 26 dJ18_bitCount_25 rfl ?_
  refine x_iconst B 27 (v := 4) dJ18_bitCount_26 (by decide) rfl ?_
  refine x_iushr B 28 dJ18_bitCount_27 rfl ?_
  refine x_iadd B 29 dJ18_bitCount_28 rfl ?_
  refine x_ldcw B 32 dJ18_bitCount_29 q815 rfl ?_
  refine x_iand B 33 dJ18_bitCount_32 rfl ?_
  refine x_istore0 B 34 dJ18_bitCount_33 rfl ?_
  refine x_iload0 B 35 dJ18_bitCount_34 rfl ?_
  refine x_iload0 B 36 dJ18_bitCount_35 rfl ?_
  refine x_bipush B 38 (v := 8) dJ18_bitCount_36 (by decide) rfl ?_
  refine x_iushr B 39 dJ18_bitCount_38 rfl ?_
  refine x_iadd B 40 dJ18_bitCount_39 rfl ?_
  refine x_istore0 B 41 dJ18_bitCount_40 rfl ?_
  refine x_iload0 B 42 dJ18_bitCount_41 rfl ?_
  refine x_iload0 B 43 dJ18_bitCount_42 rfl ?_
  refine x_bipush B 45 (v := 16) dJ18_bitCount_43 (by decide) rfl ?_
  refine x_iushr B 46 dJ18_bitCount_45 rfl ?_
  refine x_iadd B 47 dJ18_bitCount_46 rfl ?_
  refine x_istore0 B 48 dJ18_bitCount_47 rfl ?_
  refine x_iload0 B 49 dJ18_bitCount_48 rfl ?_
  refine x_bipush B 51 (v := 63) dJ18_bitCount_49 (by decide) rfl ?_
  refine x_iand B 52 dJ18_bitCount_51 rfl ?_
  exact x_iret B rfl ⟨congrArg some (congrArg Value.int (jBits_h n hn)), rfl⟩ dJ18_bitCount_52 ⟨by first | omega | decide, by first | omega | decide⟩
theorem m_J18_numberOfTrailingZeros (n : Nat) (hn : n < 1024) (h0 : n ≠ 0) : XC D yJ18_numberOfTrailingZeros (ws_ yJ18_numberOfTrailingZeros cJ18_numberOfTrailingZeros 2 (Option.some Jvm.ClassFile.FieldType.int)) 0 0 (0) (0) [.int (nI n)] [] (fun r cs' => r = some (.int (nI (loBit n))) ∧ cs' = []) x0 := by
  refine XC.of (by decide) (by simp [Value.category]) (Nat.le_of_ble_eq_true rfl) fun X B => ?_
  show WX D X [] 0 0 0 [some (.int (nI n)), none] []
  have ht := (loBit_spec h0 hn).1
  refine x_iload0 B 1 dJ18_numberOfTrailingZeros_0 rfl ?_
  refine x_iconst B 2 (v := (-1)) dJ18_numberOfTrailingZeros_1 (by decide) rfl ?_
  refine x_ixor B 3 dJ18_numberOfTrailingZeros_2 rfl ?_
  refine x_iload0 B 4 dJ18_numberOfTrailingZeros_3 rfl ?_
  refine x_iconst B 5 (v := 1) dJ18_numberOfTrailingZeros_4 (by decide) rfl ?_
  refine x_isub B 6 dJ18_numberOfTrailingZeros_5 rfl ?_
  refine x_iand B 7 dJ18_numberOfTrailingZeros_6 rfl ?_
  rw [jTz_h n hn h0]
  generalize loBit n = t at *
  have ht : t = 0 ∨ t = 1 ∨ t = 2 ∨ t = 3 ∨ t = 4 ∨ t = 5 ∨ t = 6 ∨ t = 7 ∨ t = 8 ∨ t = 9 := by omega
  rcases ht with rfl | rfl | rfl | rfl | rfl | rfl | rfl | rfl | rfl | rfl
  · refine x_istore0 B 8 dJ18_numberOfTrailingZeros_7 rfl ?_
    refine x_iload0 B 9 dJ18_numberOfTrailingZeros_8 rfl ?_
    refine x_if_gt_f (tp := 17) B 12 dJ18_numberOfTrailingZeros_9 (by decide) rfl (by decide) ?_
    refine x_iload0 B 13 dJ18_numberOfTrailingZeros_12 rfl ?_
    refine x_bipush B 15 (v := 32) dJ18_numberOfTrailingZeros_13 (by decide) rfl ?_
    refine x_iand B 16 dJ18_numberOfTrailingZeros_15 rfl ?_
    exact x_iret B rfl ⟨congrArg some (congrArg Value.int (by decide)), rfl⟩ dJ18_numberOfTrailingZeros_16 ⟨by first | omega | decide, by first | omega | decide⟩
  · refine x_istore0 B 8 dJ18_numberOfTrailingZeros_7 rfl ?_
    refine x_iload0 B 9 dJ18_numberOfTrailingZeros_8 rfl ?_
    refine x_if_gt_t B 17 dJ18_numberOfTrailingZeros_9 (by decide) (by decide) ?_
    refine x_iconst B 18 (v := 1) dJ18_numberOfTrailingZeros_17 (by decide) rfl ?_
    refine x_istore1 B 19 dJ18_numberOfTrailingZeros_18 rfl ?_
    refine x_iload0 B 20 dJ18_numberOfTrailingZeros_19 rfl ?_
    refine x_ldcw B 23 dJ18_numberOfTrailingZeros_20 q819 rfl ?_
    refine x_icmp_le_t B 34 dJ18_numberOfTrailingZeros_23 (by decide) (by decide) ?_
    refine x_iload0 B 35 dJ18_numberOfTrailingZeros_34 rfl ?_
    refine x_sipush B 38 (v := 256) dJ18_numberOfTrailingZeros_35 (by decide) rfl ?_
    refine x_icmp_le_t B 49 dJ18_numberOfTrailingZeros_38 (by decide) (by decide) ?_
    refine x_iload0 B 50 dJ18_numberOfTrailingZeros_49 rfl ?_
    refine x_bipush B 52 (v := 16) dJ18_numberOfTrailingZeros_50 (by decide) rfl ?_
    refine x_icmp_le_t B 62 dJ18_numberOfTrailingZeros_52 (by decide) (by decide) ?_
    refine x_iload0 B 63 dJ18_numberOfTrailingZeros_62 rfl ?_
    refine x_iconst B 64 (v := 4) dJ18_numberOfTrailingZeros_63 (by decide) rfl ?_
    refine x_icmp_le_t B 74 dJ18_numberOfTrailingZeros_64 (by decide) (by decide) ?_
    refine x_iload1 B 75 dJ18_numberOfTrailingZeros_74 rfl ?_
    refine x_iload0 B 76 dJ18_numberOfTrailingZeros_75 rfl ?_
    refine x_iconst B 77 (v := 1) dJ18_numberOfTrailingZeros_76 (by decide) rfl ?_
    refine x_iushr B 78 dJ18_numberOfTrailingZeros_77 rfl ?_
    refine x_iadd B 79 dJ18_numberOfTrailingZeros_78 rfl ?_
    exact x_iret B rfl ⟨congrArg some (congrArg Value.int (by decide)), rfl⟩ dJ18_numberOfTrailingZeros_79 ⟨by first | omega | decide, by first | omega | decide⟩
  · refine x_istore0 B 8 dJ18_numberOfTrailingZeros_7 rfl ?_
    refine x_iload0 B 9 dJ18_numberOfTrailingZeros_8 rfl ?_
    refine x_if_gt_t B 17 dJ18_numberOfTrailingZeros_9 (by decide) (by decide) ?_
    refine x_iconst B 18 (v := 1) dJ18_numberOfTrailingZeros_17 (by decide) rfl ?_
    refine x_istore1 B 19 dJ18_numberOfTrailingZeros_18 rfl ?_
    refine x_iload0 B 20 dJ18_numberOfTrailingZeros_19 rfl ?_
    refine x_ldcw B 23 dJ18_numberOfTrailingZeros_20 q819 rfl ?_
    refine x_icmp_le_t B 34 dJ18_numberOfTrailingZeros_23 (by decide) (by decide) ?_
    refine x_iload0 B 35 dJ18_numberOfTrailingZeros_34 rfl ?_
    refine x_sipush B 38 (v := 256) dJ18_numberOfTrailingZeros_35 (by decide) rfl ?_
    refine x_icmp_le_t B 49 dJ18_numberOfTrailingZeros_38 (by decide) (by decide) ?_
    refine x_iload0 B 50 dJ18_numberOfTrailingZeros_49 rfl ?_
    refine x_bipush B 52 (v := 16) dJ18_numberOfTrailingZeros_50 (by decide) rfl ?_
    refine x_icmp_le_t B 62 dJ18_numberOfTrailingZeros_52 (by decide) (by decide) ?_
    refine x_iload0 B 63 dJ18_numberOfTrailingZeros_62 rfl ?_
    refine x_iconst B 64 (v := 4) dJ18_numberOfTrailingZeros_63 (by decide) rfl ?_
    refine x_icmp_le_t B 74 dJ18_numberOfTrailingZeros_64 (by decide) (by decide) ?_
    refine x_iload1 B 75 dJ18_numberOfTrailingZeros_74 rfl ?_
    refine x_iload0 B 76 dJ18_numberOfTrailingZeros_75 rfl ?_
    refine x_iconst B 77 (v := 1) dJ18_numberOfTrailingZeros_76 (by decide) rfl ?_
    refine x_iushr B 78 dJ18_numberOfTrailingZeros_77 rfl ?_
    refine x_iadd B 79 dJ18_numberOfTrailingZeros_78 rfl ?_
    exact x_iret B rfl ⟨congrArg some (congrArg Value.int (by decide)), rfl⟩ dJ18_numberOfTrailingZeros_79 ⟨by first | omega | decide, by first | omega | decide⟩
  · refine x_istore0 B 8 dJ18_numberOfTrailingZeros_7 rfl ?_
    refine x_iload0 B 9 dJ18_numberOfTrailingZeros_8 rfl ?_
    refine x_if_gt_t B 17 dJ18_numberOfTrailingZeros_9 (by decide) (by decide) ?_
    refine x_iconst B 18 (v := 1) dJ18_numberOfTrailingZeros_17 (by decide) rfl ?_
    refine x_istore1 B 19 dJ18_numberOfTrailingZeros_18 rfl ?_
    refine x_iload0 B 20 dJ18_numberOfTrailingZeros_19 rfl ?_
    refine x_ldcw B 23 dJ18_numberOfTrailingZeros_20 q819 rfl ?_
    refine x_icmp_le_t B 34 dJ18_numberOfTrailingZeros_23 (by decide) (by decide) ?_
    refine x_iload0 B 35 dJ18_numberOfTrailingZeros_34 rfl ?_
    refine x_sipush B 38 (v := 256) dJ18_numberOfTrailingZeros_35 (by decide) rfl ?_
    refine x_icmp_le_t B 49 dJ18_numberOfTrailingZeros_38 (by decide) (by decide) ?_
    refine x_iload0 B 50 dJ18_numberOfTrailingZeros_49 rfl ?_
    refine x_bipush B 52 (v := 16) dJ18_numberOfTrailingZeros_50 (by decide) rfl ?_
    refine x_icmp_le_t B 62 dJ18_numberOfTrailingZeros_52 (by decide) (by decide) ?_
    refine x_iload0 B 63 dJ18_numberOfTrailingZeros_62 rfl ?_
    refine x_iconst B 64 (v := 4) dJ18_numberOfTrailingZeros_63 (by decide) rfl ?_
    refine x_icmp_le_f (tp := 74) B 67 dJ18_numberOfTrailingZeros_64 (by decide) rfl (by decide) ?_
    refine x_iinc1 B 70 dJ18_numberOfTrailingZeros_67 rfl (by first | exact xinc _ | rfl) ?_
    refine x_iload0 B 71 dJ18_numberOfTrailingZeros_70 rfl ?_
    refine x_iconst B 72 (v := 2) dJ18_numberOfTrailingZeros_71 (by decide) rfl ?_
    refine x_iushr B 73 dJ18_numberOfTrailingZeros_72 rfl ?_
    refine x_istore0 B 74 dJ18_numberOfTrailingZeros_73 rfl ?_
    refine x_iload1 B 75 dJ18_numberOfTrailingZeros_74 rfl ?_
    refine x_iload0 B 76 dJ18_numberOfTrailingZeros_75 rfl ?_
    refine x_iconst B 77 (v := 1) dJ18_numberOfTrailingZeros_76 (by decide) rfl ?_
    refine x_iushr B 78 dJ18_numberOfTrailingZeros_77 rfl ?_
    refine x_iadd B 79 dJ18_numberOfTrailingZeros_78 rfl ?_
    exact x_iret B rfl ⟨congrArg some (congrArg Value.int (by decide)), rfl⟩ dJ18_numberOfTrailingZeros_79 ⟨by first | omega | decide, by first | omega | decide⟩
  · refine x_istore0 B 8 dJ18_numberOfTrailingZeros_7 rfl ?_
    refine x_iload0 B 9 dJ18_numberOfTrailingZeros_8 rfl ?_
    refine x_if_gt_t B 17 dJ18_numberOfTrailingZeros_9 (by decide) (by decide) ?_
    refine x_iconst B 18 (v := 1) dJ18_numberOfTrailingZeros_17 (by decide) rfl ?_
    refine x_istore1 B 19 dJ18_numberOfTrailingZeros_18 rfl ?_
    refine x_iload0 B 20 dJ18_numberOfTrailingZeros_19 rfl ?_
    refine x_ldcw B 23 dJ18_numberOfTrailingZeros_20 q819 rfl ?_
    refine x_icmp_le_t B 34 dJ18_numberOfTrailingZeros_23 (by decide) (by decide) ?_
    refine x_iload0 B 35 dJ18_numberOfTrailingZeros_34 rfl ?_
    refine x_sipush B 38 (v := 256) dJ18_numberOfTrailingZeros_35 (by decide) rfl ?_
    refine x_icmp_le_t B 49 dJ18_numberOfTrailingZeros_38 (by decide) (by decide) ?_
    refine x_iload0 B 50 dJ18_numberOfTrailingZeros_49 rfl ?_
    refine x_bipush B 52 (v := 16) dJ18_numberOfTrailingZeros_50 (by decide) rfl ?_
    refine x_icmp_le_t B 62 dJ18_numberOfTrailingZeros_52 (by decide) (by decide) ?_
    refine x_iload0 B 63 dJ18_numberOfTrailingZeros_62 rfl ?_
    refine x_iconst B 64 (v := 4) dJ18_numberOfTrailingZeros_63 (by decide) rfl ?_
    refine x_icmp_le_f (tp := 74) B 67 dJ18_numberOfTrailingZeros_64 (by decide) rfl (by decide) ?_
    refine x_iinc1 B 70 dJ18_numberOfTrailingZeros_67 rfl (by first | exact xinc _ | rfl) ?_
    refine x_iload0 B 71 dJ18_numberOfTrailingZeros_70 rfl ?_
    refine x_iconst B 72 (v := 2) dJ18_numberOfTrailingZeros_71 (by decide) rfl ?_
    refine x_iushr B 73 dJ18_numberOfTrailingZeros_72 rfl ?_
    refine x_istore0 B 74 dJ18_numberOfTrailingZeros_73 rfl ?_
    refine x_iload1 B 75 dJ18_numberOfTrailingZeros_74 rfl ?_
    refine x_iload0 B 76 dJ18_numberOfTrailingZeros_75 rfl ?_
    refine x_iconst B 77 (v := 1) dJ18_numberOfTrailingZeros_76 (by decide) rfl ?_
    refine x_iushr B 78 dJ18_numberOfTrailingZeros_77 rfl ?_
    refine x_iadd B 79 dJ18_numberOfTrailingZeros_78 rfl ?_
    exact x_iret B rfl ⟨congrArg some (congrArg Value.int (by decide)), rfl⟩ dJ18_numberOfTrailingZeros_79 ⟨by first | omega | decide, by first | omega | decide⟩
  · refine x_istore0 B 8 dJ18_numberOfTrailingZeros_7 rfl ?_
    refine x_iload0 B 9 dJ18_numberOfTrailingZeros_8 rfl ?_
    refine x_if_gt_t B 17 dJ18_numberOfTrailingZeros_9 (by decide) (by decide) ?_
    refine x_iconst B 18 (v := 1) dJ18_numberOfTrailingZeros_17 (by decide) rfl ?_
    refine x_istore1 B 19 dJ18_numberOfTrailingZeros_18 rfl ?_
    refine x_iload0 B 20 dJ18_numberOfTrailingZeros_19 rfl ?_
    refine x_ldcw B 23 dJ18_numberOfTrailingZeros_20 q819 rfl ?_
    refine x_icmp_le_t B 34 dJ18_numberOfTrailingZeros_23 (by decide) (by decide) ?_
    refine x_iload0 B 35 dJ18_numberOfTrailingZeros_34 rfl ?_
    refine x_sipush B 38 (v := 256) dJ18_numberOfTrailingZeros_35 (by decide) rfl ?_
    refine x_icmp_le_t B 49 dJ18_numberOfTrailingZeros_38 (by decide) (by decide) ?_
    refine x_iload0 B 50 dJ18_numberOfTrailingZeros_49 rfl ?_
    refine x_bipush B 52 (v := 16) dJ18_numberOfTrailingZeros_50 (by decide) rfl ?_
    refine x_icmp_le_f (tp := 62) B 55 dJ18_numberOfTrailingZeros_52 (by decide) rfl (by decide) ?_
    refine x_iinc1 B 58 dJ18_numberOfTrailingZeros_55 rfl (by first | exact xinc _ | rfl) ?_
    refine x_iload0 B 59 dJ18_numberOfTrailingZeros_58 rfl ?_
    refine x_iconst B 60 (v := 4) dJ18_numberOfTrailingZeros_59 (by decide) rfl ?_
    refine x_iushr B 61 dJ18_numberOfTrailingZeros_60 rfl ?_
    refine x_istore0 B 62 dJ18_numberOfTrailingZeros_61 rfl ?_
    refine x_iload0 B 63 dJ18_numberOfTrailingZeros_62 rfl ?_
    refine x_iconst B 64 (v := 4) dJ18_numberOfTrailingZeros_63 (by decide) rfl ?_
    refine x_icmp_le_t B 74 dJ18_numberOfTrailingZeros_64 (by decide) (by decide) ?_
    refine x_iload1 B 75 dJ18_numberOfTrailingZeros_74 rfl ?_
    refine x_iload0 B 76 dJ18_numberOfTrailingZeros_75 rfl ?_
    refine x_iconst B 77 (v := 1) dJ18_numberOfTrailingZeros_76 (by decide) rfl ?_
    refine x_iushr B 78 dJ18_numberOfTrailingZeros_77 rfl ?_
    refine x_iadd B 79 dJ18_numberOfTrailingZeros_78 rfl ?_
    exact x_iret B rfl ⟨congrArg some (congrArg Value.int (by decide)), rfl⟩ dJ18_numberOfTrailingZeros_79 ⟨by first | omega | decide, by first | omega | decide⟩
  · refine x_istore0 B 8 dJ18_numberOfTrailingZeros_7 rfl ?_
    refine x_iload0 B 9 dJ18_numberOfTrailingZeros_8 rfl ?_
    refine x_if_gt_t B 17 dJ18_numberOfTrailingZeros_9 (by decide) (by decide) ?_
    refine x_iconst B 18 (v := 1) dJ18_numberOfTrailingZeros_17 (by decide) rfl ?_
    refine x_istore1 B 19 dJ18_numberOfTrailingZeros_18 rfl ?_
    refine x_iload0 B 20 dJ18_numberOfTrailingZeros_19 rfl ?_
    refine x_ldcw B 23 dJ18_numberOfTrailingZeros_20 q819 rfl ?_
    refine x_icmp_le_t B 34 dJ18_numberOfTrailingZeros_23 (by decide) (by decide) ?_
    refine x_iload0 B 35 dJ18_numberOfTrailingZeros_34 rfl ?_
    refine x_sipush B 38 (v := 256) dJ18_numberOfTrailingZeros_35 (by decide) rfl ?_
    refine x_icmp_le_t B 49 dJ18_numberOfTrailingZeros_38 (by decide) (by decide) ?_
    refine x_iload0 B 50 dJ18_numberOfTrailingZeros_49 rfl ?_
    refine x_bipush B 52 (v := 16) dJ18_numberOfTrailingZeros_50 (by decide) rfl ?_
    refine x_icmp_le_f (tp := 62) B 55 dJ18_numberOfTrailingZeros_52 (by decide) rfl (by decide) ?_
    refine x_iinc1 B 58 dJ18_numberOfTrailingZeros_55 rfl (by first | exact xinc _ | rfl) ?_
    refine x_iload0 B 59 dJ18_numberOfTrailingZeros_58 rfl ?_
    refine x_iconst B 60 (v := 4) dJ18_numberOfTrailingZeros_59 (by decide) rfl ?_
    refine x_iushr B 61 dJ18_numberOfTrailingZeros_60 rfl ?_
    refine x_istore0 B 62 dJ18_numberOfTrailingZeros_61 rfl ?_
    refine x_iload0 B 63 dJ18_numberOfTrailingZeros_62 rfl ?_
    refine x_iconst B 64 (v := 4) dJ18_numberOfTrailingZeros_63 (by decide) rfl ?_
    refine x_icmp_le_t B 74 dJ18_numberOfTrailingZeros_64 (by decide) (by decide) ?_
    refine x_iload1 B 75 dJ18_numberOfTrailingZeros_74 rfl ?_
    refine x_iload0 B 76 dJ18_numberOfTrailingZeros_75 rfl ?_
    refine x_iconst B 77 (v := 1) dJ18_numberOfTrailingZeros_76 (by decide) rfl ?_
    refine x_iushr B 78 dJ18_numberOfTrailingZeros_77 rfl ?_
    refine x_iadd B 79 dJ18_numberOfTrailingZeros_78 rfl ?_
    exact x_iret B rfl ⟨congrArg some (congrArg Value.int (by decide)), rfl⟩ dJ18_numberOfTrailingZeros_79 ⟨by first | omega | decide, by first | omega | decide⟩
  · refine x_istore0 B 8 dJ18_numberOfTrailingZeros_7 rfl ?_
    refine x_iload0 B 9 dJ18_numberOfTrailingZeros_8 rfl ?_
    refine x_if_gt_t B 17 dJ18_numberOfTrailingZeros_9 (by decide) (by decide) ?_
    refine x_iconst B 18 (v := 1) dJ18_numberOfTrailingZeros_17 (by decide) rfl ?_
    refine x_istore1 B 19 dJ18_numberOfTrailingZeros_18 rfl ?_
    refine x_iload0 B 20 dJ18_numberOfTrailingZeros_19 rfl ?_
    refine x_ldcw B 23 dJ18_numberOfTrailingZeros_20 q819 rfl ?_
    refine x_icmp_le_t B 34 dJ18_numberOfTrailingZeros_23 (by decide) (by decide) ?_
    refine x_iload0 B 35 dJ18_numberOfTrailingZeros_34 rfl ?_
    refine x_sipush B 38 (v := 256) dJ18_numberOfTrailingZeros_35 (by decide) rfl ?_
    refine x_icmp_le_t B 49 dJ18_numberOfTrailingZeros_38 (by decide) (by decide) ?_
    refine x_iload0 B 50 dJ18_numberOfTrailingZeros_49 rfl ?_
    refine x_bipush B 52 (v := 16) dJ18_numberOfTrailingZeros_50 (by decide) rfl ?_
    refine x_icmp_le_f (tp := 62) B 55 dJ18_numberOfTrailingZeros_52 (by decide) rfl (by decide) ?_
    refine x_iinc1 B 58 dJ18_numberOfTrailingZeros_55 rfl (by first | exact xinc _ | rfl) ?_
    refine x_iload0 B 59 dJ18_numberOfTrailingZeros_58 rfl ?_
    refine x_iconst B 60 (v := 4) dJ18_numberOfTrailingZeros_59 (by decide) rfl ?_
    refine x_iushr B 61 dJ18_numberOfTrailingZeros_60 rfl ?_
    refine x_istore0 B 62 dJ18_numberOfTrailingZeros_61 rfl ?_
    refine x_iload0 B 63 dJ18_numberOfTrailingZeros_62 rfl ?_
    refine x_iconst B 64 (v := 4) dJ18_numberOfTrailingZeros_63 (by decide) rfl ?_
    refine x_icmp_le_f (tp := 74) B 67 dJ18_numberOfTrailingZeros_64 (by decide) rfl (by decide) ?_
    refine x_iinc1 B 70 dJ18_numberOfTrailingZeros_67 rfl (by first | exact xinc _ | rfl) ?_
    refine x_iload0 B 71 dJ18_numberOfTrailingZeros_70 rfl ?_
    refine x_iconst B 72 (v := 2) dJ18_numberOfTrailingZeros_71 (by decide) rfl ?_
    refine x_iushr B 73 dJ18_numberOfTrailingZeros_72 rfl ?_
    refine x_istore0 B 74 dJ18_numberOfTrailingZeros_73 rfl ?_
    refine x_iload1 B 75 dJ18_numberOfTrailingZeros_74 rfl ?_
    refine x_iload0 B 76 dJ18_numberOfTrailingZeros_75 rfl ?_
    refine x_iconst B 77 (v := 1) dJ18_numberOfTrailingZeros_76 (by decide) rfl ?_
    refine x_iushr B 78 dJ18_numberOfTrailingZeros_77 rfl ?_
    refine x_iadd B 79 dJ18_numberOfTrailingZeros_78 rfl ?_
    exact x_iret B rfl ⟨congrArg some (congrArg Value.int (by decide)), rfl⟩ dJ18_numberOfTrailingZeros_79 ⟨by first | omega | decide, by first | omega | decide⟩
  · refine x_istore0 B 8 dJ18_numberOfTrailingZeros_7 rfl ?_
    refine x_iload0 B 9 dJ18_numberOfTrailingZeros_8 rfl ?_
    refine x_if_gt_t B 17 dJ18_numberOfTrailingZeros_9 (by decide) (by decide) ?_
    refine x_iconst B 18 (v := 1) dJ18_numberOfTrailingZeros_17 (by decide) rfl ?_
    refine x_istore1 B 19 dJ18_numberOfTrailingZeros_18 rfl ?_
    refine x_iload0 B 20 dJ18_numberOfTrailingZeros_19 rfl ?_
    refine x_ldcw B 23 dJ18_numberOfTrailingZeros_20 q819 rfl ?_
    refine x_icmp_le_t B 34 dJ18_numberOfTrailingZeros_23 (by decide) (by decide) ?_
    refine x_iload0 B 35 dJ18_numberOfTrailingZeros_34 rfl ?_
    refine x_sipush B 38 (v := 256) dJ18_numberOfTrailingZeros_35 (by decide) rfl ?_
    refine x_icmp_le_t B 49 dJ18_numberOfTrailingZeros_38 (by decide) (by decide) ?_
    refine x_iload0 B 50 dJ18_numberOfTrailingZeros_49 rfl ?_
    refine x_bipush B 52 (v := 16) dJ18_numberOfTrailingZeros_50 (by decide) rfl ?_
    refine x_icmp_le_f (tp := 62) B 55 dJ18_numberOfTrailingZeros_52 (by decide) rfl (by decide) ?_
    refine x_iinc1 B 58 dJ18_numberOfTrailingZeros_55 rfl (by first | exact xinc _ | rfl) ?_
    refine x_iload0 B 59 dJ18_numberOfTrailingZeros_58 rfl ?_
    refine x_iconst B 60 (v := 4) dJ18_numberOfTrailingZeros_59 (by decide) rfl ?_
    refine x_iushr B 61 dJ18_numberOfTrailingZeros_60 rfl ?_
    refine x_istore0 B 62 dJ18_numberOfTrailingZeros_61 rfl ?_
    refine x_iload0 B 63 dJ18_numberOfTrailingZeros_62 rfl ?_
    refine x_iconst B 64 (v := 4) dJ18_numberOfTrailingZeros_63 (by decide) rfl ?_
    refine x_icmp_le_f (tp := 74) B 67 dJ18_numberOfTrailingZeros_64 (by decide) rfl (by decide) ?_
    refine x_iinc1 B 70 dJ18_numberOfTrailingZeros_67 rfl (by first | exact xinc _ | rfl) ?_
    refine x_iload0 B 71 dJ18_numberOfTrailingZeros_70 rfl ?_
    refine x_iconst B 72 (v := 2) dJ18_numberOfTrailingZeros_71 (by decide) rfl ?_
    refine x_iushr B 73 dJ18_numberOfTrailingZeros_72 rfl ?_
    refine x_istore0 B 74 dJ18_numberOfTrailingZeros_73 rfl ?_
    refine x_iload1 B 75 dJ18_numberOfTrailingZeros_74 rfl ?_
    refine x_iload0 B 76 dJ18_numberOfTrailingZeros_75 rfl ?_
    refine x_iconst B 77 (v := 1) dJ18_numberOfTrailingZeros_76 (by decide) rfl ?_
    refine x_iushr B 78 dJ18_numberOfTrailingZeros_77 rfl ?_
    refine x_iadd B 79 dJ18_numberOfTrailingZeros_78 rfl ?_
    exact x_iret B rfl ⟨congrArg some (congrArg Value.int (by decide)), rfl⟩ dJ18_numberOfTrailingZeros_79 ⟨by first | omega | decide, by first | omega | decide⟩
  · refine x_istore0 B 8 dJ18_numberOfTrailingZeros_7 rfl ?_
    refine x_iload0 B 9 dJ18_numberOfTrailingZeros_8 rfl ?_
    refine x_if_gt_t B 17 dJ18_numberOfTrailingZeros_9 (by decide) (by decide) ?_
    refine x_iconst B 18 (v := 1) dJ18_numberOfTrailingZeros_17 (by decide) rfl ?_
    refine x_istore1 B 19 dJ18_numberOfTrailingZeros_18 rfl ?_
    refine x_iload0 B 20 dJ18_numberOfTrailingZeros_19 rfl ?_
    refine x_ldcw B 23 dJ18_numberOfTrailingZeros_20 q819 rfl ?_
    refine x_icmp_le_t B 34 dJ18_numberOfTrailingZeros_23 (by decide) (by decide) ?_
    refine x_iload0 B 35 dJ18_numberOfTrailingZeros_34 rfl ?_
    refine x_sipush B 38 (v := 256) dJ18_numberOfTrailingZeros_35 (by decide) rfl ?_
    refine x_icmp_le_f (tp := 49) B 41 dJ18_numberOfTrailingZeros_38 (by decide) rfl (by decide) ?_
    refine x_iinc1 B 44 dJ18_numberOfTrailingZeros_41 rfl (by first | exact xinc _ | rfl) ?_
    refine x_iload0 B 45 dJ18_numberOfTrailingZeros_44 rfl ?_
    refine x_bipush B 47 (v := 8) dJ18_numberOfTrailingZeros_45 (by decide) rfl ?_
    refine x_iushr B 48 dJ18_numberOfTrailingZeros_47 rfl ?_
    refine x_istore0 B 49 dJ18_numberOfTrailingZeros_48 rfl ?_
    refine x_iload0 B 50 dJ18_numberOfTrailingZeros_49 rfl ?_
    refine x_bipush B 52 (v := 16) dJ18_numberOfTrailingZeros_50 (by decide) rfl ?_
    refine x_icmp_le_t B 62 dJ18_numberOfTrailingZeros_52 (by decide) (by decide) ?_
    refine x_iload0 B 63 dJ18_numberOfTrailingZeros_62 rfl ?_
    refine x_iconst B 64 (v := 4) dJ18_numberOfTrailingZeros_63 (by decide) rfl ?_
    refine x_icmp_le_t B 74 dJ18_numberOfTrailingZeros_64 (by decide) (by decide) ?_
    refine x_iload1 B 75 dJ18_numberOfTrailingZeros_74 rfl ?_
    refine x_iload0 B 76 dJ18_numberOfTrailingZeros_75 rfl ?_
    refine x_iconst B 77 (v := 1) dJ18_numberOfTrailingZeros_76 (by decide) rfl ?_
    refine x_iushr B 78 dJ18_numberOfTrailingZeros_77 rfl ?_
    refine x_iadd B 79 dJ18_numberOfTrailingZeros_78 rfl ?_
    exact x_iret B rfl ⟨congrArg some (congrArg Value.int (by decide)), rfl⟩ dJ18_numberOfTrailingZeros_79 ⟨by first | omega | decide, by first | omega | decide⟩
theorem m_X0_isPerch (b : Int32) : XC D yX0_isPerch (ws_ yX0_isPerch cX0_isPerch 1 (Option.some Jvm.ClassFile.FieldType.boolean)) 1 40 (0) (0) [.int b] [] (fun r cs' => r = some (.int (bI (toR b 0 4).isSome)) ∧ cs' = []) x0 := by
  refine XC.of (by decide) (by simp [Value.category]) (Nat.le_of_ble_eq_true rfl) fun X B => ?_
  show WX D X [] 0 0 0 [some (.int b)] []
  refine x_iload0 B 1 dX0_isPerch_0 rfl ?_
  refine x_i2l B 2 dX0_isPerch_1 rfl ?_
  refine x_lconst B 3 (v := 0) dX0_isPerch_2 (by decide) rfl ?_
  refine x_ldc2 B 6 dX0_isPerch_3 q1429 rfl ?_
  refine x_callS B 9 (m_X0_in _ _ _) [] rfl q290 q291 q88 q292 hd_X0_in rfl ⟨by first | decide | omega, by first | decide | omega⟩ ⟨by first | decide | omega, by first | decide | omega⟩ rfl (Nat.le_of_ble_eq_true rfl) dX0_isPerch_6 rfl (fun _ _ _ h => h.elim) ?_
  rintro _ _ ⟨rfl, rfl⟩
  try simp only [xst, xput, xpre, List.set_cons_zero, List.set_cons_succ]
  rw [show x_in b.toInt64 0 3 = bI (toR b 0 4).isSome from xinR b 0 3 rfl rfl (by decide) (by decide)]
  exact x_zret B rfl ⟨rfl, rfl⟩ dX0_isPerch_9 ⟨by first | omega | decide, by first | omega | decide⟩ (by first | exact Or.inl rfl | exact Or.inr rfl | exact x_in01 _ _ _ | exact x_has01 _ _ | exact bI01 _ | assumption)
theorem m_X0_isWord (b : Int32) : XC D yX0_isWord (ws_ yX0_isWord cX0_isWord 1 (Option.some Jvm.ClassFile.FieldType.boolean)) 1 40 (0) (0) [.int b] [] (fun r cs' => r = some (.int (bI (toR b 0 10).isSome)) ∧ cs' = []) x0 := by
  refine XC.of (by decide) (by simp [Value.category]) (Nat.le_of_ble_eq_true rfl) fun X B => ?_
  show WX D X [] 0 0 0 [some (.int b)] []
  refine x_iload0 B 1 dX0_isWord_0 rfl ?_
  refine x_i2l B 2 dX0_isWord_1 rfl ?_
  refine x_lconst B 3 (v := 0) dX0_isWord_2 (by decide) rfl ?_
  refine x_ldc2 B 6 dX0_isWord_3 q1245 rfl ?_
  refine x_callS B 9 (m_X0_in _ _ _) [] rfl q290 q291 q88 q292 hd_X0_in rfl ⟨by first | decide | omega, by first | decide | omega⟩ ⟨by first | decide | omega, by first | decide | omega⟩ rfl (Nat.le_of_ble_eq_true rfl) dX0_isWord_6 rfl (fun _ _ _ h => h.elim) ?_
  rintro _ _ ⟨rfl, rfl⟩
  try simp only [xst, xput, xpre, List.set_cons_zero, List.set_cons_succ]
  rw [show x_in b.toInt64 0 9 = bI (toR b 0 10).isSome from xinR b 0 9 rfl rfl (by decide) (by decide)]
  exact x_zret B rfl ⟨rfl, rfl⟩ dX0_isWord_9 ⟨by first | omega | decide, by first | omega | decide⟩ (by first | exact Or.inl rfl | exact Or.inr rfl | exact x_in01 _ _ _ | exact x_has01 _ _ | exact bI01 _ | assumption)
theorem m_X0_isReel (b : Int32) : XC D yX0_isReel (ws_ yX0_isReel cX0_isReel 1 (Option.some Jvm.ClassFile.FieldType.boolean)) 1 40 (0) (0) [.int b] [] (fun r cs' => r = some (.int (bI (toR b 0 3).isSome)) ∧ cs' = []) x0 := by
  refine XC.of (by decide) (by simp [Value.category]) (Nat.le_of_ble_eq_true rfl) fun X B => ?_
  show WX D X [] 0 0 0 [some (.int b)] []
  refine x_iload0 B 1 dX0_isReel_0 rfl ?_
  refine x_i2l B 2 dX0_isReel_1 rfl ?_
  refine x_lconst B 3 (v := 0) dX0_isReel_2 (by decide) rfl ?_
  refine x_ldc2 B 6 dX0_isReel_3 q1643 rfl ?_
  refine x_callS B 9 (m_X0_in _ _ _) [] rfl q290 q291 q88 q292 hd_X0_in rfl ⟨by first | decide | omega, by first | decide | omega⟩ ⟨by first | decide | omega, by first | decide | omega⟩ rfl (Nat.le_of_ble_eq_true rfl) dX0_isReel_6 rfl (fun _ _ _ h => h.elim) ?_
  rintro _ _ ⟨rfl, rfl⟩
  try simp only [xst, xput, xpre, List.set_cons_zero, List.set_cons_succ]
  rw [show x_in b.toInt64 0 2 = bI (toR b 0 3).isSome from xinR b 0 2 rfl rfl (by decide) (by decide)]
  exact x_zret B rfl ⟨rfl, rfl⟩ dX0_isReel_9 ⟨by first | omega | decide, by first | omega | decide⟩ (by first | exact Or.inl rfl | exact Or.inr rfl | exact x_in01 _ _ _ | exact x_has01 _ _ | exact bI01 _ | assumption)
theorem m_X0_isBird (b : Int32) (n : Nat) (hr : iv 1 = nI n) (hn : n ≤ 8) : XC D yX0_isBird (ws_ yX0_isBird cX0_isBird 2 (Option.some Jvm.ClassFile.FieldType.boolean)) 1 40 (0) (0) [.ref h, .int b] [cR h ad iv tg] (fun r cs' => r = some (.int (bI (toR b 0 n).isSome)) ∧ cs' = [cR h ad iv tg]) x0 := by
  refine XC.of (by decide) (by simp [Value.category]) (Nat.le_of_ble_eq_true rfl) fun X B => ?_
  show WX D X [cR h ad iv tg] 0 0 0 [some (.ref h), some (.int b)] []
  refine x_iload1 B 1 dX0_isBird_0 rfl ?_
  refine x_i2l B 2 dX0_isBird_1 rfl ?_
  refine x_lconst B 3 (v := 0) dX0_isBird_2 (by decide) rfl ?_
  refine x_aload0 B 4 dX0_isBird_3 rfl (by first | rfl | exact xisR_rf _) ?_
  refine g_X0_69_X0 B 7 (by repeat (first | with_reducible exact xr_h | refine xr_t ?_)) dX0_isBird_4 rfl ?_
  refine x_iconst B 8 (v := 1) dX0_isBird_7 (by decide) rfl ?_
  refine x_isub B 9 dX0_isBird_8 rfl ?_
  refine x_i2l B 10 dX0_isBird_9 rfl ?_
  refine x_callS B 13 (m_X0_in _ _ _) [] rfl q290 q291 q88 q292 hd_X0_in rfl ⟨by first | decide | omega, by first | decide | omega⟩ ⟨by first | decide | omega, by first | decide | omega⟩ rfl (Nat.le_of_ble_eq_true rfl) dX0_isBird_10 rfl (fun _ _ _ h => h.elim) ?_
  rintro _ _ ⟨rfl, rfl⟩
  try simp only [xst, xput, xpre, List.set_cons_zero, List.set_cons_succ]
  rw [hr, xinB b (by omega)]
  exact x_zret B rfl ⟨rfl, rfl⟩ dX0_isBird_13 ⟨by first | omega | decide, by first | omega | decide⟩ (by first | exact Or.inl rfl | exact Or.inr rfl | exact x_in01 _ _ _ | exact x_has01 _ _ | exact bI01 _ | assumption)
theorem m_X0_isMan (b : Int32) (n : Nat) (hr : iv 2 = nI n) (hn : n ≤ 8) : XC D yX0_isMan (ws_ yX0_isMan cX0_isMan 2 (Option.some Jvm.ClassFile.FieldType.boolean)) 1 40 (0) (0) [.ref h, .int b] [cR h ad iv tg] (fun r cs' => r = some (.int (bI (toR b 0 n).isSome)) ∧ cs' = [cR h ad iv tg]) x0 := by
  refine XC.of (by decide) (by simp [Value.category]) (Nat.le_of_ble_eq_true rfl) fun X B => ?_
  show WX D X [cR h ad iv tg] 0 0 0 [some (.ref h), some (.int b)] []
  refine x_iload1 B 1 dX0_isMan_0 rfl ?_
  refine x_i2l B 2 dX0_isMan_1 rfl ?_
  refine x_lconst B 3 (v := 0) dX0_isMan_2 (by decide) rfl ?_
  refine x_aload0 B 4 dX0_isMan_3 rfl (by first | rfl | exact xisR_rf _) ?_
  refine g_X0_72_X0 B 7 (by repeat (first | with_reducible exact xr_h | refine xr_t ?_)) dX0_isMan_4 rfl ?_
  refine x_iconst B 8 (v := 1) dX0_isMan_7 (by decide) rfl ?_
  refine x_isub B 9 dX0_isMan_8 rfl ?_
  refine x_i2l B 10 dX0_isMan_9 rfl ?_
  refine x_callS B 13 (m_X0_in _ _ _) [] rfl q290 q291 q88 q292 hd_X0_in rfl ⟨by first | decide | omega, by first | decide | omega⟩ ⟨by first | decide | omega, by first | decide | omega⟩ rfl (Nat.le_of_ble_eq_true rfl) dX0_isMan_10 rfl (fun _ _ _ h => h.elim) ?_
  rintro _ _ ⟨rfl, rfl⟩
  try simp only [xst, xput, xpre, List.set_cons_zero, List.set_cons_succ]
  rw [hr, xinB b (by omega)]
  exact x_zret B rfl ⟨rfl, rfl⟩ dX0_isMan_13 ⟨by first | omega | decide, by first | omega | decide⟩ (by first | exact Or.inl rfl | exact Or.inr rfl | exact x_in01 _ _ _ | exact x_has01 _ _ | exact bI01 _ | assumption)
theorem m_X0_erase (n : Nat) (hl : iv 16 = nI n) : XC D yX0_erase (ws_ yX0_erase cX0_erase 2 (Option.some Jvm.ClassFile.FieldType.int)) 0 0 (0) (0) [.ref h] [cR h ad iv tg] (fun r cs' => r = some (.int (nI n)) ∧ cs' = [cR h ad (upd iv 16 0) tg]) x0 := by
  refine XC.of (by decide) (by simp [Value.category]) (Nat.le_of_ble_eq_true rfl) fun X B => ?_
  show WX D X [cR h ad iv tg] 0 0 0 [some (.ref h), none] []
  refine x_aload0 B 1 dX0_erase_0 rfl (by first | rfl | exact xisR_rf _) ?_
  refine g_X0_158_X0 B 4 (by repeat (first | with_reducible exact xr_h | refine xr_t ?_)) dX0_erase_1 rfl ?_
  rw [hl]
  refine x_istore1 B 5 dX0_erase_4 rfl ?_
  refine x_aload0 B 6 dX0_erase_5 rfl (by first | rfl | exact xisR_rf _) ?_
  refine x_iconst B 7 (v := 0) dX0_erase_6 (by decide) rfl ?_
  refine s_X0_158_X0 B 10 (by repeat (first | with_reducible exact xu_h | apply xu_t)) dX0_erase_7 rfl ?_
  refine x_iload1 B 11 dX0_erase_10 rfl ?_
  exact x_iret B rfl ⟨rfl, rfl⟩ dX0_erase_11 ⟨by first | omega | decide, by first | omega | decide⟩
theorem m_X0_forget (n : Nat) (hl : iv 13 = nI n) : XC D yX0_forget (ws_ yX0_forget cX0_forget 2 (Option.some Jvm.ClassFile.FieldType.int)) 0 0 (0) (0) [.ref h] [cR h ad iv tg] (fun r cs' => r = some (.int (nI n)) ∧ cs' = [cR h ad (upd iv 13 0) tg]) x0 := by
  refine XC.of (by decide) (by simp [Value.category]) (Nat.le_of_ble_eq_true rfl) fun X B => ?_
  show WX D X [cR h ad iv tg] 0 0 0 [some (.ref h), none] []
  refine x_aload0 B 1 dX0_forget_0 rfl (by first | rfl | exact xisR_rf _) ?_
  refine g_X0_44_X0 B 4 (by repeat (first | with_reducible exact xr_h | refine xr_t ?_)) dX0_forget_1 rfl ?_
  rw [hl]
  refine x_istore1 B 5 dX0_forget_4 rfl ?_
  refine x_aload0 B 6 dX0_forget_5 rfl (by first | rfl | exact xisR_rf _) ?_
  refine x_iconst B 7 (v := 0) dX0_forget_6 (by decide) rfl ?_
  refine s_X0_44_X0 B 10 (by repeat (first | with_reducible exact xu_h | apply xu_t)) dX0_forget_7 rfl ?_
  refine x_iload1 B 11 dX0_forget_10 rfl ?_
  exact x_iret B rfl ⟨rfl, rfl⟩ dX0_forget_11 ⟨by first | omega | decide, by first | omega | decide⟩
end C1
