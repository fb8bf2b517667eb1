/-! the twin, 1: small ones -/
def t_bits (s : Int32) : Nat → Int32
  | 0 => 0
  | k + 1 => t_bits s k + ((s >>> (nI k &&& 31)) &&& 1)
def t_hears (k : Int32) : Int32 := if k = 3 then 0 else if k = 4 then 2 else 1
def t_gets (k : Int32) : Int32 := if k = 3 then 0 else if k = 4 then 0 else if k = 1 then 5 else 3
def t_says (k : Int32) : Int32 := if k = 3 then 0 else if k = 4 then 0 else if k = 2 then 2 else 1
def t_loses (k : Int32) : Int32 := if k = 0 then 1 else if k = 2 then 1 else 0
/-- the twin's root, its row -/
abbrev tR (D : xG) (h : Nat) (ad : Nat → Nat) (iv : Nat → Int32) : va_W := [(h, oX2 ad iv)]
abbrev tI (D : xG) (ad : Nat → Nat) (i N : Nat) (f : Nat → Int32) : va_W := [(ad i, aI (D.2.1 0) N f)]
abbrev tZ (D : xG) (ad : Nat → Nat) (i N : Nat) (f : Nat → Int32) : va_W := [(ad i, aI (D.2.1 3) N f)]
section T1
variable {D : xG} {h : Nat} {ad : Nat → Nat} {iv row : Nat → Int32}
theorem m_X2_bits (s : Int32) : XC D yX2_bits (ws_ yX2_bits cX2_bits 3 (Option.some Jvm.ClassFile.FieldType.int)) 0 0 (0) (0) [.int s] [] (fun r cs' => r = some (.int (t_bits s 10)) ∧ cs' = []) x0 := by
  refine XC.of (by decide) (by simp [Value.category]) (Nat.le_of_ble_eq_true rfl) fun X B => ?_
  show WX D X [] 0 0 0 [some (.int s), none, none] []
  have loop : ∀ (m i : Nat), i + m = 10 → WX D X [] 0 0 4 [some (.int s), some (.int (t_bits s i)), some (.int (nI i))] [] := by
    intro m
    induction m with
    | zero =>
      intro i hi
      obtain rfl : i = 10 := by omega
      refine x_iload2 B 5 dX2_bits_4 rfl ?_
      refine x_bipush B 7 (v := 10) dX2_bits_5 (by decide) rfl ?_
      refine x_icmp_ge_t B 24 dX2_bits_7 (by decide) (by (try simp only [xlit]); first | (rw [nI_leI (by omega) (by omega)]; omega) | (rw [nI_ltI (by omega) (by omega)]; omega) | (rw [nI_eq (by omega) (by omega)]; omega)) ?_
      refine x_iload1 B 25 dX2_bits_24 rfl ?_
      exact x_iret B rfl ⟨rfl, rfl⟩ dX2_bits_25 ⟨by first | omega | decide, by first | omega | decide⟩
    | succ m ih =>
      intro i hi
      refine x_iload2 B 5 dX2_bits_4 rfl ?_
      refine x_bipush B 7 (v := 10) dX2_bits_5 (by decide) rfl ?_
      refine x_icmp_ge_f (tp := 24) B 10 dX2_bits_7 (by decide) rfl (by (try simp only [xlit]); first | (rw [nI_leI (by omega) (by omega)]; omega) | (rw [nI_ltI (by omega) (by omega)]; omega) | (rw [nI_eq (by omega) (by omega)]; omega)) ?_
      refine x_iload1 B 11 dX2_bits_10 rfl ?_
      refine x_iload0 B 12 dX2_bits_11 rfl ?_
      refine x_iload2 B 13 dX2_bits_12 rfl ?_
      refine x_ishr B 14 dX2_bits_13 rfl ?_
      refine x_iconst B 15 (v := 1) dX2_bits_14 (by decide) rfl ?_
      refine x_iand B 16 dX2_bits_15 rfl ?_
      refine x_iadd B 17 dX2_bits_16 rfl ?_
      refine x_istore1 B 18 dX2_bits_17 rfl ?_
      refine x_iinc2 B 21 dX2_bits_18 rfl (by first | exact xinc _ | rfl) ?_
      refine x_goto B 4 dX2_bits_21 (by decide) ?_
      exact ih (i + 1) (by omega)
  refine x_iconst B 1 (v := 0) dX2_bits_0 (by decide) rfl ?_
  refine x_istore1 B 2 dX2_bits_1 rfl ?_
  refine x_iconst B 3 (v := 0) dX2_bits_2 (by decide) rfl ?_
  refine x_istore2 B 4 dX2_bits_3 rfl ?_
  exact loop 10 0 rfl
theorem m_X2_isLetter (c : Int32) : XC D yX2_isLetter (ws_ yX2_isLetter cX2_isLetter 1 (Option.some Jvm.ClassFile.FieldType.boolean)) 1 40 (0) (0) [.int c] [] (fun r cs' => r = some (.int (x_in c.toInt64 97 122)) ∧ cs' = []) x0 := by
  refine XC.of (by decide) (by simp [Value.category]) (Nat.le_of_ble_eq_true rfl) fun X B => ?_
  show WX D X [] 0 0 0 [some (.int c)] []
  refine x_iload0 B 1 dX2_isLetter_0 rfl ?_
  refine x_i2l B 2 dX2_isLetter_1 rfl ?_
  refine x_ldc2 B 5 dX2_isLetter_2 q1891 rfl ?_
  refine x_ldc2 B 8 dX2_isLetter_5 q1892 rfl ?_
  refine x_callS B 11 (m_X2_in _ _ _) [] rfl q1869 q1870 q92 q1871 hd_X2_in rfl ⟨by first | decide | omega, by first | decide | omega⟩ ⟨by first | decide | omega, by first | decide | omega⟩ rfl (Nat.le_of_ble_eq_true rfl) dX2_isLetter_8 rfl (fun _ _ _ h => h.elim) ?_
  rintro _ _ ⟨rfl, rfl⟩
  simp only [xst, xput, xpre]
  exact x_zret B rfl ⟨rfl, rfl⟩ dX2_isLetter_11 ⟨by first | omega | decide, by first | omega | decide⟩ (by first | exact Or.inl rfl | exact Or.inr rfl | exact x_in01 _ _ _ | exact x_has01 _ _ | exact bI01 _ | assumption)
theorem m_X2_isDigit (c : Int32) : XC D yX2_isDigit (ws_ yX2_isDigit cX2_isDigit 1 (Option.some Jvm.ClassFile.FieldType.boolean)) 1 40 (0) (0) [.int c] [] (fun r cs' => r = some (.int (x_in c.toInt64 48 57)) ∧ cs' = []) x0 := by
  refine XC.of (by decide) (by simp [Value.category]) (Nat.le_of_ble_eq_true rfl) fun X B => ?_
  show WX D X [] 0 0 0 [some (.int c)] []
  refine x_iload0 B 1 dX2_isDigit_0 rfl ?_
  refine x_i2l B 2 dX2_isDigit_1 rfl ?_
  refine x_ldc2 B 5 dX2_isDigit_2 q1896 rfl ?_
  refine x_ldc2 B 8 dX2_isDigit_5 q1897 rfl ?_
  refine x_callS B 11 (m_X2_in _ _ _) [] rfl q1869 q1870 q92 q1871 hd_X2_in rfl ⟨by first | decide | omega, by first | decide | omega⟩ ⟨by first | decide | omega, by first | decide | omega⟩ rfl (Nat.le_of_ble_eq_true rfl) dX2_isDigit_8 rfl (fun _ _ _ h => h.elim) ?_
  rintro _ _ ⟨rfl, rfl⟩
  simp only [xst, xput, xpre]
  exact x_zret B rfl ⟨rfl, rfl⟩ dX2_isDigit_11 ⟨by first | omega | decide, by first | omega | decide⟩ (by first | exact Or.inl rfl | exact Or.inr rfl | exact x_in01 _ _ _ | exact x_has01 _ _ | exact bI01 _ | assumption)
theorem m_X2_isWordNumber (c : Int32) : XC D yX2_isWordNumber (ws_ yX2_isWordNumber cX2_isWordNumber 1 (Option.some Jvm.ClassFile.FieldType.boolean)) 1 40 (0) (0) [.int c] [] (fun r cs' => r = some (.int (x_in c.toInt64 0 9)) ∧ cs' = []) x0 := by
  refine XC.of (by decide) (by simp [Value.category]) (Nat.le_of_ble_eq_true rfl) fun X B => ?_
  show WX D X [] 0 0 0 [some (.int c)] []
  refine x_iload0 B 1 dX2_isWordNumber_0 rfl ?_
  refine x_i2l B 2 dX2_isWordNumber_1 rfl ?_
  refine x_lconst B 3 (v := 0) dX2_isWordNumber_2 (by decide) rfl ?_
  refine x_ldc2 B 6 dX2_isWordNumber_3 q2009 rfl ?_
  refine x_callS B 9 (m_X2_in _ _ _) [] rfl q1869 q1870 q92 q1871 hd_X2_in rfl ⟨by first | decide | omega, by first | decide | omega⟩ ⟨by first | decide | omega, by first | decide | omega⟩ rfl (Nat.le_of_ble_eq_true rfl) dX2_isWordNumber_6 rfl (fun _ _ _ h => h.elim) ?_
  rintro _ _ ⟨rfl, rfl⟩
  simp only [xst, xput, xpre]
  exact x_zret B rfl ⟨rfl, rfl⟩ dX2_isWordNumber_9 ⟨by first | omega | decide, by first | omega | decide⟩ (by first | exact Or.inl rfl | exact Or.inr rfl | exact x_in01 _ _ _ | exact x_has01 _ _ | exact bI01 _ | assumption)
theorem m_X2_isReel (c : Int32) : XC D yX2_isReel (ws_ yX2_isReel cX2_isReel 1 (Option.some Jvm.ClassFile.FieldType.boolean)) 1 40 (0) (0) [.int c] [] (fun r cs' => r = some (.int (x_in c.toInt64 0 2)) ∧ cs' = []) x0 := by
  refine XC.of (by decide) (by simp [Value.category]) (Nat.le_of_ble_eq_true rfl) fun X B => ?_
  show WX D X [] 0 0 0 [some (.int c)] []
  refine x_iload0 B 1 dX2_isReel_0 rfl ?_
  refine x_i2l B 2 dX2_isReel_1 rfl ?_
  refine x_lconst B 3 (v := 0) dX2_isReel_2 (by decide) rfl ?_
  refine x_ldc2 B 6 dX2_isReel_3 q2196 rfl ?_
  refine x_callS B 9 (m_X2_in _ _ _) [] rfl q1869 q1870 q92 q1871 hd_X2_in rfl ⟨by first | decide | omega, by first | decide | omega⟩ ⟨by first | decide | omega, by first | decide | omega⟩ rfl (Nat.le_of_ble_eq_true rfl) dX2_isReel_6 rfl (fun _ _ _ h => h.elim) ?_
  rintro _ _ ⟨rfl, rfl⟩
  simp only [xst, xput, xpre]
  exact x_zret B rfl ⟨rfl, rfl⟩ dX2_isReel_9 ⟨by first | omega | decide, by first | omega | decide⟩ (by first | exact Or.inl rfl | exact Or.inr rfl | exact x_in01 _ _ _ | exact x_has01 _ _ | exact bI01 _ | assumption)
theorem m_X2_hears (k : Int32) : XC D yX2_hears (ws_ yX2_hears cX2_hears 1 (Option.some Jvm.ClassFile.FieldType.int)) 0 0 (0) (0) [.int k] [] (fun r cs' => r = some (.int (t_hears k)) ∧ cs' = []) x0 := by
  refine XC.of (by decide) (by simp [Value.category]) (Nat.le_of_ble_eq_true rfl) fun X B => ?_
  show WX D X [] 0 0 0 [some (.int k)] []
  refine x_iload0 B 1 dX2_hears_0 rfl ?_
  refine x_iconst B 2 (v := 3) dX2_hears_1 (by decide) rfl ?_
  refine x_icmp_ne B 9 5 dX2_hears_2 (by decide) rfl (fun h1 => ?_) (fun h1 => ?_)
  · refine x_iload0 B 10 dX2_hears_9 rfl ?_
    refine x_iconst B 11 (v := 4) dX2_hears_10 (by decide) rfl ?_
    refine x_icmp_ne B 18 14 dX2_hears_11 (by decide) rfl (fun h2 => ?_) (fun h2 => ?_)
    · refine x_iconst B 19 (v := 1) dX2_hears_18 (by decide) rfl ?_
      exact x_iret B rfl ⟨by simp [t_hears, h1, h2], rfl⟩ dX2_hears_19 ⟨by first | omega | decide, by first | omega | decide⟩
    · refine x_iconst B 15 (v := 2) dX2_hears_14 (by decide) rfl ?_
      refine x_goto B 19 dX2_hears_15 (by decide) ?_
      exact x_iret B rfl ⟨by simp [t_hears, h2], rfl⟩ dX2_hears_19 ⟨by first | omega | decide, by first | omega | decide⟩
  · refine x_iconst B 6 (v := 0) dX2_hears_5 (by decide) rfl ?_
    refine x_goto B 19 dX2_hears_6 (by decide) ?_
    exact x_iret B rfl ⟨by simp [t_hears, h1], rfl⟩ dX2_hears_19 ⟨by first | omega | decide, by first | omega | decide⟩
theorem m_X2_gets (k : Int32) : XC D yX2_gets (ws_ yX2_gets cX2_gets 1 (Option.some Jvm.ClassFile.FieldType.int)) 0 0 (0) (0) [.int k] [] (fun r cs' => r = some (.int (t_gets k)) ∧ cs' = []) x0 := by
  refine XC.of (by decide) (by simp [Value.category]) (Nat.le_of_ble_eq_true rfl) fun X B => ?_
  show WX D X [] 0 0 0 [some (.int k)] []
  have j1 : ∀ v, v = t_gets k → WX D X [] 0 0 24 [some (.int k)] [.int v] := by
    intro v hv
    exact x_iret B rfl ⟨by rw [hv], rfl⟩ dX2_gets_24 ⟨by first | omega | decide, by first | omega | decide⟩
  refine x_iload0 B 1 dX2_gets_0 rfl ?_
  refine x_iconst B 2 (v := 3) dX2_gets_1 (by decide) rfl ?_
  refine x_icmp_eq B 10 5 dX2_gets_2 (by decide) rfl (fun h1 => ?_) (fun h1 => ?_)
  · refine x_iconst B 11 (v := 0) dX2_gets_10 (by decide) rfl ?_
    refine x_goto B 24 dX2_gets_11 (by decide) ?_
    exact j1 _ (by simp [t_gets, h1])
  · refine x_iload0 B 6 dX2_gets_5 rfl ?_
    refine x_iconst B 7 (v := 4) dX2_gets_6 (by decide) rfl ?_
    refine x_icmp_ne B 14 10 dX2_gets_7 (by decide) rfl (fun h2 => ?_) (fun h2 => ?_)
    · refine x_iload0 B 15 dX2_gets_14 rfl ?_
      refine x_iconst B 16 (v := 1) dX2_gets_15 (by decide) rfl ?_
      refine x_icmp_ne B 23 19 dX2_gets_16 (by decide) rfl (fun h3 => ?_) (fun h3 => ?_)
      · refine x_iconst B 24 (v := 3) dX2_gets_23 (by decide) rfl ?_
        exact j1 _ (by simp [t_gets, h1, h2, h3])
      · refine x_iconst B 20 (v := 5) dX2_gets_19 (by decide) rfl ?_
        refine x_goto B 24 dX2_gets_20 (by decide) ?_
        exact j1 _ (by simp [t_gets, h3])
    · refine x_iconst B 11 (v := 0) dX2_gets_10 (by decide) rfl ?_
      refine x_goto B 24 dX2_gets_11 (by decide) ?_
      exact j1 _ (by simp [t_gets, h2])
theorem m_X2_says (k : Int32) : XC D yX2_says (ws_ yX2_says cX2_says 1 (Option.some Jvm.ClassFile.FieldType.int)) 0 0 (0) (0) [.int k] [] (fun r cs' => r = some (.int (t_says k)) ∧ cs' = []) x0 := by
  refine XC.of (by decide) (by simp [Value.category]) (Nat.le_of_ble_eq_true rfl) fun X B => ?_
  show WX D X [] 0 0 0 [some (.int k)] []
  have j1 : ∀ v, v = t_says k → WX D X [] 0 0 24 [some (.int k)] [.int v] := by
    intro v hv
    exact x_iret B rfl ⟨by rw [hv], rfl⟩ dX2_says_24 ⟨by first | omega | decide, by first | omega | decide⟩
  refine x_iload0 B 1 dX2_says_0 rfl ?_
  refine x_iconst B 2 (v := 3) dX2_says_1 (by decide) rfl ?_
  refine x_icmp_eq B 10 5 dX2_says_2 (by decide) rfl (fun h1 => ?_) (fun h1 => ?_)
  · refine x_iconst B 11 (v := 0) dX2_says_10 (by decide) rfl ?_
    refine x_goto B 24 dX2_says_11 (by decide) ?_
    exact j1 _ (by simp [t_says, h1])
  · refine x_iload0 B 6 dX2_says_5 rfl ?_
    refine x_iconst B 7 (v := 4) dX2_says_6 (by decide) rfl ?_
    refine x_icmp_ne B 14 10 dX2_says_7 (by decide) rfl (fun h2 => ?_) (fun h2 => ?_)
    · refine x_iload0 B 15 dX2_says_14 rfl ?_
      refine x_iconst B 16 (v := 2) dX2_says_15 (by decide) rfl ?_
      refine x_icmp_ne B 23 19 dX2_says_16 (by decide) rfl (fun h3 => ?_) (fun h3 => ?_)
      · refine x_iconst B 24 (v := 1) dX2_says_23 (by decide) rfl ?_
        exact j1 _ (by simp [t_says, h1, h2, h3])
      · refine x_iconst B 20 (v := 2) dX2_says_19 (by decide) rfl ?_
        refine x_goto B 24 dX2_says_20 (by decide) ?_
        exact j1 _ (by simp [t_says, h3])
    · refine x_iconst B 11 (v := 0) dX2_says_10 (by decide) rfl ?_
      refine x_goto B 24 dX2_says_11 (by decide) ?_
      exact j1 _ (by simp [t_says, h2])
theorem m_X2_loses (k : Int32) : XC D yX2_loses (ws_ yX2_loses cX2_loses 1 (Option.some Jvm.ClassFile.FieldType.int)) 0 0 (0) (0) [.int k] [] (fun r cs' => r = some (.int (t_loses k)) ∧ cs' = []) x0 := by
  refine XC.of (by decide) (by simp [Value.category]) (Nat.le_of_ble_eq_true rfl) fun X B => ?_
  show WX D X [] 0 0 0 [some (.int k)] []
  refine x_iload0 B 1 dX2_loses_0 rfl ?_
  refine x_if_eq B 9 4 dX2_loses_1 (by decide) rfl (fun h1 => ?_) (fun h1 => ?_)
  · refine x_iconst B 10 (v := 1) dX2_loses_9 (by decide) rfl ?_
    refine x_goto B 14 dX2_loses_10 (by decide) ?_
    exact x_iret B rfl ⟨by simp [t_loses, h1], rfl⟩ dX2_loses_14 ⟨by first | omega | decide, by first | omega | decide⟩
  · refine x_iload0 B 5 dX2_loses_4 rfl ?_
    refine x_iconst B 6 (v := 2) dX2_loses_5 (by decide) rfl ?_
    refine x_icmp_ne B 13 9 dX2_loses_6 (by decide) rfl (fun h2 => ?_) (fun h2 => ?_)
    · refine x_iconst B 14 (v := 0) dX2_loses_13 (by decide) rfl ?_
      exact x_iret B rfl ⟨by simp [t_loses, h1, h2], rfl⟩ dX2_loses_14 ⟨by first | omega | decide, by first | omega | decide⟩
    · refine x_iconst B 10 (v := 1) dX2_loses_9 (by decide) rfl ?_
      refine x_goto B 14 dX2_loses_10 (by decide) ?_
      exact x_iret B rfl ⟨by simp [t_loses, h2], rfl⟩ dX2_loses_14 ⟨by first | omega | decide, by first | omega | decide⟩
theorem m_X2_isBird (b : Int32) : XC D yX2_isBird (ws_ yX2_isBird cX2_isBird 2 (Option.some Jvm.ClassFile.FieldType.boolean)) 1 40 (0) (0) [.ref h, .int b] [tR D h ad iv, tI D ad 0 1404 row] (fun r cs' => r = some (.int (x_in b.toInt64 0 (row 0 - 1).toInt64)) ∧ cs' = [tR D h ad iv, tI D ad 0 1404 row]) x0 := by
  refine XC.of (by decide) (by simp [Value.category]) (Nat.le_of_ble_eq_true rfl) fun X B => ?_
  show WX D X [tR D h ad iv, tI D ad 0 1404 row] 0 0 0 [some (.ref h), some (.int b)] []
  refine x_iload1 B 1 dX2_isBird_0 rfl ?_
  refine x_i2l B 2 dX2_isBird_1 rfl ?_
  refine x_lconst B 3 (v := 0) dX2_isBird_2 (by decide) rfl ?_
  refine x_aload0 B 4 dX2_isBird_3 rfl (by first | rfl | exact xisR_rf _) ?_
  refine g_X2_7_X2 B 7 (by repeat (first | with_reducible exact xr_h | refine xr_t ?_)) dX2_isBird_4 rfl ?_
  refine x_iconst B 8 (v := 0) dX2_isBird_7 (by decide) rfl ?_
  refine x_iald B 9 (by repeat (first | with_reducible exact xr_h | refine xr_t ?_)) rfl ⟨by first | omega | decide, by first | decide | omega⟩ dX2_isBird_8 rfl ?_
  refine x_iconst B 10 (v := 1) dX2_isBird_9 (by decide) rfl ?_
  refine x_isub B 11 dX2_isBird_10 rfl ?_
  refine x_i2l B 12 dX2_isBird_11 rfl ?_
  refine x_callS B 15 (m_X2_in _ _ _) [] rfl q1869 q1870 q92 q1871 hd_X2_in rfl ⟨by first | decide | omega, by first | decide | omega⟩ ⟨by first | decide | omega, by first | decide | omega⟩ rfl (Nat.le_of_ble_eq_true rfl) dX2_isBird_12 rfl (fun _ _ _ h => h.elim) ?_
  rintro _ _ ⟨rfl, rfl⟩
  simp only [xst, xput, xpre]
  exact x_zret B rfl ⟨rfl, rfl⟩ dX2_isBird_15 ⟨by first | omega | decide, by first | omega | decide⟩ (by first | exact Or.inl rfl | exact Or.inr rfl | exact x_in01 _ _ _ | exact x_has01 _ _ | exact bI01 _ | assumption)
theorem m_X2_isMan (b : Int32) : XC D yX2_isMan (ws_ yX2_isMan cX2_isMan 2 (Option.some Jvm.ClassFile.FieldType.boolean)) 1 40 (0) (0) [.ref h, .int b] [tR D h ad iv, tI D ad 0 1404 row] (fun r cs' => r = some (.int (x_in b.toInt64 0 (row 1 - 1).toInt64)) ∧ cs' = [tR D h ad iv, tI D ad 0 1404 row]) x0 := by
  refine XC.of (by decide) (by simp [Value.category]) (Nat.le_of_ble_eq_true rfl) fun X B => ?_
  show WX D X [tR D h ad iv, tI D ad 0 1404 row] 0 0 0 [some (.ref h), some (.int b)] []
  refine x_iload1 B 1 dX2_isMan_0 rfl ?_
  refine x_i2l B 2 dX2_isMan_1 rfl ?_
  refine x_lconst B 3 (v := 0) dX2_isMan_2 (by decide) rfl ?_
  refine x_aload0 B 4 dX2_isMan_3 rfl (by first | rfl | exact xisR_rf _) ?_
  refine g_X2_7_X2 B 7 (by repeat (first | with_reducible exact xr_h | refine xr_t ?_)) dX2_isMan_4 rfl ?_
  refine x_iconst B 8 (v := 1) dX2_isMan_7 (by decide) rfl ?_
  refine x_iald B 9 (by repeat (first | with_reducible exact xr_h | refine xr_t ?_)) rfl ⟨by first | omega | decide, by first | decide | omega⟩ dX2_isMan_8 rfl ?_
  refine x_iconst B 10 (v := 1) dX2_isMan_9 (by decide) rfl ?_
  refine x_isub B 11 dX2_isMan_10 rfl ?_
  refine x_i2l B 12 dX2_isMan_11 rfl ?_
  refine x_callS B 15 (m_X2_in _ _ _) [] rfl q1869 q1870 q92 q1871 hd_X2_in rfl ⟨by first | decide | omega, by first | decide | omega⟩ ⟨by first | decide | omega, by first | decide | omega⟩ rfl (Nat.le_of_ble_eq_true rfl) dX2_isMan_12 rfl (fun _ _ _ h => h.elim) ?_
  rintro _ _ ⟨rfl, rfl⟩
  simp only [xst, xput, xpre]
  exact x_zret B rfl ⟨rfl, rfl⟩ dX2_isMan_15 ⟨by first | omega | decide, by first | omega | decide⟩ (by first | exact Or.inl rfl | exact Or.inr rfl | exact x_in01 _ _ _ | exact x_has01 _ _ | exact bI01 _ | assumption)
theorem m_X2_learns (base b w : Nat) (m : Int32) (hB : base + 20 + 10 * b + w < 1404) : XC D yX2_learns (ws_ yX2_learns cX2_learns 6 (Option.none : Option Jvm.ClassFile.FieldType)) 0 0 (0) (0) [.ref h, .int (nI base), .int (nI b), .int (nI w), .int m] [tR D h ad iv, tI D ad 0 1404 row] (fun r cs' => r = none ∧ cs' = [tR D h ad iv, tI D ad 0 1404 (upd row (base + 20 + 10 * b + w) (if 9 < row (base + 20 + 10 * b + w) + m then 9 else row (base + 20 + 10 * b + w) + m))]) x0 := by
  refine XC.of (by decide) (by simp [Value.category]) (Nat.le_of_ble_eq_true rfl) fun X B => ?_
  show WX D X [tR D h ad iv, tI D ad 0 1404 row] 0 0 0 [some (.ref h), some (.int (nI base)), some (.int (nI b)), some (.int (nI w)), some (.int m), none] []
  have e1 : nI base + 20 + 10 * nI b + nI w = nI (base + 20 + 10 * b + w) := by simp only [xlit, nI_add, pk_mul]
  refine x_iload1 B 1 dX2_learns_0 rfl ?_
  refine x_bipush B 3 (v := 20) dX2_learns_1 (by decide) rfl ?_
  refine x_iadd B 4 dX2_learns_3 rfl ?_
  refine x_bipush B 6 (v := 10) dX2_learns_4 (by decide) rfl ?_
  refine x_iload2 B 7 dX2_learns_6 rfl ?_
  refine x_imul B 8 dX2_learns_7 rfl ?_
  refine x_iadd B 9 dX2_learns_8 rfl ?_
  refine x_iload3 B 10 dX2_learns_9 rfl ?_
  refine x_iadd B 11 dX2_learns_10 rfl ?_
  rw [e1]
  refine x_istore5 B 13 dX2_learns_11 rfl ?_
  refine x_aload0 B 14 dX2_learns_13 rfl (by first | rfl | exact xisR_rf _) ?_
  refine g_X2_7_X2 B 17 (by repeat (first | with_reducible exact xr_h | refine xr_t ?_)) dX2_learns_14 rfl ?_
  refine x_iload5 B 19 dX2_learns_17 rfl ?_
  refine x_aload0 B 20 dX2_learns_19 rfl (by first | rfl | exact xisR_rf _) ?_
  refine g_X2_7_X2 B 23 (by repeat (first | with_reducible exact xr_h | refine xr_t ?_)) dX2_learns_20 rfl ?_
  refine x_iload5 B 25 dX2_learns_23 rfl ?_
  refine x_iald B 26 (by repeat (first | with_reducible exact xr_h | refine xr_t ?_)) rfl ⟨by first | omega | decide, by first | decide | omega⟩ dX2_learns_25 rfl ?_
  refine x_iload4 B 28 dX2_learns_26 rfl ?_
  refine x_iadd B 29 dX2_learns_28 rfl ?_
  refine x_bipush B 31 (v := 9) dX2_learns_29 (by decide) rfl ?_
  refine x_icmp_le B 39 34 dX2_learns_31 (by decide) rfl (fun hc => ?_) (fun hc => ?_)
  · refine x_aload0 B 40 dX2_learns_39 rfl (by first | rfl | exact xisR_rf _) ?_
    refine g_X2_7_X2 B 43 (by repeat (first | with_reducible exact xr_h | refine xr_t ?_)) dX2_learns_40 rfl ?_
    refine x_iload5 B 45 dX2_learns_43 rfl ?_
    refine x_iald B 46 (by repeat (first | with_reducible exact xr_h | refine xr_t ?_)) rfl ⟨by first | omega | decide, by first | decide | omega⟩ dX2_learns_45 rfl ?_
    refine x_iload4 B 48 dX2_learns_46 rfl ?_
    refine x_iadd B 49 dX2_learns_48 rfl ?_
    refine x_iast B 50 (by repeat (first | with_reducible exact xu_h | apply xu_t)) rfl ⟨by first | omega | decide, by first | decide | omega⟩ dX2_learns_49 rfl ?_
    exact x_vret B rfl ⟨rfl, by rw [if_neg (Int32.not_lt.mpr hc)]⟩ dX2_learns_50 ⟨by first | omega | decide, by first | omega | decide⟩
  · refine x_bipush B 36 (v := 9) dX2_learns_34 (by decide) rfl ?_
    refine x_goto B 49 dX2_learns_36 (by decide) ?_
    refine x_iast B 50 (by repeat (first | with_reducible exact xu_h | apply xu_t)) rfl ⟨by first | omega | decide, by first | decide | omega⟩ dX2_learns_49 rfl ?_
    exact x_vret B rfl ⟨rfl, by rw [if_pos (Int32.not_le.mp hc)]⟩ dX2_learns_50 ⟨by first | omega | decide, by first | omega | decide⟩
end T1
