/-! the twin, 6: what is asked, what is done -/
section T6
variable {D : xG} {h : Nat} {ad : Nat → Nat} {iv row : Nat → Int32} {base nb nm : Nat} {kd : Nat → Nat} {S N : HS} {sw sm : Nat → Int32} {U : List HS}
theorem hN0 {a b : Nat} (hb : b < 2147483648) (ha : a < 2147483648) : nI a = nI b ↔ a = b := nI_eq (by omega) (by omega)
theorem kd0 {k : Nat} (h : k ≤ 4) : k < 2147483648 := by omega
theorem m_X2_bird (hW : TW row iv nb nm kd N U) (b w : Int32) : XC D yX2_bird (ws_ yX2_bird cX2_bird 3 (Option.some Jvm.ClassFile.FieldType.int)) 2 80 (0) (0) [.ref h, .int b, .int w] [tR D h ad iv, tI D ad 0 1404 row] (fun r cs' => r = some (.int (sBird nb nm kd N b w)) ∧ cs' = [tR D h ad iv, tI D ad 0 1404 row]) x0 := by
  refine XC.of (by decide) (by simp [Value.category]) (Nat.le_of_ble_eq_true rfl) fun X B => ?_
  show WX D X [tR D h ad iv, tI D ad 0 1404 row] 0 0 0 [some (.ref h), some (.int b), some (.int w)] []
  have hT := hW.1
  have hO := hW.2.1.1
  have hnb := hO.1
  have hC : N.2.2.2.2.1 < 256 := Nat.lt_of_lt_of_le hO.2.2.2.2.2.2.2.2.1 (pow_nb hnb)
  refine x_aload0 B 1 dX2_bird_0 rfl (by first | rfl | exact xisR_rf _) ?_
  refine x_iload1 B 2 dX2_bird_1 rfl ?_
  refine x_callV B 5 (m_isBird b hT.1 hnb) [0, 1] rfl ⟨_, _, _, (by repeat (first | with_reducible exact xr_h | refine xr_t ?_)), rfl, rfl⟩ q1974 q1976 qs57 q92 q1977 hd_X2_isBird (by decide) ⟨by first | decide | omega, by first | decide | omega⟩ ⟨by first | decide | omega, by first | decide | omega⟩ rfl (Nat.le_of_ble_eq_true rfl) dX2_bird_2 rfl (fun _ _ _ h => h.elim) ?_
  rintro _ _ ⟨rfl, rfl⟩
  try simp only [xst, xput, xpre, List.set_cons_zero, List.set_cons_succ]
  rcases toR_c b 0 nb (by omega) with ⟨e, e'⟩ | ⟨j, -, hj, rfl, e, e'⟩
  · rw [e']
    refine x_if_ne_f (tp := 11) B 8 dX2_bird_5 (by decide) rfl rfl ?_
    refine x_bipush B 10 (v := (-2)) dX2_bird_8 (by decide) rfl ?_
    exact x_iret B rfl ⟨by simp only [sBird, e], rfl⟩ dX2_bird_10 ⟨by first | omega | decide, by first | omega | decide⟩
  · rw [e']
    refine x_if_ne_t B 11 dX2_bird_5 (by decide) (by decide) ?_
    by_cases w0 : w = 0
    · subst w0
      refine x_iload2 B 12 dX2_bird_11 rfl ?_
      refine x_tsw B 48 (36) dX2_bird_12 (by decide) (by decide) ?_
      refine x_aload0 B 49 dX2_bird_48 rfl (by first | rfl | exact xisR_rf _) ?_
      refine g_X2_7_X2 B 52 (by repeat (first | with_reducible exact xr_h | refine xr_t ?_)) dX2_bird_49 rfl ?_
      refine x_iconst B 53 (v := 4) dX2_bird_52 (by decide) rfl ?_
      refine x_iload1 B 54 dX2_bird_53 rfl ?_
      refine x_iadd B 55 dX2_bird_54 rfl ?_
      refine x_ialdv B 56 (by repeat (first | with_reducible exact xr_h | refine xr_t ?_)) (j := 4 + j) (by first | (simp only [xlit, nI_add, pk_mul]; done) | rfl | (simp only [xlit, nI_add, pk_mul]; congr 1; omega)) ⟨by first | omega | decide, by first | decide | omega⟩ ((congrArg row (by omega)).trans (hT.2.2.2.2.1 j hj)) dX2_bird_55 rfl ?_
      exact x_iret B rfl ⟨by simp only [sBird, e]; rfl, rfl⟩ dX2_bird_56 ⟨by first | omega | decide, by first | omega | decide⟩
    by_cases w1 : w = 1
    · subst w1
      refine x_iload2 B 12 dX2_bird_11 rfl ?_
      refine x_tsw B 57 (45) dX2_bird_12 (by decide) (by decide) ?_
      refine x_aload0 B 58 dX2_bird_57 rfl (by first | rfl | exact xisR_rf _) ?_
      refine g_X2_7_X2 B 61 (by repeat (first | with_reducible exact xr_h | refine xr_t ?_)) dX2_bird_58 rfl ?_
      refine x_bipush B 63 (v := 12) dX2_bird_61 (by decide) rfl ?_
      refine x_iload1 B 64 dX2_bird_63 rfl ?_
      refine x_iadd B 65 dX2_bird_64 rfl ?_
      refine x_ialdv B 66 (by repeat (first | with_reducible exact xr_h | refine xr_t ?_)) (j := 12 + j) (by first | (simp only [xlit, nI_add, pk_mul]; done) | rfl | (simp only [xlit, nI_add, pk_mul]; congr 1; omega)) ⟨by first | omega | decide, by first | decide | omega⟩ ((congrArg row (by omega)).trans (hT.2.2.2.2.2.1 j hj)) dX2_bird_65 rfl ?_
      exact x_iret B rfl ⟨by simp only [sBird, e]; rfl, rfl⟩ dX2_bird_66 ⟨by first | omega | decide, by first | omega | decide⟩
    by_cases w2 : w = 2
    · subst w2
      refine x_iload2 B 12 dX2_bird_11 rfl ?_
      refine x_tsw B 67 (55) dX2_bird_12 (by decide) (by decide) ?_
      refine x_aload0 B 68 dX2_bird_67 rfl (by first | rfl | exact xisR_rf _) ?_
      refine g_X2_7_X2 B 71 (by repeat (first | with_reducible exact xr_h | refine xr_t ?_)) dX2_bird_68 rfl ?_
      refine x_iconst B 72 (v := 3) dX2_bird_71 (by decide) rfl ?_
      refine x_ialdv B 73 (by repeat (first | with_reducible exact xr_h | refine xr_t ?_)) rfl ⟨by first | omega | decide, by first | decide | omega⟩ hT.2.2.2.1 dX2_bird_72 rfl ?_
      refine x_iload1 B 74 dX2_bird_73 rfl ?_
      refine x_ishr B 75 dX2_bird_74 rfl ?_
      rw [xshr (by omega) (by omega)]
      refine x_iconst B 76 (v := 1) dX2_bird_75 (by decide) rfl ?_
      refine x_iand B 77 dX2_bird_76 rfl ?_
      rw [xand1 (by have : N.2.2.2.2.1 / 2 ^ j ≤ N.2.2.2.2.1 := Nat.div_le_self _ _; omega)]
      exact x_iret B rfl ⟨by simp only [sBird, e]; rfl, rfl⟩ dX2_bird_77 ⟨by first | omega | decide, by first | omega | decide⟩
    by_cases w3 : w = 3
    · subst w3
      refine x_iload2 B 12 dX2_bird_11 rfl ?_
      refine x_tsw B 78 (66) dX2_bird_12 (by decide) (by decide) ?_
      refine x_aload0 B 79 dX2_bird_78 rfl (by first | rfl | exact xisR_rf _) ?_
      refine x_iconst B 80 (v := 0) dX2_bird_79 (by decide) rfl ?_
      refine x_iload1 B 81 dX2_bird_80 rfl ?_
      refine x_callV B 84 (m_X2_manOf hT hO (by omega) j hj) [0, 1] rfl ⟨_, _, _, (by repeat (first | with_reducible exact xr_h | refine xr_t ?_)), rfl, rfl⟩ q1978 q1980 qs58 q92 q1981 hd_X2_manOf (by decide) ⟨by first | decide | omega, by first | decide | omega⟩ ⟨by first | decide | omega, by first | decide | omega⟩ rfl (Nat.le_of_ble_eq_true rfl) dX2_bird_81 rfl (fun _ _ _ h => h.elim) ?_
      rintro _ _ ⟨rfl, rfl⟩
      try simp only [xst, xput, xpre, List.set_cons_zero, List.set_cons_succ]
      exact x_iret B rfl ⟨by simp only [sBird, e]; rfl, rfl⟩ dX2_bird_84 ⟨by first | omega | decide, by first | omega | decide⟩
    by_cases w4 : w = 4
    · subst w4
      refine x_iload2 B 12 dX2_bird_11 rfl ?_
      refine x_tsw B 85 (73) dX2_bird_12 (by decide) (by decide) ?_
      refine x_aload0 B 86 dX2_bird_85 rfl (by first | rfl | exact xisR_rf _) ?_
      refine x_iconst B 87 (v := 0) dX2_bird_86 (by decide) rfl ?_
      refine x_iload1 B 88 dX2_bird_87 rfl ?_
      refine x_callV B 91 (m_X2_wellKnown hT hO (by omega) j hj) [0, 1] rfl ⟨_, _, _, (by repeat (first | with_reducible exact xr_h | refine xr_t ?_)), rfl, rfl⟩ q1982 q1984 qs59 q92 q1985 hd_X2_wellKnown (by decide) ⟨by first | decide | omega, by first | decide | omega⟩ ⟨by first | decide | omega, by first | decide | omega⟩ rfl (Nat.le_of_ble_eq_true rfl) dX2_bird_88 rfl (fun _ _ _ h => h.elim) ?_
      rintro _ _ ⟨rfl, rfl⟩
      try simp only [xst, xput, xpre, List.set_cons_zero, List.set_cons_succ]
      exact x_iret B rfl ⟨by simp only [sBird, e]; rfl, rfl⟩ dX2_bird_91 ⟨by first | omega | decide, by first | omega | decide⟩
    refine x_iload2 B 12 dX2_bird_11 rfl ?_
    refine x_tsw B 92 (80) dX2_bird_12 (by rw [if_pos (show w.toInt < 0 ∨ w.toInt > 4 from sw_out (n := 4) (by omega) (fun j hj => by (obtain rfl | rfl | rfl | rfl | rfl : j = 0 ∨ j = 1 ∨ j = 2 ∨ j = 3 ∨ j = 4 := by omega) <;> first | exact w0 | exact w1 | exact w2 | exact w3 | exact w4))]) (by decide) ?_
    refine x_bipush B 94 (v := (-3)) dX2_bird_92 (by decide) rfl ?_
    exact x_iret B rfl ⟨by simp only [sBird, e, w0, w1, w2, w3, w4, if_false], rfl⟩ dX2_bird_94 ⟨by first | omega | decide, by first | omega | decide⟩
theorem m_X2_man (hW : TW row iv nb nm kd N U) (m w : Int32) : XC D yX2_man (ws_ yX2_man cX2_man 3 (Option.some Jvm.ClassFile.FieldType.int)) 2 80 (0) (0) [.ref h, .int m, .int w] [tR D h ad iv, tI D ad 0 1404 row] (fun r cs' => r = some (.int (sMan nm N m w)) ∧ cs' = [tR D h ad iv, tI D ad 0 1404 row]) x0 := by
  refine XC.of (by decide) (by simp [Value.category]) (Nat.le_of_ble_eq_true rfl) fun X B => ?_
  show WX D X [tR D h ad iv, tI D ad 0 1404 row] 0 0 0 [some (.ref h), some (.int m), some (.int w)] []
  have hT := hW.1
  have hO := hW.2.1.1
  have hnm := hO.2.1
  refine x_aload0 B 1 dX2_man_0 rfl (by first | rfl | exact xisR_rf _) ?_
  refine x_iload1 B 2 dX2_man_1 rfl ?_
  refine x_callV B 5 (m_isMan m hT.2.1 (by omega)) [0, 1] rfl ⟨_, _, _, (by repeat (first | with_reducible exact xr_h | refine xr_t ?_)), rfl, rfl⟩ q1990 q1992 qs60 q92 q1993 hd_X2_isMan (by decide) ⟨by first | decide | omega, by first | decide | omega⟩ ⟨by first | decide | omega, by first | decide | omega⟩ rfl (Nat.le_of_ble_eq_true rfl) dX2_man_2 rfl (fun _ _ _ h => h.elim) ?_
  rintro _ _ ⟨rfl, rfl⟩
  try simp only [xst, xput, xpre, List.set_cons_zero, List.set_cons_succ]
  rcases toR_c m 0 nm (by omega) with ⟨e, e'⟩ | ⟨j, -, hj, rfl, e, e'⟩
  · rw [e']
    refine x_if_ne_f (tp := 11) B 8 dX2_man_5 (by decide) rfl rfl ?_
    refine x_bipush B 10 (v := (-2)) dX2_man_8 (by decide) rfl ?_
    exact x_iret B rfl ⟨by simp only [sMan, e], rfl⟩ dX2_man_10 ⟨by first | omega | decide, by first | omega | decide⟩
  · rw [e']
    refine x_if_ne_t B 11 dX2_man_5 (by decide) (by decide) ?_
    refine x_iload2 B 12 dX2_man_11 rfl ?_
    refine x_if_ne B 27 15 dX2_man_12 (by decide) rfl (fun w0 => ?_) (fun w0 => ?_)
    · refine x_iload2 B 28 dX2_man_27 rfl ?_
      refine x_iconst B 29 (v := 1) dX2_man_28 (by decide) rfl ?_
      refine x_icmp_ne B 44 32 dX2_man_29 (by decide) rfl (fun w1 => ?_) (fun w1 => ?_)
      · refine x_bipush B 46 (v := (-3)) dX2_man_44 (by decide) rfl ?_
        exact x_iret B rfl ⟨by simp only [sMan, e, w0, w1, if_false], rfl⟩ dX2_man_46 ⟨by first | omega | decide, by first | omega | decide⟩
      · refine x_aload0 B 33 dX2_man_32 rfl (by first | rfl | exact xisR_rf _) ?_
        refine g_X2_7_X2 B 36 (by repeat (first | with_reducible exact xr_h | refine xr_t ?_)) dX2_man_33 rfl ?_
        refine x_bipush B 38 (v := 104) dX2_man_36 (by decide) rfl ?_
        refine x_iload1 B 39 dX2_man_38 rfl ?_
        refine x_iadd B 40 dX2_man_39 rfl ?_
        refine x_ialdv B 41 (by repeat (first | with_reducible exact xr_h | refine xr_t ?_)) (j := 104 + j) (by first | (simp only [xlit, nI_add, pk_mul]; done) | rfl | (simp only [xlit, nI_add, pk_mul]; congr 1; omega)) ⟨by first | omega | decide, by first | decide | omega⟩ ((congrArg row (by omega)).trans (hT.2.2.2.2.2.2.2.2 j hj)) dX2_man_40 rfl ?_
        refine x_goto B 46 dX2_man_41 (by decide) ?_
        exact x_iret B rfl ⟨by simp only [sMan, e, w0, w1, if_true]; rfl, rfl⟩ dX2_man_46 ⟨by first | omega | decide, by first | omega | decide⟩
    · refine x_aload0 B 16 dX2_man_15 rfl (by first | rfl | exact xisR_rf _) ?_
      refine g_X2_7_X2 B 19 (by repeat (first | with_reducible exact xr_h | refine xr_t ?_)) dX2_man_16 rfl ?_
      refine x_bipush B 21 (v := 100) dX2_man_19 (by decide) rfl ?_
      refine x_iload1 B 22 dX2_man_21 rfl ?_
      refine x_iadd B 23 dX2_man_22 rfl ?_
      refine x_ialdv B 24 (by repeat (first | with_reducible exact xr_h | refine xr_t ?_)) (j := 100 + j) (by first | (simp only [xlit, nI_add, pk_mul]; done) | rfl | (simp only [xlit, nI_add, pk_mul]; congr 1; omega)) ⟨by first | omega | decide, by first | decide | omega⟩ ((congrArg row (by omega)).trans (hT.2.2.2.2.2.2.2.1 j hj)) dX2_man_23 rfl ?_
      refine x_goto B 46 dX2_man_24 (by decide) ?_
      exact x_iret B rfl ⟨by simp only [sMan, e, w0, if_true], rfl⟩ dX2_man_46 ⟨by first | omega | decide, by first | omega | decide⟩
theorem m_X2_as (hW : TW row iv nb nm kd N U) (b w : Int32) : XC D yX2_as (ws_ yX2_as cX2_as 5 (Option.some Jvm.ClassFile.FieldType.int)) 2 80 (0) (0) [.ref h, .int b, .int w] [tR D h ad iv, tI D ad 0 1404 row] (fun r cs' => r = some (.int (sAs nb kd b w)) ∧ cs' = [tR D h ad iv, tI D ad 0 1404 row]) x0 := by
  refine XC.of (by decide) (by simp [Value.category]) (Nat.le_of_ble_eq_true rfl) fun X B => ?_
  show WX D X [tR D h ad iv, tI D ad 0 1404 row] 0 0 0 [some (.ref h), some (.int b), some (.int w), none, none] []
  have hT := hW.1
  have hO := hW.2.1.1
  have hnb := hO.1
  refine x_aload0 B 1 dX2_as_0 rfl (by first | rfl | exact xisR_rf _) ?_
  refine x_iload1 B 2 dX2_as_1 rfl ?_
  refine x_callV B 5 (m_isBird b hT.1 hnb) [0, 1] rfl ⟨_, _, _, (by repeat (first | with_reducible exact xr_h | refine xr_t ?_)), rfl, rfl⟩ q1974 q1976 qs57 q92 q1977 hd_X2_isBird (by decide) ⟨by first | decide | omega, by first | decide | omega⟩ ⟨by first | decide | omega, by first | decide | omega⟩ rfl (Nat.le_of_ble_eq_true rfl) dX2_as_2 rfl (fun _ _ _ h => h.elim) ?_
  rintro _ _ ⟨rfl, rfl⟩
  try simp only [xst, xput, xpre, List.set_cons_zero, List.set_cons_succ]
  rcases toR_c b 0 nb (by omega) with ⟨e, e'⟩ | ⟨j, -, hj, rfl, e, e'⟩
  · rw [e']
    refine x_if_ne_f (tp := 11) B 8 dX2_as_5 (by decide) rfl rfl ?_
    refine x_bipush B 10 (v := (-2)) dX2_as_8 (by decide) rfl ?_
    exact x_iret B rfl ⟨by simp only [sAs, e], rfl⟩ dX2_as_10 ⟨by first | omega | decide, by first | omega | decide⟩
  rw [e']
  refine x_if_ne_t B 11 dX2_as_5 (by decide) (by decide) ?_
  refine x_iload2 B 12 dX2_as_11 rfl ?_
  refine x_i2l B 13 dX2_as_12 rfl ?_
  refine x_lconst B 14 (v := 0) dX2_as_13 (by decide) rfl ?_
  refine x_ldc2 B 17 dX2_as_14 q1998 rfl ?_
  refine x_callS B 20 (m_X2_in _ _ _) [] rfl q1869 q1870 q92 q1871 hd_X2_in rfl ⟨by first | decide | omega, by first | decide | omega⟩ ⟨by first | decide | omega, by first | decide | omega⟩ rfl (Nat.le_of_ble_eq_true rfl) dX2_as_17 rfl (fun _ _ _ h => h.elim) ?_
  rintro _ _ ⟨rfl, rfl⟩
  try simp only [xst, xput, xpre, List.set_cons_zero, List.set_cons_succ]
  rw [show x_in w.toInt64 0 5 = bI (toR w 0 6).isSome from xinR w 0 5 rfl rfl (by decide) (by decide)]
  rcases toR_c w 0 6 (by omega) with ⟨e2, e2'⟩ | ⟨q, -, hq, rfl, e2, e2'⟩
  · rw [e2']
    refine x_if_ne_f (tp := 26) B 23 dX2_as_20 (by decide) rfl rfl ?_
    refine x_bipush B 25 (v := (-3)) dX2_as_23 (by decide) rfl ?_
    exact x_iret B rfl ⟨by simp only [sAs, e, e2], rfl⟩ dX2_as_25 ⟨by first | omega | decide, by first | omega | decide⟩
  rw [e2']
  refine x_if_ne_t B 26 dX2_as_20 (by decide) (by decide) ?_
  have hk := hO.2.2.1 j hj
  refine x_aload0 B 27 dX2_as_26 rfl (by first | rfl | exact xisR_rf _) ?_
  refine g_X2_7_X2 B 30 (by repeat (first | with_reducible exact xr_h | refine xr_t ?_)) dX2_as_27 rfl ?_
  refine x_iconst B 31 (v := 4) dX2_as_30 (by decide) rfl ?_
  refine x_iload1 B 32 dX2_as_31 rfl ?_
  refine x_iadd B 33 dX2_as_32 rfl ?_
  refine x_ialdv B 34 (by repeat (first | with_reducible exact xr_h | refine xr_t ?_)) (j := 4 + j) (by first | (simp only [xlit, nI_add, pk_mul]; done) | rfl | (simp only [xlit, nI_add, pk_mul]; congr 1; omega)) ⟨by first | omega | decide, by first | decide | omega⟩ ((congrArg row (by omega)).trans (hT.2.2.2.2.1 j hj)) dX2_as_33 rfl ?_
  have yes : (q = 0 ∨ q = kd j + 1 ∨ (q = 1 ∧ kd j < 3) ∨ (q = 4 ∧ kd j = 4)) → WX D X [tR D h ad iv, tI D ad 0 1404 row] 0 0 66 [some (.ref h), some (.int (nI j)), some (.int (nI q)), some (.int (nI (kd j))), none] [] := by
    intro c
    refine x_iconst B 67 (v := 1) dX2_as_66 (by decide) rfl ?_
    refine x_goto B 71 dX2_as_67 (by decide) ?_
    refine x_istore4 B 73 dX2_as_71 rfl ?_
    refine x_iload4 B 75 dX2_as_73 rfl ?_
    refine x_if_eq_f (tp := 85) B 78 dX2_as_75 (by decide) rfl (by decide) ?_
    refine x_iload3 B 79 dX2_as_78 rfl ?_
    refine x_callS B 82 (m_X2_gets _) [] rfl q1999 q2000 q92 q2001 hd_X2_gets rfl ⟨by first | decide | omega, by first | decide | omega⟩ ⟨by first | decide | omega, by first | decide | omega⟩ rfl (Nat.le_of_ble_eq_true rfl) dX2_as_79 rfl (fun _ _ _ h => h.elim) ?_
    rintro _ _ ⟨rfl, rfl⟩
    try simp only [xst, xput, xpre, List.set_cons_zero, List.set_cons_succ]
    rw [t_gets_h _ (by omega)]
    refine x_goto B 87 dX2_as_82 (by decide) ?_
    exact x_iret B rfl ⟨by simp only [sAs, e, e2]; rw [if_pos c], rfl⟩ dX2_as_87 ⟨by first | omega | decide, by first | omega | decide⟩
  have no : ¬ (q = 0 ∨ q = kd j + 1 ∨ (q = 1 ∧ kd j < 3) ∨ (q = 4 ∧ kd j = 4)) → WX D X [tR D h ad iv, tI D ad 0 1404 row] 0 0 70 [some (.ref h), some (.int (nI j)), some (.int (nI q)), some (.int (nI (kd j))), none] [] := by
    intro c
    refine x_iconst B 71 (v := 0) dX2_as_70 (by decide) rfl ?_
    refine x_istore4 B 73 dX2_as_71 rfl ?_
    refine x_iload4 B 75 dX2_as_73 rfl ?_
    refine x_if_eq_t B 85 dX2_as_75 (by decide) rfl ?_
    refine x_bipush B 87 (v := (-4)) dX2_as_85 (by decide) rfl ?_
    exact x_iret B rfl ⟨by simp only [sAs, e, e2]; rw [if_neg c], rfl⟩ dX2_as_87 ⟨by first | omega | decide, by first | omega | decide⟩
  by_cases c0 : q = 0
  · refine x_istore3 B 35 dX2_as_34 rfl ?_
    refine x_iload2 B 36 dX2_as_35 rfl ?_
    refine x_if_eq_t B 66 dX2_as_36 (by decide) (by rw [c0]; rfl) ?_
    exact yes (Or.inl c0)
  refine x_istore3 B 35 dX2_as_34 rfl ?_
  refine x_iload2 B 36 dX2_as_35 rfl ?_
  refine x_if_eq_f (tp := 66) B 39 dX2_as_36 (by decide) rfl (nI_ne0 (by omega) (by omega)) ?_
  refine x_iload2 B 40 dX2_as_39 rfl ?_
  refine x_iload3 B 41 dX2_as_40 rfl ?_
  refine x_iconst B 42 (v := 1) dX2_as_41 (by decide) rfl ?_
  refine x_iadd B 43 dX2_as_42 rfl ?_
  rw [show nI (kd j) + 1 = nI (kd j + 1) from nI_1 _]
  by_cases c1 : q = kd j + 1
  · refine x_icmp_eq_t B 66 dX2_as_43 (by decide) (by rw [c1]) ?_
    exact yes (Or.inr (Or.inl c1))
  refine x_icmp_eq_f (tp := 66) B 46 dX2_as_43 (by decide) rfl (fun z => c1 ((hN0 (by omega) (by omega)).mp z)) ?_
  have four : ¬ (q = 1 ∧ kd j < 3) → WX D X [tR D h ad iv, tI D ad 0 1404 row] 0 0 56 [some (.ref h), some (.int (nI j)), some (.int (nI q)), some (.int (nI (kd j))), none] [] := by
    intro c2
    by_cases c3 : q = 4
    · refine x_iload2 B 57 dX2_as_56 rfl ?_
      refine x_iconst B 58 (v := 4) dX2_as_57 (by decide) rfl ?_
      refine x_icmp_ne_f (tp := 70) B 61 dX2_as_58 (by decide) rfl (by rw [c3]; rfl) ?_
      by_cases c4 : kd j = 4
      · refine x_iload3 B 62 dX2_as_61 rfl ?_
        refine x_iconst B 63 (v := 4) dX2_as_62 (by decide) rfl ?_
        refine x_icmp_ne_f (tp := 70) B 66 dX2_as_63 (by decide) rfl (by rw [c4]; rfl) ?_
        exact yes (Or.inr (Or.inr (Or.inr ⟨c3, c4⟩)))
      · refine x_iload3 B 62 dX2_as_61 rfl ?_
        refine x_iconst B 63 (v := 4) dX2_as_62 (by decide) rfl ?_
        refine x_icmp_ne_t B 70 dX2_as_63 (by decide) (by (try simp only [xlit]); first | (rw [nI_leI (by omega) (by omega)]; omega) | (rw [nI_ltI (by omega) (by omega)]; omega) | (rw [nI_eq (by omega) (by omega)]; omega)) ?_
        exact no (by omega)
    · refine x_iload2 B 57 dX2_as_56 rfl ?_
      refine x_iconst B 58 (v := 4) dX2_as_57 (by decide) rfl ?_
      refine x_icmp_ne_t B 70 dX2_as_58 (by decide) (by (try simp only [xlit]); first | (rw [nI_leI (by omega) (by omega)]; omega) | (rw [nI_ltI (by omega) (by omega)]; omega) | (rw [nI_eq (by omega) (by omega)]; omega)) ?_
      exact no (by omega)
  by_cases c2 : q = 1
  · refine x_iload2 B 47 dX2_as_46 rfl ?_
    refine x_iconst B 48 (v := 1) dX2_as_47 (by decide) rfl ?_
    refine x_icmp_ne_f (tp := 56) B 51 dX2_as_48 (by decide) rfl (by rw [c2]; rfl) ?_
    by_cases c5 : kd j < 3
    · refine x_iload3 B 52 dX2_as_51 rfl ?_
      refine x_iconst B 53 (v := 3) dX2_as_52 (by decide) rfl ?_
      refine x_icmp_lt_t B 66 dX2_as_53 (by decide) (by (try simp only [xlit]); first | (rw [nI_leI (by omega) (by omega)]; omega) | (rw [nI_ltI (by omega) (by omega)]; omega) | (rw [nI_eq (by omega) (by omega)]; omega)) ?_
      exact yes (Or.inr (Or.inr (Or.inl ⟨c2, c5⟩)))
    · refine x_iload3 B 52 dX2_as_51 rfl ?_
      refine x_iconst B 53 (v := 3) dX2_as_52 (by decide) rfl ?_
      refine x_icmp_lt_f (tp := 66) B 56 dX2_as_53 (by decide) rfl (by (try simp only [xlit]); first | (rw [nI_leI (by omega) (by omega)]; omega) | (rw [nI_ltI (by omega) (by omega)]; omega) | (rw [nI_eq (by omega) (by omega)]; omega)) ?_
      exact four (by omega)
  · refine x_iload2 B 47 dX2_as_46 rfl ?_
    refine x_iconst B 48 (v := 1) dX2_as_47 (by decide) rfl ?_
    refine x_icmp_ne_t B 56 dX2_as_48 (by decide) (by (try simp only [xlit]); first | (rw [nI_leI (by omega) (by omega)]; omega) | (rw [nI_ltI (by omega) (by omega)]; omega) | (rw [nI_eq (by omega) (by omega)]; omega)) ?_
    exact four (by omega)
theorem m_X2_known (hW : TW row iv nb nm kd N U) (b w n : Int32) : XC D yX2_known (ws_ yX2_known cX2_known 4 (Option.some Jvm.ClassFile.FieldType.int)) 6 240 (0) (0) [.ref h, .int b, .int w, .int n] [tR D h ad iv, tI D ad 0 1404 row, tI D ad 36 64 sw, tI D ad 37 4 sm] (fun r cs' => r = some (.int (sKnown nb nm kd N b w n)) ∧ ∃ row' sw' sm', TS 1296 1404 row row' ∧ cs' = [tR D h ad iv, tI D ad 0 1404 row', tI D ad 36 64 sw', tI D ad 37 4 sm']) x0 := by
  refine XC.of (by decide) (by simp [Value.category]) (Nat.le_of_ble_eq_true rfl) fun X B => ?_
  show WX D X [tR D h ad iv, tI D ad 0 1404 row, tI D ad 36 64 sw, tI D ad 37 4 sm] 0 0 0 [some (.ref h), some (.int b), some (.int w), some (.int n)] []
  have hT := hW.1
  have hO := hW.2.1.1
  have hE := hW.2.1.2
  have hnb := hO.1
  refine x_aload0 B 1 dX2_known_0 rfl (by first | rfl | exact xisR_rf _) ?_
  refine x_iload1 B 2 dX2_known_1 rfl ?_
  refine x_callV B 5 (m_isBird b hT.1 hnb) [0, 1] rfl ⟨_, _, _, (by repeat (first | with_reducible exact xr_h | refine xr_t ?_)), rfl, rfl⟩ q1974 q1976 qs57 q92 q1977 hd_X2_isBird (by decide) ⟨by first | decide | omega, by first | decide | omega⟩ ⟨by first | decide | omega, by first | decide | omega⟩ rfl (Nat.le_of_ble_eq_true rfl) dX2_known_2 rfl (fun _ _ _ h => h.elim) ?_
  rintro _ _ ⟨rfl, rfl⟩
  try simp only [xst, xput, xpre, List.set_cons_zero, List.set_cons_succ]
  rcases toR_c b 0 nb (by omega) with ⟨e, e'⟩ | ⟨j, -, hj, rfl, e, e'⟩
  · rw [e']
    refine x_if_eq_t B 15 dX2_known_5 (by decide) rfl ?_
    refine x_bipush B 17 (v := (-2)) dX2_known_15 (by decide) rfl ?_
    exact x_iret B rfl ⟨by simp only [sKnown, e], row, sw, sm, TS.rf, rfl⟩ dX2_known_17 ⟨by first | omega | decide, by first | omega | decide⟩
  rw [e']
  refine x_if_eq_f (tp := 15) B 8 dX2_known_5 (by decide) rfl (by decide) ?_
  refine x_iload2 B 9 dX2_known_8 rfl ?_
  refine x_callS B 12 (m_isWordNumber w) [] rfl q2006 q2007 q92 q2008 hd_X2_isWordNumber rfl ⟨by first | decide | omega, by first | decide | omega⟩ ⟨by first | decide | omega, by first | decide | omega⟩ rfl (Nat.le_of_ble_eq_true rfl) dX2_known_9 rfl (fun _ _ _ h => h.elim) ?_
  rintro _ _ ⟨rfl, rfl⟩
  try simp only [xst, xput, xpre, List.set_cons_zero, List.set_cons_succ]
  rcases toR_c w 0 10 (by omega) with ⟨e2, e2'⟩ | ⟨q, -, hq, rfl, e2, e2'⟩
  · rw [e2']
    refine x_if_ne_f (tp := 18) B 15 dX2_known_12 (by decide) rfl rfl ?_
    refine x_bipush B 17 (v := (-2)) dX2_known_15 (by decide) rfl ?_
    exact x_iret B rfl ⟨by simp only [sKnown, e, e2], row, sw, sm, TS.rf, rfl⟩ dX2_known_17 ⟨by first | omega | decide, by first | omega | decide⟩
  rw [e2']
  refine x_if_ne_t B 18 dX2_known_12 (by decide) (by decide) ?_
  refine x_iload3 B 19 dX2_known_18 rfl ?_
  refine x_i2l B 20 dX2_known_19 rfl ?_
  refine x_lconst B 21 (v := 0) dX2_known_20 (by decide) rfl ?_
  refine x_ldc2 B 24 dX2_known_21 q2010 rfl ?_
  refine x_callS B 27 (m_X2_in _ _ _) [] rfl q1869 q1870 q92 q1871 hd_X2_in rfl ⟨by first | decide | omega, by first | decide | omega⟩ ⟨by first | decide | omega, by first | decide | omega⟩ rfl (Nat.le_of_ble_eq_true rfl) dX2_known_24 rfl (fun _ _ _ h => h.elim) ?_
  rintro _ _ ⟨rfl, rfl⟩
  try simp only [xst, xput, xpre, List.set_cons_zero, List.set_cons_succ]
  rw [show x_in n.toInt64 0 60 = bI (toR n 0 61).isSome from xinR n 0 60 rfl rfl (by decide) (by decide)]
  rcases toR_c n 0 61 (by omega) with ⟨e3, e3'⟩ | ⟨n, -, hn, rfl, e3, e3'⟩
  · rw [e3']
    refine x_if_ne_f (tp := 33) B 30 dX2_known_27 (by decide) rfl rfl ?_
    refine x_bipush B 32 (v := (-3)) dX2_known_30 (by decide) rfl ?_
    exact x_iret B rfl ⟨by simp only [sKnown, e, e2, e3], row, sw, sm, TS.rf, rfl⟩ dX2_known_32 ⟨by first | omega | decide, by first | omega | decide⟩
  rw [e3']
  refine x_if_ne_t B 33 dX2_known_27 (by decide) (by decide) ?_
  refine x_aload0 B 34 dX2_known_33 rfl (by first | rfl | exact xisR_rf _) ?_
  refine x_callV B 37 (m_X2_layTried hT hO) [0, 1] rfl ⟨_, _, _, (by repeat (first | with_reducible exact xr_h | refine xr_t ?_)), rfl, rfl⟩ q2011 q2013 qs61 q92 q2014 hd_X2_layTried (by decide) ⟨by first | decide | omega, by first | decide | omega⟩ ⟨by first | decide | omega, by first | decide | omega⟩ rfl (Nat.le_of_ble_eq_true rfl) dX2_known_34 rfl (fun _ _ _ h => h.elim) ?_
  rintro _ _ ⟨rfl, row1, t1, s1, rfl⟩
  try simp only [xst, xput, xpre, List.set_cons_zero, List.set_cons_succ]
  refine x_aload0 B 38 dX2_known_37 rfl (by first | rfl | exact xisR_rf _) ?_
  refine x_iload3 B 39 dX2_known_38 rfl ?_
  refine x_callV B 42 (m_X2_passTried t1 hO n (by omega) (by omega) (fun _ _ _ => True) trivial (fun _ _ _ _ _ => trivial)) [0, 1, 2, 3] rfl ⟨_, _, _, (by repeat (first | with_reducible exact xr_h | refine xr_t ?_)), rfl, rfl⟩ q2015 q2017 qs62 q92 q2018 hd_X2_passTried (by decide) ⟨by first | decide | omega, by first | decide | omega⟩ ⟨by first | decide | omega, by first | decide | omega⟩ rfl (Nat.le_of_ble_eq_true rfl) dX2_known_39 rfl (fun _ _ _ h => h.elim) ?_
  rintro _ _ ⟨rfl, row2, sw2, sm2, t2, s2, -, rfl⟩
  try simp only [xst, xput, xpre, List.set_cons_zero, List.set_cons_succ]
  have e4 : (1316 : Int32) + 10 * nI j + nI q = nI (1296 + 20 + 10 * j + q) := by simp only [xlit, nI_add, pk_mul]
  refine x_aload0 B 43 dX2_known_42 rfl (by first | rfl | exact xisR_rf _) ?_
  refine g_X2_7_X2 B 46 (by repeat (first | with_reducible exact xr_h | refine xr_t ?_)) dX2_known_43 rfl ?_
  refine x_sipush B 49 (v := 1316) dX2_known_46 (by decide) rfl ?_
  refine x_bipush B 51 (v := 10) dX2_known_49 (by decide) rfl ?_
  refine x_iload1 B 52 dX2_known_51 rfl ?_
  refine x_imul B 53 dX2_known_52 rfl ?_
  refine x_iadd B 54 dX2_known_53 rfl ?_
  refine x_iload2 B 55 dX2_known_54 rfl ?_
  refine x_iadd B 56 dX2_known_55 rfl ?_
  rw [e4]
  refine x_ialdv B 57 (by repeat (first | with_reducible exact xr_h | refine xr_t ?_)) (j := 1296 + 20 + 10 * j + q) (by first | (simp only [xlit, nI_add, pk_mul]; done) | rfl | (simp only [xlit, nI_add, pk_mul]; congr 1; omega)) ⟨by first | omega | decide, by first | decide | omega⟩ (t2.2.2.2.2.2.2.1 j q hj hq) dX2_known_56 rfl ?_
  exact x_iret B rfl ⟨by simp only [sKnown, e, e2, e3], row2, sw2, sm2, s1.trans s2, rfl⟩ dX2_known_57 ⟨by first | omega | decide, by first | omega | decide⟩
theorem m_X2_keepPast (hW : TW row iv nb nm kd N U) : XC D yX2_keepPast (ws_ yX2_keepPast cX2_keepPast 2 (Option.none : Option Jvm.ClassFile.FieldType)) 1 40 (0) (0) [.ref h] [tR D h ad iv, tI D ad 0 1404 row] (fun r cs' => r = none ∧ ∃ row' iv', TW row' iv' nb nm kd N (hPush U N) ∧ TK row row' ∧ TI iv iv' ∧ cs' = [tR D h ad iv', tI D ad 0 1404 row']) x0 := by
  refine XC.of (by decide) (by simp [Value.category]) (Nat.le_of_ble_eq_true rfl) fun X B => ?_
  show WX D X [tR D h ad iv, tI D ad 0 1404 row] 0 0 0 [some (.ref h), none] []
  obtain ⟨hT, hG, hU⟩ := hW
  have hnb := hG.1.1
  have hnm := hG.1.2.1
  have fin : ∀ row1 iv1 U1 a1, U1.length < 8 → TU row1 iv1 nb nm kd U1 → TRep row1 0 nb nm kd N → TK row row1 → TI iv iv1 → hPush U N = U1 ++ [N] → WX D X [tR D h ad iv1, tI D ad 0 1404 row1] 0 0 54 [some (.ref h), a1] [] := by
    intro row1 iv1 U1 a1 hl hU1 hT1 hK1 hI1 he
    refine x_aload0 B 55 dX2_keepPast_54 rfl (by first | rfl | exact xisR_rf _) ?_
    refine x_iconst B 56 (v := 0) dX2_keepPast_55 (by decide) rfl ?_
    refine x_sipush B 59 (v := 216) dX2_keepPast_56 (by decide) rfl ?_
    refine x_bipush B 61 (v := 108) dX2_keepPast_59 (by decide) rfl ?_
    refine x_aload0 B 62 dX2_keepPast_61 rfl (by first | rfl | exact xisR_rf _) ?_
    refine g_X2_206_X2 B 65 (by repeat (first | with_reducible exact xr_h | refine xr_t ?_)) dX2_keepPast_62 rfl ?_
    rw [hU1.1]
    refine x_imul B 66 dX2_keepPast_65 rfl ?_
    refine x_iadd B 67 dX2_keepPast_66 rfl ?_
    rw [show (216 : Int32) + 108 * nI U1.length = nI (216 + 108 * U1.length) from by simp only [xlit, nI_add, pk_mul]]
    refine x_callV B 70 (m_X2_copyHarbour 0 (216 + 108 * U1.length) (by omega) (by omega) (by omega)) [0, 1] rfl ⟨_, _, _, (by repeat (first | with_reducible exact xr_h | refine xr_t ?_)), rfl, rfl⟩ q1949 q1951 qs54 q92 q1952 hd_X2_copyHarbour (by decide) ⟨by first | decide | omega, by first | decide | omega⟩ ⟨by first | decide | omega, by first | decide | omega⟩ rfl (Nat.le_of_ble_eq_true rfl) dX2_keepPast_67 rfl (fun _ _ _ h => h.elim) ?_
    rintro _ _ ⟨rfl, row2, c1, c2, rfl⟩
    try simp only [xst, xput, xpre, List.set_cons_zero, List.set_cons_succ]
    refine x_aload0 B 71 dX2_keepPast_70 rfl (by first | rfl | exact xisR_rf _) ?_
    refine x_dup B 72 dX2_keepPast_71 rfl rfl ?_
    refine g_X2_206_X2 B 75 (by repeat (first | with_reducible exact xr_h | refine xr_t ?_)) dX2_keepPast_72 rfl ?_
    rw [hU1.1]
    refine x_iconst B 76 (v := 1) dX2_keepPast_75 (by decide) rfl ?_
    refine x_iadd B 77 dX2_keepPast_76 rfl ?_
    rw [show nI U1.length + 1 = nI (U1.length + 1) from nI_1 _]
    refine s_X2_206_X2 B 80 (by repeat (first | with_reducible exact xu_h | apply xu_t)) dX2_keepPast_77 rfl ?_
    refine x_vret B rfl ⟨rfl, row2, upd iv1 1 (nI (U1.length + 1)), ⟨hT1.keep hnb hnm c2 (by omega), hG, ?_⟩, ?_, ?_, rfl⟩ dX2_keepPast_80 ⟨by first | omega | decide, by first | omega | decide⟩
    · rw [he]
      refine ⟨by rw [pk_us]; simp, by simp; omega, fun k S hk => ?_⟩
      rcases Nat.lt_or_ge k U1.length with q | q
      · rw [List.getElem?_append_left q] at hk
        exact ⟨(hU1.2.2 k S hk).1.keep hnb hnm c2 (by omega), (hU1.2.2 k S hk).2⟩
      · rw [List.getElem?_append_right q] at hk
        have hz : k - U1.length = 0 := by
          have := (List.getElem?_eq_some_iff.mp hk).1
          simp at this; omega
        rw [hz] at hk
        have : N = S := by simpa using hk
        subst this
        have hk2 : k = U1.length := by omega
        subst hk2
        exact ⟨hT1.copy hnb hnm (fun i hi => (c1 i hi)), hG⟩
    · exact fun i h1 h2 => (c2 i (by omega)).trans (hK1 i h1 h2)
    · exact fun i hi => by rw [pk_un hi]; exact hI1 i hi
  refine x_aload0 B 1 dX2_keepPast_0 rfl (by first | rfl | exact xisR_rf _) ?_
  refine g_X2_206_X2 B 4 (by repeat (first | with_reducible exact xr_h | refine xr_t ?_)) dX2_keepPast_1 rfl ?_
  rw [hU.1]
  by_cases c : U.length = 8
  · rw [c]
    refine x_bipush B 6 (v := 8) dX2_keepPast_4 (by decide) rfl ?_
    refine x_icmp_ne_f (tp := 54) B 9 dX2_keepPast_6 (by decide) rfl rfl ?_
    have loop : ∀ (m k : Nat), k + m = 756 → ∀ row', (∀ j, j < k → row' (216 + j) = row (324 + j)) → TS 216 (216 + k) row row' → WX D X [tR D h ad iv, tI D ad 0 1404 row'] 0 0 11 [some (.ref h), some (.int (nI k))] [] := by
      intro m
      induction m with
      | zero =>
        intro k hk row' h1 h2
        obtain rfl : k = 756 := by omega
        refine x_iload1 B 12 dX2_keepPast_11 rfl ?_
        refine x_sipush B 15 (v := 756) dX2_keepPast_12 (by decide) rfl ?_
        refine x_icmp_ge_t B 44 dX2_keepPast_15 (by decide) (by (try simp only [xlit]); first | (rw [nI_leI (by omega) (by omega)]; omega) | (rw [nI_ltI (by omega) (by omega)]; omega) | (rw [nI_eq (by omega) (by omega)]; omega)) ?_
        refine x_aload0 B 45 dX2_keepPast_44 rfl (by first | rfl | exact xisR_rf _) ?_
        refine x_dup B 46 dX2_keepPast_45 rfl rfl ?_
        refine g_X2_206_X2 B 49 (by repeat (first | with_reducible exact xr_h | refine xr_t ?_)) dX2_keepPast_46 rfl ?_
        rw [hU.1, c]
        refine x_iconst B 50 (v := 1) dX2_keepPast_49 (by decide) rfl ?_
        refine x_isub B 51 dX2_keepPast_50 rfl ?_
        refine s_X2_206_X2 B 54 (by repeat (first | with_reducible exact xu_h | apply xu_t)) dX2_keepPast_51 rfl ?_
        refine fin row' _ (U.drop 1) _ (by simp; omega) ⟨by rw [pk_us]; simp [c]; rfl, by simp; omega, fun k S hk => ?_⟩ (hT.keep hnb hnm h2 (by omega)) (fun i q1 q2 => h2 i (by omega)) (fun i hi => pk_un hi) (by unfold hPush; rw [if_pos c])
        rw [List.getElem?_drop] at hk
        have h3 := hU.2.2 (1 + k) S hk
        have := (List.getElem?_eq_some_iff.mp hk).1
        refine ⟨h3.1.copy hnb hnm (fun i hi => ?_), h3.2⟩
        rw [show 216 + 108 * k + i = 216 + (108 * k + i) by omega, h1 _ (by omega)]
        exact congrArg row (by omega)
      | succ m ih =>
        intro k hk row' h1 h2
        refine x_iload1 B 12 dX2_keepPast_11 rfl ?_
        refine x_sipush B 15 (v := 756) dX2_keepPast_12 (by decide) rfl ?_
        refine x_icmp_ge_f (tp := 44) B 18 dX2_keepPast_15 (by decide) rfl (by (try simp only [xlit]); first | (rw [nI_leI (by omega) (by omega)]; omega) | (rw [nI_ltI (by omega) (by omega)]; omega) | (rw [nI_eq (by omega) (by omega)]; omega)) ?_
        refine x_aload0 B 19 dX2_keepPast_18 rfl (by first | rfl | exact xisR_rf _) ?_
        refine g_X2_7_X2 B 22 (by repeat (first | with_reducible exact xr_h | refine xr_t ?_)) dX2_keepPast_19 rfl ?_
        refine x_sipush B 25 (v := 216) dX2_keepPast_22 (by decide) rfl ?_
        refine x_iload1 B 26 dX2_keepPast_25 rfl ?_
        refine x_iadd B 27 dX2_keepPast_26 rfl ?_
        refine x_aload0 B 28 dX2_keepPast_27 rfl (by first | rfl | exact xisR_rf _) ?_
        refine g_X2_7_X2 B 31 (by repeat (first | with_reducible exact xr_h | refine xr_t ?_)) dX2_keepPast_28 rfl ?_
        refine x_sipush B 34 (v := 324) dX2_keepPast_31 (by decide) rfl ?_
        refine x_iload1 B 35 dX2_keepPast_34 rfl ?_
        refine x_iadd B 36 dX2_keepPast_35 rfl ?_
        refine x_iald B 37 (by repeat (first | with_reducible exact xr_h | refine xr_t ?_)) (j := 324 + k) (by first | (simp only [xlit, nI_add, pk_mul]; done) | rfl | (simp only [xlit, nI_add, pk_mul]; congr 1; omega)) ⟨by first | omega | decide, by first | decide | omega⟩ dX2_keepPast_36 rfl ?_
        rw [h2 (324 + k) (by omega)]
        refine x_iast B 38 (by repeat (first | with_reducible exact xu_h | apply xu_t)) (j := 216 + k) (by first | (simp only [xlit, nI_add, pk_mul]; done) | rfl | (simp only [xlit, nI_add, pk_mul]; congr 1; omega)) ⟨by first | omega | decide, by first | decide | omega⟩ dX2_keepPast_37 rfl ?_
        refine x_iinc1 B 41 dX2_keepPast_38 rfl (by first | exact xinc _ | rfl) ?_
        refine x_goto B 11 dX2_keepPast_41 (by decide) ?_
        refine ih (k + 1) (by omega) _ (fun j hj => ?_) ((h2.wide (by omega) (by omega)).upd (by omega) (by omega))
        by_cases e : j = k
        · subst e; rw [pk_us]
        · rw [pk_un (by omega)]; exact h1 j (by omega)
    refine x_iconst B 10 (v := 0) dX2_keepPast_9 (by decide) rfl ?_
    refine x_istore1 B 11 dX2_keepPast_10 rfl ?_
    exact loop 756 0 rfl row (fun j hj => by omega) TS.rf
  · have hl := hU.2.1
    refine x_bipush B 6 (v := 8) dX2_keepPast_4 (by decide) rfl ?_
    refine x_icmp_ne_t B 54 dX2_keepPast_6 (by decide) (by (try simp only [xlit]); first | (rw [nI_leI (by omega) (by omega)]; omega) | (rw [nI_ltI (by omega) (by omega)]; omega) | (rw [nI_eq (by omega) (by omega)]; omega)) ?_
    exact fin row iv U _ (by omega) hU hT TK.rf TI.rf (by unfold hPush; rw [if_neg c])
end T6
