/-! the twin, 10: seen, kinds, counts, the text's end -/
section T10
variable {D : xG} {h : Nat} {ad : Nat → Nat} {iv row zk tx : Nat → Int32} {base nb nm : Nat} {kd : Nat → Nat} {S N : HS} {sw sm : Nat → Int32} {U : List HS} {Kp : HKp} {sp sl sq rz rs rp : Nat → Int32} {L : HSe} {R : HR} {T : List Nat}
theorem m_X2_seen (hS : TSe sp sl sq iv L) (p i w : Int32) (q : Int32 × HSe) (hq : sSeen L p i w = q) : XC D yX2_seen (ws_ yX2_seen cX2_seen 4 (Option.some Jvm.ClassFile.FieldType.int)) 2 80 (0) (0) [.ref h, .int p, .int i, .int w] [tR D h ad iv, tI D ad 6 6 sp, tI D ad 7 6 sl, tI D ad 8 6 sq] (fun r cs' => r = some (.int q.1) ∧ ∃ iv' sp' sl' sq', TSe sp' sl' sq' iv' q.2 ∧ (∀ j, j ≠ 5 → iv' j = iv j) ∧ cs' = [tR D h ad iv', tI D ad 6 6 sp', tI D ad 7 6 sl', tI D ad 8 6 sq']) x0 := by
  refine XC.of (by decide) (by simp [Value.category]) (Nat.le_of_ble_eq_true rfl) fun X B => ?_
  show WX D X [tR D h ad iv, tI D ad 6 6 sp, tI D ad 7 6 sl, tI D ad 8 6 sq] 0 0 0 [some (.ref h), some (.int p), some (.int i), some (.int w)] []
  have ok := hS
  obtain ⟨hl, ⟨hl6, hin⟩, hr⟩ := hS
  refine x_iload1 B 1 dX2_seen_0 rfl ?_
  refine x_i2l B 2 dX2_seen_1 rfl ?_
  refine x_lconst B 3 (v := 0) dX2_seen_2 (by decide) rfl ?_
  refine x_ldc2 B 6 dX2_seen_3 q2086 rfl ?_
  refine x_callS B 9 (m_X2_in _ _ _) [] rfl q1869 q1870 q92 q1871 hd_X2_in rfl ⟨by first | decide | omega, by first | decide | omega⟩ ⟨by first | decide | omega, by first | decide | omega⟩ rfl (Nat.le_of_ble_eq_true rfl) dX2_seen_6 rfl (fun _ _ _ h => h.elim) ?_
  rintro _ _ ⟨rfl, rfl⟩
  try simp only [xst, xput, xpre, List.set_cons_zero, List.set_cons_succ]
  rw [show x_in p.toInt64 0 3 = bI (toR p 0 4).isSome from xinR p 0 3 rfl rfl (by decide) (by decide)]
  rcases toR_c p 0 4 (by omega) with ⟨e, e'⟩ | ⟨p, -, hp, rfl, e, e'⟩
  · rw [e']
    refine x_if_eq_t B 24 dX2_seen_9 (by decide) rfl ?_
    simp only [sSeen, e] at hq; subst hq
    refine x_bipush B 26 (v := (-2)) dX2_seen_24 (by decide) rfl ?_
    exact x_iret B rfl ⟨rfl, iv, sp, sl, sq, ok, fun _ _ => rfl, rfl⟩ dX2_seen_26 ⟨by first | omega | decide, by first | omega | decide⟩
  rw [e']
  refine x_if_eq_f (tp := 24) B 12 dX2_seen_9 (by decide) rfl (by decide) ?_
  have go : ∀ y : Option Nat, toB w 10 = some y → w = oI y → (∀ j, y = some j → j < 10) → WX D X [tR D h ad iv, tI D ad 6 6 sp, tI D ad 7 6 sl, tI D ad 8 6 sq] 0 0 27 [some (.ref h), some (.int (nI p)), some (.int i), some (.int w)] [] := by
    intro y hy hwy hyb
    subst hwy
    refine x_iload2 B 28 dX2_seen_27 rfl ?_
    refine x_i2l B 29 dX2_seen_28 rfl ?_
    refine x_lconst B 30 (v := 0) dX2_seen_29 (by decide) rfl ?_
    refine x_ldc2 B 33 dX2_seen_30 q2009 rfl ?_
    refine x_callS B 36 (m_X2_in _ _ _) [] rfl q1869 q1870 q92 q1871 hd_X2_in rfl ⟨by first | decide | omega, by first | decide | omega⟩ ⟨by first | decide | omega, by first | decide | omega⟩ rfl (Nat.le_of_ble_eq_true rfl) dX2_seen_33 rfl (fun _ _ _ h => h.elim) ?_
    rintro _ _ ⟨rfl, rfl⟩
    try simp only [xst, xput, xpre, List.set_cons_zero, List.set_cons_succ]
    rw [show x_in i.toInt64 0 9 = bI (toR i 0 10).isSome from xinR i 0 9 rfl rfl (by decide) (by decide)]
    rcases toR_c i 0 10 (by omega) with ⟨e2, e2'⟩ | ⟨i, -, hi, rfl, e2, e2'⟩
    · rw [e2']
      refine x_if_ne_f (tp := 42) B 39 dX2_seen_36 (by decide) rfl rfl ?_
      simp only [sSeen, e, hy, e2] at hq; subst hq
      refine x_bipush B 41 (v := (-3)) dX2_seen_39 (by decide) rfl ?_
      exact x_iret B rfl ⟨rfl, iv, sp, sl, sq, ok, fun _ _ => rfl, rfl⟩ dX2_seen_41 ⟨by first | omega | decide, by first | omega | decide⟩
    rw [e2']
    refine x_if_ne_t B 42 dX2_seen_36 (by decide) (by decide) ?_
    refine x_aload0 B 43 dX2_seen_42 rfl (by first | rfl | exact xisR_rf _) ?_
    refine g_X2_209_X2 B 46 (by repeat (first | with_reducible exact xr_h | refine xr_t ?_)) dX2_seen_43 rfl ?_
    rw [hl]
    by_cases c : L.length = 6
    · refine x_bipush B 48 (v := 6) dX2_seen_46 (by decide) rfl ?_
      refine x_icmp_ne_f (tp := 54) B 51 dX2_seen_48 (by decide) rfl (by (try simp only [xlit]); first | (rw [nI_leI (by omega) (by omega)]; omega) | (rw [nI_ltI (by omega) (by omega)]; omega) | (rw [nI_eq (by omega) (by omega)]; omega)) ?_
      simp only [sSeen, e, hy, e2] at hq; rw [if_pos c] at hq; subst hq
      refine x_bipush B 53 (v := (-5)) dX2_seen_51 (by decide) rfl ?_
      exact x_iret B rfl ⟨rfl, iv, sp, sl, sq, ok, fun _ _ => rfl, rfl⟩ dX2_seen_53 ⟨by first | omega | decide, by first | omega | decide⟩
    refine x_bipush B 48 (v := 6) dX2_seen_46 (by decide) rfl ?_
    refine x_icmp_ne_t B 54 dX2_seen_48 (by decide) (by (try simp only [xlit]); first | (rw [nI_leI (by omega) (by omega)]; omega) | (rw [nI_ltI (by omega) (by omega)]; omega) | (rw [nI_eq (by omega) (by omega)]; omega)) ?_
    simp only [sSeen, e, hy, e2] at hq; rw [if_neg c] at hq; subst hq
    refine x_aload0 B 55 dX2_seen_54 rfl (by first | rfl | exact xisR_rf _) ?_
    refine g_X2_20_X2 B 58 (by repeat (first | with_reducible exact xr_h | refine xr_t ?_)) dX2_seen_55 rfl ?_
    refine x_aload0 B 59 dX2_seen_58 rfl (by first | rfl | exact xisR_rf _) ?_
    refine g_X2_209_X2 B 62 (by repeat (first | with_reducible exact xr_h | refine xr_t ?_)) dX2_seen_59 rfl ?_
    rw [hl]
    refine x_iload1 B 63 dX2_seen_62 rfl ?_
    refine x_iast B 64 (by repeat (first | with_reducible exact xu_h | apply xu_t)) (j := L.length) (by first | (simp only [xlit, nI_add, pk_mul]; done) | rfl | (simp only [xlit, nI_add, pk_mul]; congr 1; omega)) ⟨by first | omega | decide, by first | decide | omega⟩ dX2_seen_63 rfl ?_
    refine x_aload0 B 65 dX2_seen_64 rfl (by first | rfl | exact xisR_rf _) ?_
    refine g_X2_23_X2 B 68 (by repeat (first | with_reducible exact xr_h | refine xr_t ?_)) dX2_seen_65 rfl ?_
    refine x_aload0 B 69 dX2_seen_68 rfl (by first | rfl | exact xisR_rf _) ?_
    refine g_X2_209_X2 B 72 (by repeat (first | with_reducible exact xr_h | refine xr_t ?_)) dX2_seen_69 rfl ?_
    rw [hl]
    refine x_iload2 B 73 dX2_seen_72 rfl ?_
    refine x_iast B 74 (by repeat (first | with_reducible exact xu_h | apply xu_t)) (j := L.length) (by first | (simp only [xlit, nI_add, pk_mul]; done) | rfl | (simp only [xlit, nI_add, pk_mul]; congr 1; omega)) ⟨by first | omega | decide, by first | decide | omega⟩ dX2_seen_73 rfl ?_
    refine x_aload0 B 75 dX2_seen_74 rfl (by first | rfl | exact xisR_rf _) ?_
    refine g_X2_26_X2 B 78 (by repeat (first | with_reducible exact xr_h | refine xr_t ?_)) dX2_seen_75 rfl ?_
    refine x_aload0 B 79 dX2_seen_78 rfl (by first | rfl | exact xisR_rf _) ?_
    refine g_X2_209_X2 B 82 (by repeat (first | with_reducible exact xr_h | refine xr_t ?_)) dX2_seen_79 rfl ?_
    rw [hl]
    refine x_iload3 B 83 dX2_seen_82 rfl ?_
    refine x_iast B 84 (by repeat (first | with_reducible exact xu_h | apply xu_t)) (j := L.length) (by first | (simp only [xlit, nI_add, pk_mul]; done) | rfl | (simp only [xlit, nI_add, pk_mul]; congr 1; omega)) ⟨by first | omega | decide, by first | decide | omega⟩ dX2_seen_83 rfl ?_
    refine x_aload0 B 85 dX2_seen_84 rfl (by first | rfl | exact xisR_rf _) ?_
    refine x_dup B 86 dX2_seen_85 rfl rfl ?_
    refine g_X2_209_X2 B 89 (by repeat (first | with_reducible exact xr_h | refine xr_t ?_)) dX2_seen_86 rfl ?_
    rw [hl]
    refine x_iconst B 90 (v := 1) dX2_seen_89 (by decide) rfl ?_
    refine x_iadd B 91 dX2_seen_90 rfl ?_
    rw [show nI L.length + 1 = nI (L.length + 1) from nI_1 _]
    refine s_X2_209_X2 B 94 (by repeat (first | with_reducible exact xu_h | apply xu_t)) dX2_seen_91 rfl ?_
    refine x_aload0 B 95 dX2_seen_94 rfl (by first | rfl | exact xisR_rf _) ?_
    refine g_X2_209_X2 B 98 (by repeat (first | with_reducible exact xr_h | refine xr_t ?_)) dX2_seen_95 rfl ?_
    rw [show upd iv 5 (nI (L.length + 1)) 5 = nI (L.length + 1) from pk_us]
    refine x_iret B rfl ⟨rfl, _, _, _, _, ⟨by rw [pk_us]; simp, ⟨by simp; omega, fun k x hk => ?_⟩, fun k x hk => ?_⟩, fun j hj => pk_un hj, rfl⟩ dX2_seen_98 ⟨by first | omega | decide, by first | omega | decide⟩
    · rcases Nat.lt_or_ge k L.length with z | z
      · rw [List.getElem?_append_left z] at hk; exact hin k x hk
      · rw [List.getElem?_append_right z] at hk
        have hz := (List.getElem?_eq_some_iff.mp hk).1
        simp at hz
        rw [show k - L.length = 0 by omega] at hk
        have : (p, i, y) = x := by simpa using hk
        subst this
        exact ⟨hp, hi, hyb⟩
    · rcases Nat.lt_or_ge k L.length with z | z
      · rw [List.getElem?_append_left z] at hk
        obtain ⟨a, b, c⟩ := hr k x hk
        exact ⟨by rw [pk_un (by omega)]; exact a, by rw [pk_un (by omega)]; exact b, by rw [pk_un (by omega)]; exact c⟩
      · rw [List.getElem?_append_right z] at hk
        have hz := (List.getElem?_eq_some_iff.mp hk).1
        simp at hz
        rw [show k - L.length = 0 by omega] at hk
        have : (p, i, y) = x := by simpa using hk
        subst this
        rw [show k = L.length by omega]
        exact ⟨pk_us, pk_us, pk_us⟩
  rcases toB_c w (nb := 10) (by omega) with ⟨b1, b2⟩ | ⟨b1, b2, b3, b4⟩ | ⟨j, hj, b1, b2, b3⟩
  · refine x_iload3 B 13 dX2_seen_12 rfl ?_
    refine x_iconst B 14 (v := (-1)) dX2_seen_13 (by decide) rfl ?_
    refine x_icmp_eq_t B 27 dX2_seen_14 (by decide) b1 ?_
    exact go none b2 b1 (fun j e => by cases e)
  · refine x_iload3 B 13 dX2_seen_12 rfl ?_
    refine x_iconst B 14 (v := (-1)) dX2_seen_13 (by decide) rfl ?_
    refine x_icmp_eq_f (tp := 27) B 17 dX2_seen_14 (by decide) rfl b1 ?_
    refine x_iload3 B 18 dX2_seen_17 rfl ?_
    refine x_callS B 21 (m_isWordNumber w) [] rfl q2006 q2007 q92 q2008 hd_X2_isWordNumber rfl ⟨by first | decide | omega, by first | decide | omega⟩ ⟨by first | decide | omega, by first | decide | omega⟩ rfl (Nat.le_of_ble_eq_true rfl) dX2_seen_18 rfl (fun _ _ _ h => h.elim) ?_
    rintro _ _ ⟨rfl, rfl⟩
    try simp only [xst, xput, xpre, List.set_cons_zero, List.set_cons_succ]
    rw [b4]
    refine x_if_ne_f (tp := 27) B 24 dX2_seen_21 (by decide) rfl rfl ?_
    simp only [sSeen, e, b3] at hq; subst hq
    refine x_bipush B 26 (v := (-2)) dX2_seen_24 (by decide) rfl ?_
    exact x_iret B rfl ⟨rfl, iv, sp, sl, sq, ok, fun _ _ => rfl, rfl⟩ dX2_seen_26 ⟨by first | omega | decide, by first | omega | decide⟩
  · refine x_iload3 B 13 dX2_seen_12 rfl ?_
    refine x_iconst B 14 (v := (-1)) dX2_seen_13 (by decide) rfl ?_
    refine x_icmp_eq_f (tp := 27) B 17 dX2_seen_14 (by decide) rfl (by rw [b1]; exact ne_m1 (by omega)) ?_
    refine x_iload3 B 18 dX2_seen_17 rfl ?_
    refine x_callS B 21 (m_isWordNumber w) [] rfl q2006 q2007 q92 q2008 hd_X2_isWordNumber rfl ⟨by first | decide | omega, by first | decide | omega⟩ ⟨by first | decide | omega, by first | decide | omega⟩ rfl (Nat.le_of_ble_eq_true rfl) dX2_seen_18 rfl (fun _ _ _ h => h.elim) ?_
    rintro _ _ ⟨rfl, rfl⟩
    try simp only [xst, xput, xpre, List.set_cons_zero, List.set_cons_succ]
    rw [b3]
    refine x_if_ne_t B 27 dX2_seen_21 (by decide) (by decide) ?_
    exact go (some j) b2 b1 (fun i e => by cases e; exact hj)
theorem m_X2_forget (hl : iv 5 = nI L.length) : XC D yX2_forget (ws_ yX2_forget cX2_forget 2 (Option.some Jvm.ClassFile.FieldType.int)) 0 0 (0) (0) [.ref h] [tR D h ad iv] (fun r cs' => r = some (.int (nI L.length)) ∧ cs' = [tR D h ad (upd iv 5 0)]) x0 := by
  refine XC.of (by decide) (by simp [Value.category]) (Nat.le_of_ble_eq_true rfl) fun X B => ?_
  show WX D X [tR D h ad iv] 0 0 0 [some (.ref h), none] []
  refine x_aload0 B 1 dX2_forget_0 rfl (by first | rfl | exact xisR_rf _) ?_
  refine g_X2_209_X2 B 4 (by repeat (first | with_reducible exact xr_h | refine xr_t ?_)) dX2_forget_1 rfl ?_
  rw [hl]
  refine x_istore1 B 5 dX2_forget_4 rfl ?_
  refine x_aload0 B 6 dX2_forget_5 rfl (by first | rfl | exact xisR_rf _) ?_
  refine x_iconst B 7 (v := 0) dX2_forget_6 (by decide) rfl ?_
  refine s_X2_209_X2 B 10 (by repeat (first | with_reducible exact xu_h | apply xu_t)) dX2_forget_7 rfl ?_
  refine x_iload1 B 11 dX2_forget_10 rfl ?_
  exact x_iret B rfl ⟨rfl, rfl⟩ dX2_forget_11 ⟨by first | omega | decide, by first | omega | decide⟩
theorem m_X2_erase (hl : iv 4 = nI T.length) : XC D yX2_erase (ws_ yX2_erase cX2_erase 2 (Option.some Jvm.ClassFile.FieldType.int)) 0 0 (0) (0) [.ref h] [tR D h ad iv] (fun r cs' => r = some (.int (nI T.length)) ∧ cs' = [tR D h ad (upd iv 4 0)]) x0 := by
  refine XC.of (by decide) (by simp [Value.category]) (Nat.le_of_ble_eq_true rfl) fun X B => ?_
  show WX D X [tR D h ad iv] 0 0 0 [some (.ref h), none] []
  refine x_aload0 B 1 dX2_erase_0 rfl (by first | rfl | exact xisR_rf _) ?_
  refine g_X2_113_X2 B 4 (by repeat (first | with_reducible exact xr_h | refine xr_t ?_)) dX2_erase_1 rfl ?_
  rw [hl]
  refine x_istore1 B 5 dX2_erase_4 rfl ?_
  refine x_aload0 B 6 dX2_erase_5 rfl (by first | rfl | exact xisR_rf _) ?_
  refine x_iconst B 7 (v := 0) dX2_erase_6 (by decide) rfl ?_
  refine s_X2_113_X2 B 10 (by repeat (first | with_reducible exact xu_h | apply xu_t)) dX2_erase_7 rfl ?_
  refine x_iload1 B 11 dX2_erase_10 rfl ?_
  exact x_iret B rfl ⟨rfl, rfl⟩ dX2_erase_11 ⟨by first | omega | decide, by first | omega | decide⟩
theorem m_X2_write (hT : TTx tx iv T) (c : Int32) (q : Int32 × List Nat) (hq : sWrite T c = q) : XC D yX2_write (ws_ yX2_write cX2_write 2 (Option.some Jvm.ClassFile.FieldType.int)) 1 40 (0) (0) [.ref h, .int c] [tR D h ad iv, tI D ad 3 200 tx] (fun r cs' => r = some (.int q.1) ∧ ∃ iv' tx', TTx tx' iv' q.2 ∧ (∀ j, j ≠ 4 → iv' j = iv j) ∧ cs' = [tR D h ad iv', tI D ad 3 200 tx']) x0 := by
  refine XC.of (by decide) (by simp [Value.category]) (Nat.le_of_ble_eq_true rfl) fun X B => ?_
  show WX D X [tR D h ad iv, tI D ad 3 200 tx] 0 0 0 [some (.ref h), some (.int c)] []
  have ok := hT
  obtain ⟨hl, hl2, hr⟩ := hT
  refine x_iload1 B 1 dX2_write_0 rfl ?_
  refine x_i2l B 2 dX2_write_1 rfl ?_
  refine x_lconst B 3 (v := 0) dX2_write_2 (by decide) rfl ?_
  refine x_ldc2 B 6 dX2_write_3 q1868 rfl ?_
  refine x_callS B 9 (m_X2_in _ _ _) [] rfl q1869 q1870 q92 q1871 hd_X2_in rfl ⟨by first | decide | omega, by first | decide | omega⟩ ⟨by first | decide | omega, by first | decide | omega⟩ rfl (Nat.le_of_ble_eq_true rfl) dX2_write_6 rfl (fun _ _ _ h => h.elim) ?_
  rintro _ _ ⟨rfl, rfl⟩
  try simp only [xst, xput, xpre, List.set_cons_zero, List.set_cons_succ]
  rw [show x_in c.toInt64 0 255 = bI (toR c 0 256).isSome from xinR c 0 255 rfl rfl (by decide) (by decide)]
  rcases toR_c c 0 256 (by omega) with ⟨e, e'⟩ | ⟨c, -, hc, rfl, e, e'⟩
  · rw [e']
    refine x_if_ne_f (tp := 15) B 12 dX2_write_9 (by decide) rfl rfl ?_
    simp only [sWrite, e] at hq; subst hq
    refine x_bipush B 14 (v := (-3)) dX2_write_12 (by decide) rfl ?_
    exact x_iret B rfl ⟨rfl, iv, tx, ok, fun _ _ => rfl, rfl⟩ dX2_write_14 ⟨by first | omega | decide, by first | omega | decide⟩
  rw [e']
  refine x_if_ne_t B 15 dX2_write_9 (by decide) (by decide) ?_
  refine x_aload0 B 16 dX2_write_15 rfl (by first | rfl | exact xisR_rf _) ?_
  refine g_X2_113_X2 B 19 (by repeat (first | with_reducible exact xr_h | refine xr_t ?_)) dX2_write_16 rfl ?_
  rw [hl]
  by_cases c0 : T.length = 200
  · refine x_sipush B 22 (v := 200) dX2_write_19 (by decide) rfl ?_
    refine x_icmp_ne_f (tp := 28) B 25 dX2_write_22 (by decide) rfl (by (try simp only [xlit]); first | (rw [nI_leI (by omega) (by omega)]; omega) | (rw [nI_ltI (by omega) (by omega)]; omega) | (rw [nI_eq (by omega) (by omega)]; omega)) ?_
    simp only [sWrite, e] at hq; rw [if_pos c0] at hq; subst hq
    refine x_bipush B 27 (v := (-5)) dX2_write_25 (by decide) rfl ?_
    exact x_iret B rfl ⟨rfl, iv, tx, ok, fun _ _ => rfl, rfl⟩ dX2_write_27 ⟨by first | omega | decide, by first | omega | decide⟩
  refine x_sipush B 22 (v := 200) dX2_write_19 (by decide) rfl ?_
  refine x_icmp_ne_t B 28 dX2_write_22 (by decide) (by (try simp only [xlit]); first | (rw [nI_leI (by omega) (by omega)]; omega) | (rw [nI_ltI (by omega) (by omega)]; omega) | (rw [nI_eq (by omega) (by omega)]; omega)) ?_
  simp only [sWrite, e] at hq; rw [if_neg c0] at hq; subst hq
  refine x_aload0 B 29 dX2_write_28 rfl (by first | rfl | exact xisR_rf _) ?_
  refine g_X2_17_X2 B 32 (by repeat (first | with_reducible exact xr_h | refine xr_t ?_)) dX2_write_29 rfl ?_
  refine x_aload0 B 33 dX2_write_32 rfl (by first | rfl | exact xisR_rf _) ?_
  refine g_X2_113_X2 B 36 (by repeat (first | with_reducible exact xr_h | refine xr_t ?_)) dX2_write_33 rfl ?_
  rw [hl]
  refine x_iload1 B 37 dX2_write_36 rfl ?_
  refine x_iast B 38 (by repeat (first | with_reducible exact xu_h | apply xu_t)) (j := T.length) (by first | (simp only [xlit, nI_add, pk_mul]; done) | rfl | (simp only [xlit, nI_add, pk_mul]; congr 1; omega)) ⟨by first | omega | decide, by first | decide | omega⟩ dX2_write_37 rfl ?_
  refine x_aload0 B 39 dX2_write_38 rfl (by first | rfl | exact xisR_rf _) ?_
  refine x_dup B 40 dX2_write_39 rfl rfl ?_
  refine g_X2_113_X2 B 43 (by repeat (first | with_reducible exact xr_h | refine xr_t ?_)) dX2_write_40 rfl ?_
  rw [hl]
  refine x_iconst B 44 (v := 1) dX2_write_43 (by decide) rfl ?_
  refine x_iadd B 45 dX2_write_44 rfl ?_
  rw [show nI T.length + 1 = nI (T.length + 1) from nI_1 _]
  refine s_X2_113_X2 B 48 (by repeat (first | with_reducible exact xu_h | apply xu_t)) dX2_write_45 rfl ?_
  refine x_aload0 B 49 dX2_write_48 rfl (by first | rfl | exact xisR_rf _) ?_
  refine g_X2_113_X2 B 52 (by repeat (first | with_reducible exact xr_h | refine xr_t ?_)) dX2_write_49 rfl ?_
  rw [show upd iv 4 (nI (T.length + 1)) 4 = nI (T.length + 1) from pk_us]
  refine x_iret B rfl ⟨rfl, _, _, ⟨by rw [pk_us]; simp, by simp; omega, fun k x hk => ?_⟩, fun j hj => pk_un hj, rfl⟩ dX2_write_52 ⟨by first | omega | decide, by first | omega | decide⟩
  rcases Nat.lt_or_ge k T.length with z | z
  · rw [List.getElem?_append_left z] at hk
    rw [pk_un (by omega)]; exact hr k x hk
  · rw [List.getElem?_append_right z] at hk
    have hz := (List.getElem?_eq_some_iff.mp hk).1
    simp at hz
    rw [show k - T.length = 0 by omega] at hk
    have : c = x := by simpa using hk
    subst this
    rw [show k = T.length by omega]
    exact ⟨pk_us, hc⟩
theorem m_X2_menWords (hT : TRep row 0 nb nm kd N) (hO : HOk nb nm kd N) : XC D yX2_menWords (ws_ yX2_menWords cX2_menWords 3 (Option.some Jvm.ClassFile.FieldType.int)) 1 40 (0) (0) [.ref h] [tR D h ad iv, tI D ad 0 1404 row] (fun r cs' => r = some (.int (nI (hMenWords N nm))) ∧ cs' = [tR D h ad iv, tI D ad 0 1404 row]) x0 := by
  refine XC.of (by decide) (by simp [Value.category]) (Nat.le_of_ble_eq_true rfl) fun X B => ?_
  show WX D X [tR D h ad iv, tI D ad 0 1404 row] 0 0 0 [some (.ref h), none, none] []
  have hnm := hO.2.1
  have loop : ∀ (j m : Nat), m + j = nm → WX D X [tR D h ad iv, tI D ad 0 1404 row] 0 0 4 [some (.ref h), some (.int (nI (hMenWords N m))), some (.int (nI m))] [] := by
    intro j
    induction j with
    | zero =>
      intro m hm
      obtain rfl : m = nm := by omega
      refine x_iload2 B 5 dX2_menWords_4 rfl ?_
      refine x_aload0 B 6 dX2_menWords_5 rfl (by first | rfl | exact xisR_rf _) ?_
      refine g_X2_7_X2 B 9 (by repeat (first | with_reducible exact xr_h | refine xr_t ?_)) dX2_menWords_6 rfl ?_
      refine x_iconst B 10 (v := 1) dX2_menWords_9 (by decide) rfl ?_
      refine x_ialdv B 11 (by repeat (first | with_reducible exact xr_h | refine xr_t ?_)) (j := 1) (by first | (simp only [xlit, nI_add, pk_mul]; done) | rfl | (simp only [xlit, nI_add, pk_mul]; congr 1; omega)) ⟨by first | omega | decide, by first | decide | omega⟩ hT.2.1 dX2_menWords_10 rfl ?_
      refine x_icmp_ge_t B 35 dX2_menWords_11 (by decide) (by (try simp only [xlit]); first | (rw [nI_leI (by omega) (by omega)]; omega) | (rw [nI_ltI (by omega) (by omega)]; omega) | (rw [nI_eq (by omega) (by omega)]; omega)) ?_
      refine x_iload1 B 36 dX2_menWords_35 rfl ?_
      exact x_iret B rfl ⟨rfl, rfl⟩ dX2_menWords_36 ⟨by first | omega | decide, by first | omega | decide⟩
    | succ j ih =>
      intro m hm
      have hm' : m < nm := by omega
      have hH := hO.2.2.2.2.2.1 m hm'
      refine x_iload2 B 5 dX2_menWords_4 rfl ?_
      refine x_aload0 B 6 dX2_menWords_5 rfl (by first | rfl | exact xisR_rf _) ?_
      refine g_X2_7_X2 B 9 (by repeat (first | with_reducible exact xr_h | refine xr_t ?_)) dX2_menWords_6 rfl ?_
      refine x_iconst B 10 (v := 1) dX2_menWords_9 (by decide) rfl ?_
      refine x_ialdv B 11 (by repeat (first | with_reducible exact xr_h | refine xr_t ?_)) (j := 1) (by first | (simp only [xlit, nI_add, pk_mul]; done) | rfl | (simp only [xlit, nI_add, pk_mul]; congr 1; omega)) ⟨by first | omega | decide, by first | decide | omega⟩ hT.2.1 dX2_menWords_10 rfl ?_
      refine x_icmp_ge_f (tp := 35) B 14 dX2_menWords_11 (by decide) rfl (by (try simp only [xlit]); first | (rw [nI_leI (by omega) (by omega)]; omega) | (rw [nI_ltI (by omega) (by omega)]; omega) | (rw [nI_eq (by omega) (by omega)]; omega)) ?_
      refine x_iload1 B 15 dX2_menWords_14 rfl ?_
      refine x_aload0 B 16 dX2_menWords_15 rfl (by first | rfl | exact xisR_rf _) ?_
      refine g_X2_7_X2 B 19 (by repeat (first | with_reducible exact xr_h | refine xr_t ?_)) dX2_menWords_16 rfl ?_
      refine x_bipush B 21 (v := 100) dX2_menWords_19 (by decide) rfl ?_
      refine x_iload2 B 22 dX2_menWords_21 rfl ?_
      refine x_iadd B 23 dX2_menWords_22 rfl ?_
      refine x_ialdv B 24 (by repeat (first | with_reducible exact xr_h | refine xr_t ?_)) (j := 100 + m) (by first | (simp only [xlit, nI_add, pk_mul]; done) | rfl | (simp only [xlit, nI_add, pk_mul]; congr 1; omega)) ⟨by first | omega | decide, by first | decide | omega⟩ ((congrArg row (by omega)).trans (hT.2.2.2.2.2.2.2.1 m hm')) dX2_menWords_23 rfl ?_
      refine x_callS B 27 (m_X2_bits _) [] rfl q2133 q2134 q92 q2135 hd_X2_bits rfl ⟨by first | decide | omega, by first | decide | omega⟩ ⟨by first | decide | omega, by first | decide | omega⟩ rfl (Nat.le_of_ble_eq_true rfl) dX2_menWords_24 rfl (fun _ _ _ h => h.elim) ?_
      rintro _ _ ⟨rfl, rfl⟩
      try simp only [xst, xput, xpre, List.set_cons_zero, List.set_cons_succ]
      rw [t_bits_h (by omega) 10 (by omega)]
      refine x_iadd B 28 dX2_menWords_27 rfl ?_
      rw [nI_add]
      refine x_istore1 B 29 dX2_menWords_28 rfl ?_
      refine x_iinc2 B 32 dX2_menWords_29 rfl (by first | exact xinc _ | rfl) ?_
      refine x_goto B 4 dX2_menWords_32 (by decide) ?_
      exact ih (m + 1) (by omega)
  refine x_iconst B 1 (v := 0) dX2_menWords_0 (by decide) rfl ?_
  refine x_istore1 B 2 dX2_menWords_1 rfl ?_
  refine x_iconst B 3 (v := 0) dX2_menWords_2 (by decide) rfl ?_
  refine x_istore2 B 4 dX2_menWords_3 rfl ?_
  exact loop nm 0 (by omega)
theorem m_X2_allWellKnown (hT : TRep row 0 nb nm kd N) (hO : HOk nb nm kd N) : XC D yX2_allWellKnown (ws_ yX2_allWellKnown cX2_allWellKnown 3 (Option.some Jvm.ClassFile.FieldType.int)) 1 40 (0) (0) [.ref h] [tR D h ad iv, tI D ad 0 1404 row] (fun r cs' => r = some (.int (nI (hAllWell N nb))) ∧ cs' = [tR D h ad iv, tI D ad 0 1404 row]) x0 := by
  refine XC.of (by decide) (by simp [Value.category]) (Nat.le_of_ble_eq_true rfl) fun X B => ?_
  show WX D X [tR D h ad iv, tI D ad 0 1404 row] 0 0 0 [some (.ref h), none, none] []
  have hnb := hO.1
  have loop : ∀ (j m : Nat), m + j = nb → WX D X [tR D h ad iv, tI D ad 0 1404 row] 0 0 4 [some (.ref h), some (.int (nI (hAllWell N m))), some (.int (nI m))] [] := by
    intro j
    induction j with
    | zero =>
      intro m hm
      obtain rfl : m = nb := by omega
      refine x_iload2 B 5 dX2_allWellKnown_4 rfl ?_
      refine x_aload0 B 6 dX2_allWellKnown_5 rfl (by first | rfl | exact xisR_rf _) ?_
      refine g_X2_7_X2 B 9 (by repeat (first | with_reducible exact xr_h | refine xr_t ?_)) dX2_allWellKnown_6 rfl ?_
      refine x_iconst B 10 (v := 0) dX2_allWellKnown_9 (by decide) rfl ?_
      refine x_ialdv B 11 (by repeat (first | with_reducible exact xr_h | refine xr_t ?_)) (j := 0) (by first | (simp only [xlit, nI_add, pk_mul]; done) | rfl | (simp only [xlit, nI_add, pk_mul]; congr 1; omega)) ⟨by first | omega | decide, by first | decide | omega⟩ hT.1 dX2_allWellKnown_10 rfl ?_
      refine x_icmp_ge_t B 29 dX2_allWellKnown_11 (by decide) (by (try simp only [xlit]); first | (rw [nI_leI (by omega) (by omega)]; omega) | (rw [nI_ltI (by omega) (by omega)]; omega) | (rw [nI_eq (by omega) (by omega)]; omega)) ?_
      refine x_iload1 B 30 dX2_allWellKnown_29 rfl ?_
      exact x_iret B rfl ⟨rfl, rfl⟩ dX2_allWellKnown_30 ⟨by first | omega | decide, by first | omega | decide⟩
    | succ j ih =>
      intro m hm
      have hm' : m < nb := by omega
      refine x_iload2 B 5 dX2_allWellKnown_4 rfl ?_
      refine x_aload0 B 6 dX2_allWellKnown_5 rfl (by first | rfl | exact xisR_rf _) ?_
      refine g_X2_7_X2 B 9 (by repeat (first | with_reducible exact xr_h | refine xr_t ?_)) dX2_allWellKnown_6 rfl ?_
      refine x_iconst B 10 (v := 0) dX2_allWellKnown_9 (by decide) rfl ?_
      refine x_ialdv B 11 (by repeat (first | with_reducible exact xr_h | refine xr_t ?_)) (j := 0) (by first | (simp only [xlit, nI_add, pk_mul]; done) | rfl | (simp only [xlit, nI_add, pk_mul]; congr 1; omega)) ⟨by first | omega | decide, by first | decide | omega⟩ hT.1 dX2_allWellKnown_10 rfl ?_
      refine x_icmp_ge_f (tp := 29) B 14 dX2_allWellKnown_11 (by decide) rfl (by (try simp only [xlit]); first | (rw [nI_leI (by omega) (by omega)]; omega) | (rw [nI_ltI (by omega) (by omega)]; omega) | (rw [nI_eq (by omega) (by omega)]; omega)) ?_
      refine x_iload1 B 15 dX2_allWellKnown_14 rfl ?_
      refine x_aload0 B 16 dX2_allWellKnown_15 rfl (by first | rfl | exact xisR_rf _) ?_
      refine x_iconst B 17 (v := 0) dX2_allWellKnown_16 (by decide) rfl ?_
      refine x_iload2 B 18 dX2_allWellKnown_17 rfl ?_
      refine x_callV B 21 (m_X2_wellKnown hT hO (by omega) m hm') [0, 1] rfl ⟨_, _, _, (by repeat (first | with_reducible exact xr_h | refine xr_t ?_)), rfl, rfl⟩ q1982 q1984 qs59 q92 q1985 hd_X2_wellKnown (by decide) ⟨by first | decide | omega, by first | decide | omega⟩ ⟨by first | decide | omega, by first | decide | omega⟩ rfl (Nat.le_of_ble_eq_true rfl) dX2_allWellKnown_18 rfl (fun _ _ _ h => h.elim) ?_
      rintro _ _ ⟨rfl, rfl⟩
      try simp only [xst, xput, xpre, List.set_cons_zero, List.set_cons_succ]
      refine x_ior B 22 dX2_allWellKnown_21 rfl ?_
      rw [xor_nI]
      refine x_istore1 B 23 dX2_allWellKnown_22 rfl ?_
      refine x_iinc2 B 26 dX2_allWellKnown_23 rfl (by first | exact xinc _ | rfl) ?_
      refine x_goto B 4 dX2_allWellKnown_26 (by decide) ?_
      exact ih (m + 1) (by omega)
  refine x_iconst B 1 (v := 0) dX2_allWellKnown_0 (by decide) rfl ?_
  refine x_istore1 B 2 dX2_allWellKnown_1 rfl ?_
  refine x_iconst B 3 (v := 0) dX2_allWellKnown_2 (by decide) rfl ?_
  refine x_istore2 B 4 dX2_allWellKnown_3 rfl ?_
  exact loop nb 0 (by omega)
theorem m_X2_reelsThere (hR : TRl rz rs rp R) : XC D yX2_reelsThere (ws_ yX2_reelsThere cX2_reelsThere 3 (Option.some Jvm.ClassFile.FieldType.int)) 0 0 (0) (0) [.ref h] [tR D h ad iv, tI D ad 13 3 rz] (fun r cs' => r = some (.int (nI (hReels R 3))) ∧ cs' = [tR D h ad iv, tI D ad 13 3 rz]) x0 := by
  refine XC.of (by decide) (by simp [Value.category]) (Nat.le_of_ble_eq_true rfl) fun X B => ?_
  show WX D X [tR D h ad iv, tI D ad 13 3 rz] 0 0 0 [some (.ref h), none, none] []
  have loop : ∀ (j m : Nat), m + j = 3 → WX D X [tR D h ad iv, tI D ad 13 3 rz] 0 0 4 [some (.ref h), some (.int (nI (hReels R m))), some (.int (nI m))] [] := by
    intro j
    induction j with
    | zero =>
      intro m hm
      obtain rfl : m = 3 := by omega
      refine x_iload2 B 5 dX2_reelsThere_4 rfl ?_
      refine x_iconst B 6 (v := 3) dX2_reelsThere_5 (by decide) rfl ?_
      refine x_icmp_ge_t B 32 dX2_reelsThere_6 (by decide) (by (try simp only [xlit]); first | (rw [nI_leI (by omega) (by omega)]; omega) | (rw [nI_ltI (by omega) (by omega)]; omega) | (rw [nI_eq (by omega) (by omega)]; omega)) ?_
      refine x_iload1 B 33 dX2_reelsThere_32 rfl ?_
      exact x_iret B rfl ⟨rfl, rfl⟩ dX2_reelsThere_33 ⟨by first | omega | decide, by first | omega | decide⟩
    | succ j ih =>
      intro m hm
      have e1 : hReels R (m + 1) = hReels R m + (if R m = none then 0 else 1) := rfl
      refine x_iload2 B 5 dX2_reelsThere_4 rfl ?_
      refine x_iconst B 6 (v := 3) dX2_reelsThere_5 (by decide) rfl ?_
      refine x_icmp_ge_f (tp := 32) B 9 dX2_reelsThere_6 (by decide) rfl (by (try simp only [xlit]); first | (rw [nI_leI (by omega) (by omega)]; omega) | (rw [nI_ltI (by omega) (by omega)]; omega) | (rw [nI_eq (by omega) (by omega)]; omega)) ?_
      rcases hR m (by omega) with ⟨q1, q2⟩ | ⟨s, n, f, q1, q2, q3, q4, q5, q6⟩
      · refine x_iload1 B 10 dX2_reelsThere_9 rfl ?_
        refine x_aload0 B 11 dX2_reelsThere_10 rfl (by first | rfl | exact xisR_rf _) ?_
        refine g_X2_38_X2 B 14 (by repeat (first | with_reducible exact xr_h | refine xr_t ?_)) dX2_reelsThere_11 rfl ?_
        refine x_iload2 B 15 dX2_reelsThere_14 rfl ?_
        refine x_ialdv B 16 (by repeat (first | with_reducible exact xr_h | refine xr_t ?_)) (j := m) (by first | (simp only [xlit, nI_add, pk_mul]; done) | rfl | (simp only [xlit, nI_add, pk_mul]; congr 1; omega)) ⟨by first | omega | decide, by first | decide | omega⟩ q2 dX2_reelsThere_15 rfl ?_
        refine x_if_ge_f (tp := 23) B 19 dX2_reelsThere_16 (by decide) rfl (by decide) ?_
        refine x_iconst B 20 (v := 0) dX2_reelsThere_19 (by decide) rfl ?_
        refine x_goto B 24 dX2_reelsThere_20 (by decide) ?_
        refine x_iadd B 25 dX2_reelsThere_24 rfl ?_
        rw [show nI (hReels R m) + 0 = nI (hReels R (m + 1)) by rw [e1, if_pos q1]; exact nI_add _ 0]
        refine x_istore1 B 26 dX2_reelsThere_25 rfl ?_
        refine x_iinc2 B 29 dX2_reelsThere_26 rfl (by first | exact xinc _ | rfl) ?_
        refine x_goto B 4 dX2_reelsThere_29 (by decide) ?_
        exact ih (m + 1) (by omega)
      · refine x_iload1 B 10 dX2_reelsThere_9 rfl ?_
        refine x_aload0 B 11 dX2_reelsThere_10 rfl (by first | rfl | exact xisR_rf _) ?_
        refine g_X2_38_X2 B 14 (by repeat (first | with_reducible exact xr_h | refine xr_t ?_)) dX2_reelsThere_11 rfl ?_
        refine x_iload2 B 15 dX2_reelsThere_14 rfl ?_
        refine x_ialdv B 16 (by repeat (first | with_reducible exact xr_h | refine xr_t ?_)) (j := m) (by first | (simp only [xlit, nI_add, pk_mul]; done) | rfl | (simp only [xlit, nI_add, pk_mul]; congr 1; omega)) ⟨by first | omega | decide, by first | decide | omega⟩ q4 dX2_reelsThere_15 rfl ?_
        refine x_if_ge_t B 23 dX2_reelsThere_16 (by decide) (nI_pos' (by omega)) ?_
        refine x_iconst B 24 (v := 1) dX2_reelsThere_23 (by decide) rfl ?_
        refine x_iadd B 25 dX2_reelsThere_24 rfl ?_
        rw [show nI (hReels R m) + 1 = nI (hReels R (m + 1)) by rw [e1, if_neg (by rw [q1]; simp)]; exact nI_add _ 1]
        refine x_istore1 B 26 dX2_reelsThere_25 rfl ?_
        refine x_iinc2 B 29 dX2_reelsThere_26 rfl (by first | exact xinc _ | rfl) ?_
        refine x_goto B 4 dX2_reelsThere_29 (by decide) ?_
        exact ih (m + 1) (by omega)
  refine x_iconst B 1 (v := 0) dX2_reelsThere_0 (by decide) rfl ?_
  refine x_istore1 B 2 dX2_reelsThere_1 rfl ?_
  refine x_iconst B 3 (v := 0) dX2_reelsThere_2 (by decide) rfl ?_
  refine x_istore2 B 4 dX2_reelsThere_3 rfl ?_
  exact loop 3 0 (by omega)
theorem m_X2_count (hW : TW row iv nb nm kd N U) (hL : iv 5 = nI L.length) (hX : iv 4 = nI T.length) (hR : TRl rz rs rp R) (w : Int32) : XC D yX2_count (ws_ yX2_count cX2_count 2 (Option.some Jvm.ClassFile.FieldType.int)) 2 80 (0) (0) [.ref h, .int w] [tR D h ad iv, tI D ad 0 1404 row, tI D ad 13 3 rz] (fun r cs' => r = some (.int (sCount nb nm N L.length R U.length T.length w)) ∧ cs' = [tR D h ad iv, tI D ad 0 1404 row, tI D ad 13 3 rz]) x0 := by
  refine XC.of (by decide) (by simp [Value.category]) (Nat.le_of_ble_eq_true rfl) fun X B => ?_
  show WX D X [tR D h ad iv, tI D ad 0 1404 row, tI D ad 13 3 rz] 0 0 0 [some (.ref h), some (.int w)] []
  have hT := hW.1
  have hO := hW.2.1.1
  by_cases w0 : w = 0
  · subst w0
    refine x_iload1 B 1 dX2_count_0 rfl ?_
    refine x_tsw B 56 (55) dX2_count_1 (by decide) (by decide) ?_
    refine x_aload0 B 57 dX2_count_56 rfl (by first | rfl | exact xisR_rf _) ?_
    refine g_X2_7_X2 B 60 (by repeat (first | with_reducible exact xr_h | refine xr_t ?_)) dX2_count_57 rfl ?_
    refine x_iconst B 61 (v := 0) dX2_count_60 (by decide) rfl ?_
    refine x_ialdv B 62 (by repeat (first | with_reducible exact xr_h | refine xr_t ?_)) (j := 0) (by first | (simp only [xlit, nI_add, pk_mul]; done) | rfl | (simp only [xlit, nI_add, pk_mul]; congr 1; omega)) ⟨by first | omega | decide, by first | decide | omega⟩ hT.1 dX2_count_61 rfl ?_
    exact x_iret B rfl ⟨by simp [sCount], rfl⟩ dX2_count_62 ⟨by first | omega | decide, by first | omega | decide⟩
  by_cases w1 : w = 1
  · subst w1
    refine x_iload1 B 1 dX2_count_0 rfl ?_
    refine x_tsw B 63 (62) dX2_count_1 (by decide) (by decide) ?_
    refine x_aload0 B 64 dX2_count_63 rfl (by first | rfl | exact xisR_rf _) ?_
    refine g_X2_7_X2 B 67 (by repeat (first | with_reducible exact xr_h | refine xr_t ?_)) dX2_count_64 rfl ?_
    refine x_iconst B 68 (v := 1) dX2_count_67 (by decide) rfl ?_
    refine x_ialdv B 69 (by repeat (first | with_reducible exact xr_h | refine xr_t ?_)) (j := 1) (by first | (simp only [xlit, nI_add, pk_mul]; done) | rfl | (simp only [xlit, nI_add, pk_mul]; congr 1; omega)) ⟨by first | omega | decide, by first | decide | omega⟩ hT.2.1 dX2_count_68 rfl ?_
    exact x_iret B rfl ⟨by simp [sCount], rfl⟩ dX2_count_69 ⟨by first | omega | decide, by first | omega | decide⟩
  by_cases w2 : w = 2
  · subst w2
    refine x_iload1 B 1 dX2_count_0 rfl ?_
    refine x_tsw B 70 (69) dX2_count_1 (by decide) (by decide) ?_
    refine x_aload0 B 71 dX2_count_70 rfl (by first | rfl | exact xisR_rf _) ?_
    refine g_X2_7_X2 B 74 (by repeat (first | with_reducible exact xr_h | refine xr_t ?_)) dX2_count_71 rfl ?_
    refine x_iconst B 75 (v := 2) dX2_count_74 (by decide) rfl ?_
    refine x_ialdv B 76 (by repeat (first | with_reducible exact xr_h | refine xr_t ?_)) (j := 2) (by first | (simp only [xlit, nI_add, pk_mul]; done) | rfl | (simp only [xlit, nI_add, pk_mul]; congr 1; omega)) ⟨by first | omega | decide, by first | decide | omega⟩ hT.2.2.1 dX2_count_75 rfl ?_
    exact x_iret B rfl ⟨by simp [sCount], rfl⟩ dX2_count_76 ⟨by first | omega | decide, by first | omega | decide⟩
  by_cases w3 : w = 3
  · subst w3
    refine x_iload1 B 1 dX2_count_0 rfl ?_
    refine x_tsw B 77 (76) dX2_count_1 (by decide) (by decide) ?_
    refine x_aload0 B 78 dX2_count_77 rfl (by first | rfl | exact xisR_rf _) ?_
    refine g_X2_7_X2 B 81 (by repeat (first | with_reducible exact xr_h | refine xr_t ?_)) dX2_count_78 rfl ?_
    refine x_iconst B 82 (v := 3) dX2_count_81 (by decide) rfl ?_
    refine x_ialdv B 83 (by repeat (first | with_reducible exact xr_h | refine xr_t ?_)) (j := 3) (by first | (simp only [xlit, nI_add, pk_mul]; done) | rfl | (simp only [xlit, nI_add, pk_mul]; congr 1; omega)) ⟨by first | omega | decide, by first | decide | omega⟩ hT.2.2.2.1 dX2_count_82 rfl ?_
    exact x_iret B rfl ⟨by simp [sCount], rfl⟩ dX2_count_83 ⟨by first | omega | decide, by first | omega | decide⟩
  by_cases w4 : w = 4
  · subst w4
    refine x_iload1 B 1 dX2_count_0 rfl ?_
    refine x_tsw B 84 (83) dX2_count_1 (by decide) (by decide) ?_
    refine x_aload0 B 85 dX2_count_84 rfl (by first | rfl | exact xisR_rf _) ?_
    refine x_callV B 88 (m_X2_menWords hT hO) [0, 1] rfl ⟨_, _, _, (by repeat (first | with_reducible exact xr_h | refine xr_t ?_)), rfl, rfl⟩ q2228 q2230 qs84 q92 q2231 hd_X2_menWords (by decide) ⟨by first | decide | omega, by first | decide | omega⟩ ⟨by first | decide | omega, by first | decide | omega⟩ rfl (Nat.le_of_ble_eq_true rfl) dX2_count_85 rfl (fun _ _ _ h => h.elim) ?_
    rintro _ _ ⟨rfl, rfl⟩
    try simp only [xst, xput, xpre, List.set_cons_zero, List.set_cons_succ]
    exact x_iret B rfl ⟨by simp [sCount], rfl⟩ dX2_count_88 ⟨by first | omega | decide, by first | omega | decide⟩
  by_cases w5 : w = 5
  · subst w5
    refine x_iload1 B 1 dX2_count_0 rfl ?_
    refine x_tsw B 89 (88) dX2_count_1 (by decide) (by decide) ?_
    refine x_aload0 B 90 dX2_count_89 rfl (by first | rfl | exact xisR_rf _) ?_
    refine g_X2_209_X2 B 93 (by repeat (first | with_reducible exact xr_h | refine xr_t ?_)) dX2_count_90 rfl ?_
    rw [hL]
    exact x_iret B rfl ⟨by simp [sCount], rfl⟩ dX2_count_93 ⟨by first | omega | decide, by first | omega | decide⟩
  by_cases w6 : w = 6
  · subst w6
    refine x_iload1 B 1 dX2_count_0 rfl ?_
    refine x_tsw B 94 (93) dX2_count_1 (by decide) (by decide) ?_
    refine x_aload0 B 95 dX2_count_94 rfl (by first | rfl | exact xisR_rf _) ?_
    refine x_callV B 98 (m_X2_reelsThere hR) [0, 2] rfl ⟨_, _, _, (by repeat (first | with_reducible exact xr_h | refine xr_t ?_)), rfl, rfl⟩ q2232 q2234 qs85 q92 q2235 hd_X2_reelsThere (by decide) ⟨by first | decide | omega, by first | decide | omega⟩ ⟨by first | decide | omega, by first | decide | omega⟩ rfl (Nat.le_of_ble_eq_true rfl) dX2_count_95 rfl (fun _ _ _ h => h.elim) ?_
    rintro _ _ ⟨rfl, rfl⟩
    try simp only [xst, xput, xpre, List.set_cons_zero, List.set_cons_succ]
    exact x_iret B rfl ⟨by simp [sCount], rfl⟩ dX2_count_98 ⟨by first | omega | decide, by first | omega | decide⟩
  by_cases w7 : w = 7
  · subst w7
    refine x_iload1 B 1 dX2_count_0 rfl ?_
    refine x_tsw B 99 (98) dX2_count_1 (by decide) (by decide) ?_
    refine x_aload0 B 100 dX2_count_99 rfl (by first | rfl | exact xisR_rf _) ?_
    refine g_X2_206_X2 B 103 (by repeat (first | with_reducible exact xr_h | refine xr_t ?_)) dX2_count_100 rfl ?_
    rw [hW.2.2.1]
    exact x_iret B rfl ⟨by simp [sCount], rfl⟩ dX2_count_103 ⟨by first | omega | decide, by first | omega | decide⟩
  by_cases w8 : w = 8
  · subst w8
    refine x_iload1 B 1 dX2_count_0 rfl ?_
    refine x_tsw B 104 (103) dX2_count_1 (by decide) (by decide) ?_
    refine x_aload0 B 105 dX2_count_104 rfl (by first | rfl | exact xisR_rf _) ?_
    refine g_X2_113_X2 B 108 (by repeat (first | with_reducible exact xr_h | refine xr_t ?_)) dX2_count_105 rfl ?_
    rw [hX]
    exact x_iret B rfl ⟨by simp [sCount], rfl⟩ dX2_count_108 ⟨by first | omega | decide, by first | omega | decide⟩
  by_cases w9 : w = 9
  · subst w9
    refine x_iload1 B 1 dX2_count_0 rfl ?_
    refine x_tsw B 109 (108) dX2_count_1 (by decide) (by decide) ?_
    refine x_aload0 B 110 dX2_count_109 rfl (by first | rfl | exact xisR_rf _) ?_
    refine x_callV B 113 (m_X2_allWellKnown hT hO) [0, 1] rfl ⟨_, _, _, (by repeat (first | with_reducible exact xr_h | refine xr_t ?_)), rfl, rfl⟩ q2236 q2238 qs86 q92 q2239 hd_X2_allWellKnown (by decide) ⟨by first | decide | omega, by first | decide | omega⟩ ⟨by first | decide | omega, by first | decide | omega⟩ rfl (Nat.le_of_ble_eq_true rfl) dX2_count_110 rfl (fun _ _ _ h => h.elim) ?_
    rintro _ _ ⟨rfl, rfl⟩
    try simp only [xst, xput, xpre, List.set_cons_zero, List.set_cons_succ]
    exact x_iret B rfl ⟨by simp [sCount], rfl⟩ dX2_count_113 ⟨by first | omega | decide, by first | omega | decide⟩
  refine x_iload1 B 1 dX2_count_0 rfl ?_
  refine x_tsw B 114 (113) dX2_count_1 (by rw [if_pos (show w.toInt < 0 ∨ w.toInt > 9 from sw_out (n := 9) (by omega) (fun j hj => by (obtain rfl | rfl | rfl | rfl | rfl | rfl | rfl | rfl | rfl | rfl : j = 0 ∨ j = 1 ∨ j = 2 ∨ j = 3 ∨ j = 4 ∨ j = 5 ∨ j = 6 ∨ j = 7 ∨ j = 8 ∨ j = 9 := by omega) <;> first | exact w0 | exact w1 | exact w2 | exact w3 | exact w4 | exact w5 | exact w6 | exact w7 | exact w8 | exact w9))]) (by decide) ?_
  refine x_bipush B 116 (v := (-3)) dX2_count_114 (by decide) rfl ?_
  exact x_iret B rfl ⟨by simp only [sCount, w0, w1, w2, w3, w4, w5, w6, w7, w8, w9, if_false], rfl⟩ dX2_count_116 ⟨by first | omega | decide, by first | omega | decide⟩
theorem m_X2_kinds (hW : TW row iv nb nm kd N U) (hS : TSe sp sl sq iv L) (b : Int32) : XC D yX2_kinds (ws_ yX2_kinds cX2_kinds 6 (Option.some Jvm.ClassFile.FieldType.int)) 6 240 (0) (0) [.ref h, .int b] [tR D h ad iv, tI D ad 0 1404 row, tI D ad 36 64 sw, tI D ad 37 4 sm, tI D ad 6 6 sp, tI D ad 7 6 sl, tI D ad 8 6 sq] (fun r cs' => r = some (.int (sKinds nb nm kd N L b)) ∧ ∃ row' sw' sm', TS 1296 1404 row row' ∧ cs' = [tR D h ad iv, tI D ad 0 1404 row', tI D ad 36 64 sw', tI D ad 37 4 sm', tI D ad 6 6 sp, tI D ad 7 6 sl, tI D ad 8 6 sq]) x0 := by
  refine XC.of (by decide) (by simp [Value.category]) (Nat.le_of_ble_eq_true rfl) fun X B => ?_
  show WX D X [tR D h ad iv, tI D ad 0 1404 row, tI D ad 36 64 sw, tI D ad 37 4 sm, tI D ad 6 6 sp, tI D ad 7 6 sl, tI D ad 8 6 sq] 0 0 0 [some (.ref h), some (.int b), none, none, none, none] []
  have hT := hW.1
  have hO := hW.2.1.1
  have hE := hW.2.1.2
  have hnb := hO.1
  have hnm := hO.2.1
  obtain ⟨hl, ⟨hl6, hin⟩, hr⟩ := hS
  refine x_aload0 B 1 dX2_kinds_0 rfl (by first | rfl | exact xisR_rf _) ?_
  refine x_iload1 B 2 dX2_kinds_1 rfl ?_
  refine x_callV B 5 (m_isBird b hT.1 hnb) [0, 1] rfl ⟨_, _, _, (by repeat (first | with_reducible exact xr_h | refine xr_t ?_)), rfl, rfl⟩ q1974 q1976 qs57 q92 q1977 hd_X2_isBird (by decide) ⟨by first | decide | omega, by first | decide | omega⟩ ⟨by first | decide | omega, by first | decide | omega⟩ rfl (Nat.le_of_ble_eq_true rfl) dX2_kinds_2 rfl (fun _ _ _ h => h.elim) ?_
  rintro _ _ ⟨rfl, rfl⟩
  try simp only [xst, xput, xpre, List.set_cons_zero, List.set_cons_succ]
  rcases toR_c b 0 nb (by omega) with ⟨e, e'⟩ | ⟨j, -, hj, rfl, e, e'⟩
  · rw [e']
    refine x_if_ne_f (tp := 11) B 8 dX2_kinds_5 (by decide) rfl rfl ?_
    refine x_bipush B 10 (v := (-2)) dX2_kinds_8 (by decide) rfl ?_
    exact x_iret B rfl ⟨by simp only [sKinds, e], row, sw, sm, TS.rf, rfl⟩ dX2_kinds_10 ⟨by first | omega | decide, by first | omega | decide⟩
  rw [e']
  refine x_if_ne_t B 11 dX2_kinds_5 (by decide) (by decide) ?_
  have hs : sKinds nb nm kd N L (nI j) = nI (hKinds kd nb nm N L j 5) := by simp only [sKinds, e]
  rw [hs] at B
  have loop : ∀ (m k : Nat), k + m = 5 → ∀ row' sw' sm' a4 a5, TRep row' 0 nb nm kd N → TS 1296 1404 row row' → WX D X [tR D h ad iv, tI D ad 0 1404 row', tI D ad 36 64 sw', tI D ad 37 4 sm', tI D ad 6 6 sp, tI D ad 7 6 sl, tI D ad 8 6 sq] 0 0 15 [some (.ref h), some (.int (nI j)), some (.int (nI (hKinds kd nb nm N L j k))), some (.int (nI k)), a4, a5] [] := by
    intro m
    induction m with
    | zero =>
      intro k hk row' sw' sm' a4 a5 h1 h2
      obtain rfl : k = 5 := by omega
      refine x_iload3 B 16 dX2_kinds_15 rfl ?_
      refine x_iconst B 17 (v := 5) dX2_kinds_16 (by decide) rfl ?_
      refine x_icmp_ge_t B 122 dX2_kinds_17 (by decide) (by (try simp only [xlit]); first | (rw [nI_leI (by omega) (by omega)]; omega) | (rw [nI_ltI (by omega) (by omega)]; omega) | (rw [nI_eq (by omega) (by omega)]; omega)) ?_
      refine x_iload2 B 123 dX2_kinds_122 rfl ?_
      exact x_iret B rfl ⟨rfl, row', sw', sm', h2, rfl⟩ dX2_kinds_123 ⟨by first | omega | decide, by first | omega | decide⟩
    | succ m ih =>
      intro k hk row' sw' sm' a4 a5 h1 h2
      have e1 : hKinds kd nb nm N L j (k + 1) = hKinds kd nb nm N L j k ||| (if hIsSo (fUp kd j k) nb nm N L L.length = true then 2 ^ k else 0) := rfl
      have hO1 : HOk nb nm (fUp kd j k) N := by
        obtain ⟨g1, g2, g3, g4⟩ := hO
        refine ⟨g1, g2, fun b hb => ?_, g4⟩
        unfold fUp
        split
        · omega
        · exact g3 b hb
      refine x_iload3 B 16 dX2_kinds_15 rfl ?_
      refine x_iconst B 17 (v := 5) dX2_kinds_16 (by decide) rfl ?_
      refine x_icmp_ge_f (tp := 122) B 20 dX2_kinds_17 (by decide) rfl (by (try simp only [xlit]); first | (rw [nI_leI (by omega) (by omega)]; omega) | (rw [nI_ltI (by omega) (by omega)]; omega) | (rw [nI_eq (by omega) (by omega)]; omega)) ?_
      refine x_aload0 B 21 dX2_kinds_20 rfl (by first | rfl | exact xisR_rf _) ?_
      refine x_callV B 24 (m_X2_layTried h1 hO) [0, 1] rfl ⟨_, _, _, (by repeat (first | with_reducible exact xr_h | refine xr_t ?_)), rfl, rfl⟩ q2011 q2013 qs61 q92 q2014 hd_X2_layTried (by decide) ⟨by first | decide | omega, by first | decide | omega⟩ ⟨by first | decide | omega, by first | decide | omega⟩ rfl (Nat.le_of_ble_eq_true rfl) dX2_kinds_21 rfl (fun _ _ _ h => h.elim) ?_
      rintro _ _ ⟨rfl, row1, t1, s1, rfl⟩
      try simp only [xst, xput, xpre, List.set_cons_zero, List.set_cons_succ]
      refine x_aload0 B 25 dX2_kinds_24 rfl (by first | rfl | exact xisR_rf _) ?_
      refine g_X2_7_X2 B 28 (by repeat (first | with_reducible exact xr_h | refine xr_t ?_)) dX2_kinds_25 rfl ?_
      refine x_sipush B 31 (v := 1300) dX2_kinds_28 (by decide) rfl ?_
      refine x_iload1 B 32 dX2_kinds_31 rfl ?_
      refine x_iadd B 33 dX2_kinds_32 rfl ?_
      refine x_iload3 B 34 dX2_kinds_33 rfl ?_
      refine x_iast B 35 (by repeat (first | with_reducible exact xu_h | apply xu_t)) (j := 1296 + 4 + j) (by first | (simp only [xlit, nI_add, pk_mul]; done) | rfl | (simp only [xlit, nI_add, pk_mul]; congr 1; omega)) ⟨by first | omega | decide, by first | decide | omega⟩ dX2_kinds_34 rfl ?_
      have t2 : TRep (upd row1 (1296 + 4 + j) (nI k)) 1296 nb nm (fUp kd j k) N := by
        obtain ⟨g1, g2, g3, g4, g5, g6, g7, g8, g9⟩ := t1
        refine ⟨by rw [pk_un (by omega)]; exact g1, by rw [pk_un (by omega)]; exact g2, by rw [pk_un (by omega)]; exact g3, by rw [pk_un (by omega)]; exact g4, fun b hb => ?_, fun b hb => by rw [pk_un (by omega)]; exact g6 b hb, fun b w hb hw => by rw [pk_un (by omega)]; exact g7 b w hb hw, fun m hm => by rw [pk_un (by omega)]; exact g8 m hm, fun m hm => by rw [pk_un (by omega)]; exact g9 m hm⟩
        unfold fUp
        by_cases c : b = j
        · subst c; rw [pk_us, if_pos rfl]
        · rw [pk_un (by omega), if_neg c]; exact g5 b hb
      have s2 : TS 1296 1404 row1 (upd row1 (1296 + 4 + j) (nI k)) := TS.rf.upd (by omega) (by omega)
      refine x_aload0 B 36 dX2_kinds_35 rfl (by first | rfl | exact xisR_rf _) ?_
      refine x_iconst B 37 (v := 1) dX2_kinds_36 (by decide) rfl ?_
      refine x_callV B 40 (m_X2_passTried t2 hO1 1 (by omega) (by omega) (fun a b X => X.2.2.2.2.2 = N.2.2.2.2.2 + 1 → SAll a b (hPass (fUp kd j k) nb nm N).2 4) (fun z => by omega) (fun j a b hj z _ => by (obtain rfl : j = 0 := by omega); exact z)) [0, 1, 2, 3] rfl ⟨_, _, _, (by repeat (first | with_reducible exact xr_h | refine xr_t ?_)), rfl, rfl⟩ q2015 q2017 qs62 q92 q2018 hd_X2_passTried (by decide) ⟨by first | decide | omega, by first | decide | omega⟩ ⟨by first | decide | omega, by first | decide | omega⟩ rfl (Nat.le_of_ble_eq_true rfl) dX2_kinds_37 rfl (fun _ _ _ h => h.elim) ?_
      rintro _ _ ⟨rfl, row3, sw3, sm3, t3, s3, p3, rfl⟩
      try simp only [xst, xput, xpre, List.set_cons_zero, List.set_cons_succ]
      have hA := p3 (hGo_E 1)
      have r3 : TS 1296 1404 row' row3 := (s1.trans s2).trans s3
      have h3 := h1.keep hnb hnm r3 (by omega)
      have inner : ∀ (i n : Nat), n + i = L.length → WX D X [tR D h ad iv, tI D ad 0 1404 row3, tI D ad 36 64 sw3, tI D ad 37 4 sm3, tI D ad 6 6 sp, tI D ad 7 6 sl, tI D ad 8 6 sq] 0 0 46 [some (.ref h), some (.int (nI j)), some (.int (nI (hKinds kd nb nm N L j k))), some (.int (nI k)), some (.int (bI (hIsSo (fUp kd j k) nb nm N L n))), some (.int (nI n))] [] := by
        intro i
        induction i with
        | zero =>
          intro n hn
          obtain rfl : n = L.length := by omega
          refine x_iload5 B 48 dX2_kinds_46 rfl ?_
          refine x_aload0 B 49 dX2_kinds_48 rfl (by first | rfl | exact xisR_rf _) ?_
          refine g_X2_209_X2 B 52 (by repeat (first | with_reducible exact xr_h | refine xr_t ?_)) dX2_kinds_49 rfl ?_
          rw [hl]
          refine x_icmp_ge_t B 101 dX2_kinds_52 (by decide) (by (try simp only [xlit]); first | (rw [nI_leI (by omega) (by omega)]; omega) | (rw [nI_ltI (by omega) (by omega)]; omega) | (rw [nI_eq (by omega) (by omega)]; omega)) ?_
          by_cases c : hIsSo (fUp kd j k) nb nm N L L.length = true
          · refine x_iload2 B 102 dX2_kinds_101 rfl ?_
            refine x_iload4 B 104 dX2_kinds_102 rfl ?_
            refine x_if_eq_f (tp := 113) B 107 dX2_kinds_104 (by decide) rfl (by rw [c]; decide) ?_
            refine x_iconst B 108 (v := 1) dX2_kinds_107 (by decide) rfl ?_
            refine x_iload3 B 109 dX2_kinds_108 rfl ?_
            refine x_ishl B 110 dX2_kinds_109 rfl ?_
            rw [xshl1 (by omega)]
            refine x_goto B 114 dX2_kinds_110 (by decide) ?_
            refine x_ior B 115 dX2_kinds_114 rfl ?_
            rw [xor_nI, show hKinds kd nb nm N L j k ||| 2 ^ k = hKinds kd nb nm N L j (k + 1) by rw [e1, if_pos c]]
            refine x_istore2 B 116 dX2_kinds_115 rfl ?_
            refine x_iinc3 B 119 dX2_kinds_116 rfl (by first | exact xinc _ | rfl) ?_
            refine x_goto B 15 dX2_kinds_119 (by decide) ?_
            exact ih (k + 1) (by omega) row3 sw3 sm3 _ _ h3 (h2.trans r3)
          · rw [Bool.not_eq_true] at c
            refine x_iload2 B 102 dX2_kinds_101 rfl ?_
            refine x_iload4 B 104 dX2_kinds_102 rfl ?_
            refine x_if_eq_t B 113 dX2_kinds_104 (by decide) (by rw [c]; rfl) ?_
            refine x_iconst B 114 (v := 0) dX2_kinds_113 (by decide) rfl ?_
            refine x_ior B 115 dX2_kinds_114 rfl ?_
            rw [show nI (hKinds kd nb nm N L j k) ||| 0 = nI (hKinds kd nb nm N L j (k + 1)) by rw [e1, if_neg (by rw [c]; simp)]; exact xor_nI _ 0]
            refine x_istore2 B 116 dX2_kinds_115 rfl ?_
            refine x_iinc3 B 119 dX2_kinds_116 rfl (by first | exact xinc _ | rfl) ?_
            refine x_goto B 15 dX2_kinds_119 (by decide) ?_
            exact ih (k + 1) (by omega) row3 sw3 sm3 _ _ h3 (h2.trans r3)
        | succ i ihi =>
          intro n hn
          have hn' : n < L.length := by omega
          obtain ⟨x, hx⟩ : ∃ x, L[n]? = some x := ⟨L[n]'hn', List.getElem?_eq_getElem hn'⟩
          obtain ⟨x1, x2, x3⟩ := hin n x hx
          obtain ⟨r1, r2, r3'⟩ := hr n x hx
          have e2 : hIsSo (fUp kd j k) nb nm N L (n + 1) = (hIsSo (fUp kd j k) nb nm N L n && decide (((hPass (fUp kd j k) nb nm N).2 x.1)[x.2.1]? = x.2.2)) := by
            conv => lhs; unfold hIsSo
            rw [hx]
          have next : ∀ v : Int32, v = bI (hIsSo (fUp kd j k) nb nm N L (n + 1)) → WX D X [tR D h ad iv, tI D ad 0 1404 row3, tI D ad 36 64 sw3, tI D ad 37 4 sm3, tI D ad 6 6 sp, tI D ad 7 6 sl, tI D ad 8 6 sq] 0 0 93 [some (.ref h), some (.int (nI j)), some (.int (nI (hKinds kd nb nm N L j k))), some (.int (nI k)), some (.int (bI (hIsSo (fUp kd j k) nb nm N L n))), some (.int (nI n))] [.int v] := by
            intro v hv
            subst hv
            refine x_istore4 B 95 dX2_kinds_93 rfl ?_
            refine x_iinc5 B 98 dX2_kinds_95 rfl (by first | exact xinc _ | rfl) ?_
            refine x_goto B 46 dX2_kinds_98 (by decide) ?_
            exact ihi (n + 1) (by omega)
          refine x_iload5 B 48 dX2_kinds_46 rfl ?_
          refine x_aload0 B 49 dX2_kinds_48 rfl (by first | rfl | exact xisR_rf _) ?_
          refine g_X2_209_X2 B 52 (by repeat (first | with_reducible exact xr_h | refine xr_t ?_)) dX2_kinds_49 rfl ?_
          rw [hl]
          refine x_icmp_ge_f (tp := 101) B 55 dX2_kinds_52 (by decide) rfl (by (try simp only [xlit]); first | (rw [nI_leI (by omega) (by omega)]; omega) | (rw [nI_ltI (by omega) (by omega)]; omega) | (rw [nI_eq (by omega) (by omega)]; omega)) ?_
          by_cases c : hIsSo (fUp kd j k) nb nm N L n = true
          · refine x_iload4 B 57 dX2_kinds_55 rfl ?_
            refine x_if_eq_f (tp := 92) B 60 dX2_kinds_57 (by decide) rfl (by rw [c]; decide) ?_
            refine x_aload0 B 61 dX2_kinds_60 rfl (by first | rfl | exact xisR_rf _) ?_
            refine x_aload0 B 62 dX2_kinds_61 rfl (by first | rfl | exact xisR_rf _) ?_
            refine g_X2_20_X2 B 65 (by repeat (first | with_reducible exact xr_h | refine xr_t ?_)) dX2_kinds_62 rfl ?_
            refine x_iload5 B 67 dX2_kinds_65 rfl ?_
            refine x_ialdv B 68 (by repeat (first | with_reducible exact xr_h | refine xr_t ?_)) (j := n) (by first | (simp only [xlit, nI_add, pk_mul]; done) | rfl | (simp only [xlit, nI_add, pk_mul]; congr 1; omega)) ⟨by first | omega | decide, by first | decide | omega⟩ r1 dX2_kinds_67 rfl ?_
            refine x_aload0 B 69 dX2_kinds_68 rfl (by first | rfl | exact xisR_rf _) ?_
            refine g_X2_23_X2 B 72 (by repeat (first | with_reducible exact xr_h | refine xr_t ?_)) dX2_kinds_69 rfl ?_
            refine x_iload5 B 74 dX2_kinds_72 rfl ?_
            refine x_ialdv B 75 (by repeat (first | with_reducible exact xr_h | refine xr_t ?_)) (j := n) (by first | (simp only [xlit, nI_add, pk_mul]; done) | rfl | (simp only [xlit, nI_add, pk_mul]; congr 1; omega)) ⟨by first | omega | decide, by first | decide | omega⟩ r2 dX2_kinds_74 rfl ?_
            refine x_callV B 78 (m_X2_saidAt hA x.1 x.2.1 x1 (by omega)) [0, 2, 3] rfl ⟨_, _, _, (by repeat (first | with_reducible exact xr_h | refine xr_t ?_)), rfl, rfl⟩ q2116 q2118 qs74 q92 q2119 hd_X2_saidAt (by decide) ⟨by first | decide | omega, by first | decide | omega⟩ ⟨by first | decide | omega, by first | decide | omega⟩ rfl (Nat.le_of_ble_eq_true rfl) dX2_kinds_75 rfl (fun _ _ _ h => h.elim) ?_
            rintro _ _ ⟨rfl, rfl⟩
            try simp only [xst, xput, xpre, List.set_cons_zero, List.set_cons_succ]
            refine x_aload0 B 79 dX2_kinds_78 rfl (by first | rfl | exact xisR_rf _) ?_
            refine g_X2_26_X2 B 82 (by repeat (first | with_reducible exact xr_h | refine xr_t ?_)) dX2_kinds_79 rfl ?_
            refine x_iload5 B 84 dX2_kinds_82 rfl ?_
            refine x_ialdv B 85 (by repeat (first | with_reducible exact xr_h | refine xr_t ?_)) (j := n) (by first | (simp only [xlit, nI_add, pk_mul]; done) | rfl | (simp only [xlit, nI_add, pk_mul]; congr 1; omega)) ⟨by first | omega | decide, by first | decide | omega⟩ r3' dX2_kinds_84 rfl ?_
            have hv1 : ∀ v, ((hPass (fUp kd j k) nb nm N).2 x.1)[x.2.1]? = some v → v < 2147483648 := fun v z => hPass_word z
            have e3 := oI_inj hv1 (fun v z => by have := x3 v z; omega)
            by_cases c2 : ((hPass (fUp kd j k) nb nm N).2 x.1)[x.2.1]? = x.2.2
            · refine x_icmp_ne_f (tp := 92) B 88 dX2_kinds_85 (by decide) rfl (e3.mpr c2) ?_
              refine x_iconst B 89 (v := 1) dX2_kinds_88 (by decide) rfl ?_
              refine x_goto B 93 dX2_kinds_89 (by decide) ?_
              exact next 1 (by rw [e2, c]; simp [bI, c2])
            · refine x_icmp_ne_t B 92 dX2_kinds_85 (by decide) (fun z => c2 (e3.mp z)) ?_
              refine x_iconst B 93 (v := 0) dX2_kinds_92 (by decide) rfl ?_
              exact next 0 (by rw [e2, c]; simp [bI, c2])
          · rw [Bool.not_eq_true] at c
            refine x_iload4 B 57 dX2_kinds_55 rfl ?_
            refine x_if_eq_t B 92 dX2_kinds_57 (by decide) (by rw [c]; rfl) ?_
            refine x_iconst B 93 (v := 0) dX2_kinds_92 (by decide) rfl ?_
            exact next 0 (by rw [e2, c]; rfl)
      refine x_iconst B 41 (v := 1) dX2_kinds_40 (by decide) rfl ?_
      refine x_istore4 B 43 dX2_kinds_41 rfl ?_
      refine x_iconst B 44 (v := 0) dX2_kinds_43 (by decide) rfl ?_
      refine x_istore5 B 46 dX2_kinds_44 rfl ?_
      exact inner L.length 0 (by omega)
  refine x_iconst B 12 (v := 0) dX2_kinds_11 (by decide) rfl ?_
  refine x_istore2 B 13 dX2_kinds_12 rfl ?_
  refine x_iconst B 14 (v := 0) dX2_kinds_13 (by decide) rfl ?_
  refine x_istore3 B 15 dX2_kinds_14 rfl ?_
  exact loop 5 0 rfl row sw sm _ _ hT TS.rf
end T10
