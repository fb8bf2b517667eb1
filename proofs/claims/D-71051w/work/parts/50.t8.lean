/-! the twin, 8: kept, foretold, counted -/
section T8
variable {D : xG} {h : Nat} {ad : Nat → Nat} {iv row zk tx : Nat → Int32} {base nb nm : Nat} {kd : Nat → Nat} {S N : HS} {sw sm : Nat → Int32} {U : List HS} {Kp : HKp} {sp sl sq rz rs rp : Nat → Int32} {L : HSe} {R : HR} {T : List Nat}
theorem m_X2_keep (hW : TW row iv nb nm kd N U) (hQ : TQ row zk nb nm kd Kp) (k : Int32) (q : Int32 × HKp) (hq : sKeep N Kp k = q) : XC D yX2_keep (ws_ yX2_keep cX2_keep 2 (Option.some Jvm.ClassFile.FieldType.int)) 1 40 (0) (0) [.ref h, .int k] [tR D h ad iv, tI D ad 0 1404 row, tZ D ad 2 2 zk] (fun r cs' => r = some (.int q.1) ∧ ∃ row' zk', TW row' iv nb nm kd N U ∧ TQ row' zk' nb nm kd q.2 ∧ (∀ j, j < 1080 → row' j = row j) ∧ cs' = [tR D h ad iv, tI D ad 0 1404 row', tZ D ad 2 2 zk']) x0 := by
  refine XC.of (by decide) (by simp [Value.category]) (Nat.le_of_ble_eq_true rfl) fun X B => ?_
  show WX D X [tR D h ad iv, tI D ad 0 1404 row, tZ D ad 2 2 zk] 0 0 0 [some (.ref h), some (.int k)] []
  have hT := hW.1
  have hO := hW.2.1.1
  have hnb := hO.1
  have hnm := hO.2.1
  refine x_iload1 B 1 dX2_keep_0 rfl ?_
  refine x_i2l B 2 dX2_keep_1 rfl ?_
  refine x_lconst B 3 (v := 0) dX2_keep_2 (by decide) rfl ?_
  refine x_lconst B 4 (v := 1) dX2_keep_3 (by decide) rfl ?_
  refine x_callS B 7 (m_X2_in _ _ _) [] rfl q1869 q1870 q92 q1871 hd_X2_in rfl ⟨by first | decide | omega, by first | decide | omega⟩ ⟨by first | decide | omega, by first | decide | omega⟩ rfl (Nat.le_of_ble_eq_true rfl) dX2_keep_4 rfl (fun _ _ _ h => h.elim) ?_
  rintro _ _ ⟨rfl, rfl⟩
  try simp only [xst, xput, xpre, List.set_cons_zero, List.set_cons_succ]
  rw [show x_in k.toInt64 0 1 = bI (toR k 0 2).isSome from xinR k 0 1 rfl rfl (by decide) (by decide)]
  rcases toR_c k 0 2 (by omega) with ⟨e, e'⟩ | ⟨k, -, hk, rfl, e, e'⟩
  · rw [e']
    refine x_if_ne_f (tp := 13) B 10 dX2_keep_7 (by decide) rfl rfl ?_
    simp only [sKeep, e] at hq; subst hq
    refine x_bipush B 12 (v := (-2)) dX2_keep_10 (by decide) rfl ?_
    exact x_iret B rfl ⟨rfl, row, zk, hW, hQ, fun _ _ => rfl, rfl⟩ dX2_keep_12 ⟨by first | omega | decide, by first | omega | decide⟩
  rw [e']
  refine x_if_ne_t B 13 dX2_keep_7 (by decide) (by decide) ?_
  simp only [sKeep, e] at hq; subst hq
  refine x_aload0 B 14 dX2_keep_13 rfl (by first | rfl | exact xisR_rf _) ?_
  refine x_iconst B 15 (v := 0) dX2_keep_14 (by decide) rfl ?_
  refine x_sipush B 18 (v := 1080) dX2_keep_15 (by decide) rfl ?_
  refine x_bipush B 20 (v := 108) dX2_keep_18 (by decide) rfl ?_
  refine x_iload1 B 21 dX2_keep_20 rfl ?_
  refine x_imul B 22 dX2_keep_21 rfl ?_
  refine x_iadd B 23 dX2_keep_22 rfl ?_
  rw [show (1080 : Int32) + 108 * nI k = nI (1080 + 108 * k) from by simp only [xlit, nI_add, pk_mul]]
  refine x_callV B 26 (m_X2_copyHarbour 0 (1080 + 108 * k) (by omega) (by omega) (by omega)) [0, 1] rfl ⟨_, _, _, (by repeat (first | with_reducible exact xr_h | refine xr_t ?_)), rfl, rfl⟩ q1949 q1951 qs54 q92 q1952 hd_X2_copyHarbour (by decide) ⟨by first | decide | omega, by first | decide | omega⟩ ⟨by first | decide | omega, by first | decide | omega⟩ rfl (Nat.le_of_ble_eq_true rfl) dX2_keep_23 rfl (fun _ _ _ h => h.elim) ?_
  rintro _ _ ⟨rfl, row2, c1, c2, rfl⟩
  try simp only [xst, xput, xpre, List.set_cons_zero, List.set_cons_succ]
  refine x_aload0 B 27 dX2_keep_26 rfl (by first | rfl | exact xisR_rf _) ?_
  refine g_X2_13_X2 B 30 (by repeat (first | with_reducible exact xr_h | refine xr_t ?_)) dX2_keep_27 rfl ?_
  refine x_iload1 B 31 dX2_keep_30 rfl ?_
  refine x_iconst B 32 (v := 1) dX2_keep_31 (by decide) rfl ?_
  refine x_zast B 33 (by repeat (first | with_reducible exact xu_h | apply xu_t)) (j := k) (by first | (simp only [xlit, nI_add, pk_mul]; done) | rfl | (simp only [xlit, nI_add, pk_mul]; congr 1; omega)) ⟨by first | omega | decide, by first | decide | omega⟩ rfl dX2_keep_32 rfl ?_
  refine x_aload0 B 34 dX2_keep_33 rfl (by first | rfl | exact xisR_rf _) ?_
  refine g_X2_7_X2 B 37 (by repeat (first | with_reducible exact xr_h | refine xr_t ?_)) dX2_keep_34 rfl ?_
  refine x_iconst B 38 (v := 2) dX2_keep_37 (by decide) rfl ?_
  refine x_ialdv B 39 (by repeat (first | with_reducible exact xr_h | refine xr_t ?_)) rfl ⟨by first | omega | decide, by first | decide | omega⟩ ((c2 2 (by omega)).trans hT.2.2.1) dX2_keep_38 rfl ?_
  refine x_iret B rfl ⟨rfl, row2, _, ⟨hT.keep hnb hnm c2 (by omega), hW.2.1, hW.2.2.keep hnb hnm c2 (by omega) rfl⟩, fun i hi => ?_, fun j hj => c2 j (by omega), rfl⟩ dX2_keep_39 ⟨by first | omega | decide, by first | omega | decide⟩
  by_cases c : i = k
  · subst c
    right
    refine ⟨N, by show fUp Kp i (some N) i = some N; unfold fUp; rw [if_pos rfl], by rw [pk_us]; decide, hT.copy hnb hnm c1, hW.2.1⟩
  · rcases hQ i hi with ⟨q1, q2⟩ | ⟨S, q1, q2, q3, q4⟩
    · left; exact ⟨by show fUp Kp k (some N) i = none; unfold fUp; rw [if_neg c]; exact q1, by rw [pk_un c]; exact q2⟩
    · right; exact ⟨S, by show fUp Kp k (some N) i = some S; unfold fUp; rw [if_neg c]; exact q1, by rw [pk_un c]; exact q2, q3.keep hnb hnm c2 (by omega), q4⟩
theorem m_X2_back (hW : TW row iv nb nm kd N U) (hQ : TQ row zk nb nm kd Kp) (k : Int32) (q : HU) (hq : sBack N U Kp k = q) : XC D yX2_back (ws_ yX2_back cX2_back 2 (Option.some Jvm.ClassFile.FieldType.int)) 1 40 (0) (0) [.ref h, .int k] [tR D h ad iv, tI D ad 0 1404 row, tZ D ad 2 2 zk] (fun r cs' => r = some (.int q.1) ∧ ∃ row' iv', TW row' iv' nb nm kd q.2.1 q.2.2 ∧ TK row row' ∧ TI iv iv' ∧ cs' = [tR D h ad iv', tI D ad 0 1404 row', tZ D ad 2 2 zk]) x0 := by
  refine XC.of (by decide) (by simp [Value.category]) (Nat.le_of_ble_eq_true rfl) fun X B => ?_
  show WX D X [tR D h ad iv, tI D ad 0 1404 row, tZ D ad 2 2 zk] 0 0 0 [some (.ref h), some (.int k)] []
  have hT := hW.1
  have hO := hW.2.1.1
  have hnb := hO.1
  have hnm := hO.2.1
  refine x_iload1 B 1 dX2_back_0 rfl ?_
  refine x_i2l B 2 dX2_back_1 rfl ?_
  refine x_lconst B 3 (v := 0) dX2_back_2 (by decide) rfl ?_
  refine x_lconst B 4 (v := 1) dX2_back_3 (by decide) rfl ?_
  refine x_callS B 7 (m_X2_in _ _ _) [] rfl q1869 q1870 q92 q1871 hd_X2_in rfl ⟨by first | decide | omega, by first | decide | omega⟩ ⟨by first | decide | omega, by first | decide | omega⟩ rfl (Nat.le_of_ble_eq_true rfl) dX2_back_4 rfl (fun _ _ _ h => h.elim) ?_
  rintro _ _ ⟨rfl, rfl⟩
  try simp only [xst, xput, xpre, List.set_cons_zero, List.set_cons_succ]
  rw [show x_in k.toInt64 0 1 = bI (toR k 0 2).isSome from xinR k 0 1 rfl rfl (by decide) (by decide)]
  rcases toR_c k 0 2 (by omega) with ⟨e, e'⟩ | ⟨k, -, hk, rfl, e, e'⟩
  · rw [e']
    refine x_if_ne_f (tp := 13) B 10 dX2_back_7 (by decide) rfl rfl ?_
    simp only [sBack, e] at hq; subst hq
    refine x_bipush B 12 (v := (-2)) dX2_back_10 (by decide) rfl ?_
    exact x_iret B rfl ⟨rfl, row, iv, hW, TK.rf, TI.rf, rfl⟩ dX2_back_12 ⟨by first | omega | decide, by first | omega | decide⟩
  rw [e']
  refine x_if_ne_t B 13 dX2_back_7 (by decide) (by decide) ?_
  rcases hQ k hk with ⟨q1, q2⟩ | ⟨S, q1, q2, q3, q4⟩
  · refine x_aload0 B 14 dX2_back_13 rfl (by first | rfl | exact xisR_rf _) ?_
    refine g_X2_13_X2 B 17 (by repeat (first | with_reducible exact xr_h | refine xr_t ?_)) dX2_back_14 rfl ?_
    refine x_iload1 B 18 dX2_back_17 rfl ?_
    refine x_zaldv B 19 (by repeat (first | with_reducible exact xr_h | refine xr_t ?_)) (j := k) (by first | (simp only [xlit, nI_add, pk_mul]; done) | rfl | (simp only [xlit, nI_add, pk_mul]; congr 1; omega)) ⟨by first | omega | decide, by first | decide | omega⟩ q2 dX2_back_18 rfl ?_
    refine x_if_ne_f (tp := 25) B 22 dX2_back_19 (by decide) rfl rfl ?_
    simp only [sBack, e, q1] at hq; subst hq
    refine x_bipush B 24 (v := (-4)) dX2_back_22 (by decide) rfl ?_
    exact x_iret B rfl ⟨rfl, row, iv, hW, TK.rf, TI.rf, rfl⟩ dX2_back_24 ⟨by first | omega | decide, by first | omega | decide⟩
  · refine x_aload0 B 14 dX2_back_13 rfl (by first | rfl | exact xisR_rf _) ?_
    refine g_X2_13_X2 B 17 (by repeat (first | with_reducible exact xr_h | refine xr_t ?_)) dX2_back_14 rfl ?_
    refine x_iload1 B 18 dX2_back_17 rfl ?_
    refine x_zaldv B 19 (by repeat (first | with_reducible exact xr_h | refine xr_t ?_)) (j := k) (by first | (simp only [xlit, nI_add, pk_mul]; done) | rfl | (simp only [xlit, nI_add, pk_mul]; congr 1; omega)) ⟨by first | omega | decide, by first | decide | omega⟩ q2 dX2_back_18 rfl ?_
    refine x_if_ne_t B 25 dX2_back_19 (by decide) (by decide) ?_
    simp only [sBack, e, q1] at hq; subst hq
    refine x_aload0 B 26 dX2_back_25 rfl (by first | rfl | exact xisR_rf _) ?_
    refine x_sipush B 29 (v := 1080) dX2_back_26 (by decide) rfl ?_
    refine x_bipush B 31 (v := 108) dX2_back_29 (by decide) rfl ?_
    refine x_iload1 B 32 dX2_back_31 rfl ?_
    refine x_imul B 33 dX2_back_32 rfl ?_
    refine x_iadd B 34 dX2_back_33 rfl ?_
    rw [show (1080 : Int32) + 108 * nI k = nI (1080 + 108 * k) from by simp only [xlit, nI_add, pk_mul]]
    refine x_iconst B 35 (v := 0) dX2_back_34 (by decide) rfl ?_
    rw [show (0 : Int32) = nI 0 from rfl]
    refine x_callV B 38 (m_X2_copyHarbour (1080 + 108 * k) 0 (by omega) (by omega) (by omega)) [0, 1] rfl ⟨_, _, _, (by repeat (first | with_reducible exact xr_h | refine xr_t ?_)), rfl, rfl⟩ q1949 q1951 qs54 q92 q1952 hd_X2_copyHarbour (by decide) ⟨by first | decide | omega, by first | decide | omega⟩ ⟨by first | decide | omega, by first | decide | omega⟩ rfl (Nat.le_of_ble_eq_true rfl) dX2_back_35 rfl (fun _ _ _ h => h.elim) ?_
    rintro _ _ ⟨rfl, row2, c1, c2, rfl⟩
    try simp only [xst, xput, xpre, List.set_cons_zero, List.set_cons_succ]
    have h3 : TRep row2 0 nb nm kd S := q3.copy hnb hnm c1
    refine x_aload0 B 39 dX2_back_38 rfl (by first | rfl | exact xisR_rf _) ?_
    refine x_iconst B 40 (v := 0) dX2_back_39 (by decide) rfl ?_
    refine s_X2_206_X2 B 43 (by repeat (first | with_reducible exact xu_h | apply xu_t)) dX2_back_40 rfl ?_
    refine x_aload0 B 44 dX2_back_43 rfl (by first | rfl | exact xisR_rf _) ?_
    refine g_X2_7_X2 B 47 (by repeat (first | with_reducible exact xr_h | refine xr_t ?_)) dX2_back_44 rfl ?_
    refine x_iconst B 48 (v := 2) dX2_back_47 (by decide) rfl ?_
    refine x_ialdv B 49 (by repeat (first | with_reducible exact xr_h | refine xr_t ?_)) rfl ⟨by first | omega | decide, by first | decide | omega⟩ h3.2.2.1 dX2_back_48 rfl ?_
    exact x_iret B rfl ⟨rfl, row2, _, ⟨h3, q4, by rw [pk_us]; rfl, by simp, fun k S' hk => by simp at hk⟩, fun i h1 h2 => c2 i (by omega), fun i hi => pk_un hi, rfl⟩ dX2_back_49 ⟨by first | omega | decide, by first | omega | decide⟩
theorem m_X2_saidAt {L : Nat → List Nat} (hS : SAll sw sm L 4) (p i : Nat) (hp : p < 4) (hi : i < 100) : XC D yX2_saidAt (ws_ yX2_saidAt cX2_saidAt 3 (Option.some Jvm.ClassFile.FieldType.int)) 0 0 (0) (0) [.ref h, .int (nI p), .int (nI i)] [tR D h ad iv, tI D ad 36 64 sw, tI D ad 37 4 sm] (fun r cs' => r = some (.int (oI (L p)[i]?)) ∧ cs' = [tR D h ad iv, tI D ad 36 64 sw, tI D ad 37 4 sm]) x0 := by
  refine XC.of (by decide) (by simp [Value.category]) (Nat.le_of_ble_eq_true rfl) fun X B => ?_
  show WX D X [tR D h ad iv, tI D ad 36 64 sw, tI D ad 37 4 sm] 0 0 0 [some (.ref h), some (.int (nI p)), some (.int (nI i))] []
  obtain ⟨a1, a2, a3⟩ := hS p hp
  refine x_iload2 B 1 dX2_saidAt_0 rfl ?_
  refine x_aload0 B 2 dX2_saidAt_1 rfl (by first | rfl | exact xisR_rf _) ?_
  refine g_X2_92_X2 B 5 (by repeat (first | with_reducible exact xr_h | refine xr_t ?_)) dX2_saidAt_2 rfl ?_
  refine x_iload1 B 6 dX2_saidAt_5 rfl ?_
  refine x_ialdv B 7 (by repeat (first | with_reducible exact xr_h | refine xr_t ?_)) (j := p) (by first | (simp only [xlit, nI_add, pk_mul]; done) | rfl | (simp only [xlit, nI_add, pk_mul]; congr 1; omega)) ⟨by first | omega | decide, by first | decide | omega⟩ a1 dX2_saidAt_6 rfl ?_
  by_cases c : i < (L p).length
  · refine x_icmp_ge_f (tp := 24) B 10 dX2_saidAt_7 (by decide) rfl (by (try simp only [xlit]); first | (rw [nI_leI (by omega) (by omega)]; omega) | (rw [nI_ltI (by omega) (by omega)]; omega) | (rw [nI_eq (by omega) (by omega)]; omega)) ?_
    refine x_aload0 B 11 dX2_saidAt_10 rfl (by first | rfl | exact xisR_rf _) ?_
    refine g_X2_89_X2 B 14 (by repeat (first | with_reducible exact xr_h | refine xr_t ?_)) dX2_saidAt_11 rfl ?_
    refine x_bipush B 16 (v := 16) dX2_saidAt_14 (by decide) rfl ?_
    refine x_iload1 B 17 dX2_saidAt_16 rfl ?_
    refine x_imul B 18 dX2_saidAt_17 rfl ?_
    refine x_iload2 B 19 dX2_saidAt_18 rfl ?_
    refine x_iadd B 20 dX2_saidAt_19 rfl ?_
    refine x_ialdv B 21 (by repeat (first | with_reducible exact xr_h | refine xr_t ?_)) (j := 16 * p + i) (by first | (simp only [xlit, nI_add, pk_mul]; done) | rfl | (simp only [xlit, nI_add, pk_mul]; congr 1; omega)) ⟨by first | omega | decide, by first | decide | omega⟩ (a3 i c) dX2_saidAt_20 rfl ?_
    refine x_goto B 25 dX2_saidAt_21 (by decide) ?_
    refine x_iret B rfl ⟨by rw [List.getElem?_eq_getElem c, List.getD_eq_getElem?_getD, List.getElem?_eq_getElem c]; rfl, rfl⟩ dX2_saidAt_25 ⟨by first | omega | decide, by first | omega | decide⟩
  · refine x_icmp_ge_t B 24 dX2_saidAt_7 (by decide) (by (try simp only [xlit]); first | (rw [nI_leI (by omega) (by omega)]; omega) | (rw [nI_ltI (by omega) (by omega)]; omega) | (rw [nI_eq (by omega) (by omega)]; omega)) ?_
    refine x_iconst B 25 (v := (-1)) dX2_saidAt_24 (by decide) rfl ?_
    refine x_iret B rfl ⟨by rw [List.getElem?_eq_none (by omega)]; rfl, rfl⟩ dX2_saidAt_25 ⟨by first | omega | decide, by first | omega | decide⟩
theorem m_X2_said (hW : TW row iv nb nm kd N U) (p i : Int32) : XC D yX2_said (ws_ yX2_said cX2_said 3 (Option.some Jvm.ClassFile.FieldType.int)) 6 240 (0) (0) [.ref h, .int p, .int i] [tR D h ad iv, tI D ad 0 1404 row, tI D ad 36 64 sw, tI D ad 37 4 sm] (fun r cs' => r = some (.int (sSaid nb nm kd N p i)) ∧ ∃ row' sw' sm', TS 1296 1404 row row' ∧ cs' = [tR D h ad iv, tI D ad 0 1404 row', tI D ad 36 64 sw', tI D ad 37 4 sm']) x0 := by
  refine XC.of (by decide) (by simp [Value.category]) (Nat.le_of_ble_eq_true rfl) fun X B => ?_
  show WX D X [tR D h ad iv, tI D ad 0 1404 row, tI D ad 36 64 sw, tI D ad 37 4 sm] 0 0 0 [some (.ref h), some (.int p), some (.int i)] []
  have hT := hW.1
  have hO := hW.2.1.1
  have hE := hW.2.1.2
  refine x_iload1 B 1 dX2_said_0 rfl ?_
  refine x_i2l B 2 dX2_said_1 rfl ?_
  refine x_lconst B 3 (v := 0) dX2_said_2 (by decide) rfl ?_
  refine x_ldc2 B 6 dX2_said_3 q2086 rfl ?_
  refine x_callS B 9 (m_X2_in _ _ _) [] rfl q1869 q1870 q92 q1871 hd_X2_in rfl ⟨by first | decide | omega, by first | decide | omega⟩ ⟨by first | decide | omega, by first | decide | omega⟩ rfl (Nat.le_of_ble_eq_true rfl) dX2_said_6 rfl (fun _ _ _ h => h.elim) ?_
  rintro _ _ ⟨rfl, rfl⟩
  try simp only [xst, xput, xpre, List.set_cons_zero, List.set_cons_succ]
  rw [show x_in p.toInt64 0 3 = bI (toR p 0 4).isSome from xinR p 0 3 rfl rfl (by decide) (by decide)]
  rcases toR_c p 0 4 (by omega) with ⟨e, e'⟩ | ⟨p, -, hp, rfl, e, e'⟩
  · rw [e']
    refine x_if_ne_f (tp := 15) B 12 dX2_said_9 (by decide) rfl rfl ?_
    refine x_bipush B 14 (v := (-2)) dX2_said_12 (by decide) rfl ?_
    exact x_iret B rfl ⟨by simp only [sSaid, e], row, sw, sm, TS.rf, rfl⟩ dX2_said_14 ⟨by first | omega | decide, by first | omega | decide⟩
  rw [e']
  refine x_if_ne_t B 15 dX2_said_9 (by decide) (by decide) ?_
  refine x_iload2 B 16 dX2_said_15 rfl ?_
  refine x_i2l B 17 dX2_said_16 rfl ?_
  refine x_lconst B 18 (v := 0) dX2_said_17 (by decide) rfl ?_
  refine x_ldc2 B 21 dX2_said_18 q2115 rfl ?_
  refine x_callS B 24 (m_X2_in _ _ _) [] rfl q1869 q1870 q92 q1871 hd_X2_in rfl ⟨by first | decide | omega, by first | decide | omega⟩ ⟨by first | decide | omega, by first | decide | omega⟩ rfl (Nat.le_of_ble_eq_true rfl) dX2_said_21 rfl (fun _ _ _ h => h.elim) ?_
  rintro _ _ ⟨rfl, rfl⟩
  try simp only [xst, xput, xpre, List.set_cons_zero, List.set_cons_succ]
  rw [show x_in i.toInt64 0 15 = bI (toR i 0 16).isSome from xinR i 0 15 rfl rfl (by decide) (by decide)]
  rcases toR_c i 0 16 (by omega) with ⟨e2, e2'⟩ | ⟨i, -, hi, rfl, e2, e2'⟩
  · rw [e2']
    refine x_if_ne_f (tp := 30) B 27 dX2_said_24 (by decide) rfl rfl ?_
    refine x_bipush B 29 (v := (-3)) dX2_said_27 (by decide) rfl ?_
    exact x_iret B rfl ⟨by simp only [sSaid, e, e2], row, sw, sm, TS.rf, rfl⟩ dX2_said_29 ⟨by first | omega | decide, by first | omega | decide⟩
  rw [e2']
  refine x_if_ne_t B 30 dX2_said_24 (by decide) (by decide) ?_
  refine x_aload0 B 31 dX2_said_30 rfl (by first | rfl | exact xisR_rf _) ?_
  refine x_callV B 34 (m_X2_layTried hT hO) [0, 1] rfl ⟨_, _, _, (by repeat (first | with_reducible exact xr_h | refine xr_t ?_)), rfl, rfl⟩ q2011 q2013 qs61 q92 q2014 hd_X2_layTried (by decide) ⟨by first | decide | omega, by first | decide | omega⟩ ⟨by first | decide | omega, by first | decide | omega⟩ rfl (Nat.le_of_ble_eq_true rfl) dX2_said_31 rfl (fun _ _ _ h => h.elim) ?_
  rintro _ _ ⟨rfl, row1, t1, s1, rfl⟩
  try simp only [xst, xput, xpre, List.set_cons_zero, List.set_cons_succ]
  refine x_aload0 B 35 dX2_said_34 rfl (by first | rfl | exact xisR_rf _) ?_
  refine x_iconst B 36 (v := 1) dX2_said_35 (by decide) rfl ?_
  refine x_callV B 39 (m_X2_passTried t1 hO 1 (by omega) (by omega) (fun a b X => X.2.2.2.2.2 = N.2.2.2.2.2 + 1 → SAll a b (hPass kd nb nm N).2 4) (fun z => by omega) (fun j a b hj z _ => by (obtain rfl : j = 0 := by omega); exact z)) [0, 1, 2, 3] rfl ⟨_, _, _, (by repeat (first | with_reducible exact xr_h | refine xr_t ?_)), rfl, rfl⟩ q2015 q2017 qs62 q92 q2018 hd_X2_passTried (by decide) ⟨by first | decide | omega, by first | decide | omega⟩ ⟨by first | decide | omega, by first | decide | omega⟩ rfl (Nat.le_of_ble_eq_true rfl) dX2_said_36 rfl (fun _ _ _ h => h.elim) ?_
  rintro _ _ ⟨rfl, row2, sw2, sm2, t2, s2, p2, rfl⟩
  try simp only [xst, xput, xpre, List.set_cons_zero, List.set_cons_succ]
  refine x_aload0 B 40 dX2_said_39 rfl (by first | rfl | exact xisR_rf _) ?_
  refine x_iload1 B 41 dX2_said_40 rfl ?_
  refine x_iload2 B 42 dX2_said_41 rfl ?_
  refine x_callV B 45 (m_X2_saidAt (p2 (hGo_E 1)) p i hp (by omega)) [0, 2, 3] rfl ⟨_, _, _, (by repeat (first | with_reducible exact xr_h | refine xr_t ?_)), rfl, rfl⟩ q2116 q2118 qs74 q92 q2119 hd_X2_saidAt (by decide) ⟨by first | decide | omega, by first | decide | omega⟩ ⟨by first | decide | omega, by first | decide | omega⟩ rfl (Nat.le_of_ble_eq_true rfl) dX2_said_42 rfl (fun _ _ _ h => h.elim) ?_
  rintro _ _ ⟨rfl, rfl⟩
  try simp only [xst, xput, xpre, List.set_cons_zero, List.set_cons_succ]
  exact x_iret B rfl ⟨by simp only [sSaid, e, e2], row2, sw2, sm2, s1.trans s2, rfl⟩ dX2_said_45 ⟨by first | omega | decide, by first | omega | decide⟩
theorem m_X2_when (hW : TW row iv nb nm kd N U) (b w k : Int32) : XC D yX2_when (ws_ yX2_when cX2_when 5 (Option.some Jvm.ClassFile.FieldType.int)) 6 240 (0) (0) [.ref h, .int b, .int w, .int k] [tR D h ad iv, tI D ad 0 1404 row, tI D ad 36 64 sw, tI D ad 37 4 sm] (fun r cs' => r = some (.int (sWhen nb nm kd N b w k)) ∧ ∃ row' sw' sm', TS 1296 1404 row row' ∧ cs' = [tR D h ad iv, tI D ad 0 1404 row', tI D ad 36 64 sw', tI D ad 37 4 sm']) x0 := by
  refine XC.of (by decide) (by simp [Value.category]) (Nat.le_of_ble_eq_true rfl) fun X B => ?_
  show WX D X [tR D h ad iv, tI D ad 0 1404 row, tI D ad 36 64 sw, tI D ad 37 4 sm] 0 0 0 [some (.ref h), some (.int b), some (.int w), some (.int k), none] []
  have hT := hW.1
  have hO := hW.2.1.1
  have hE := hW.2.1.2
  have hnb := hO.1
  refine x_aload0 B 1 dX2_when_0 rfl (by first | rfl | exact xisR_rf _) ?_
  refine x_iload1 B 2 dX2_when_1 rfl ?_
  refine x_callV B 5 (m_isBird b hT.1 hnb) [0, 1] rfl ⟨_, _, _, (by repeat (first | with_reducible exact xr_h | refine xr_t ?_)), rfl, rfl⟩ q1974 q1976 qs57 q92 q1977 hd_X2_isBird (by decide) ⟨by first | decide | omega, by first | decide | omega⟩ ⟨by first | decide | omega, by first | decide | omega⟩ rfl (Nat.le_of_ble_eq_true rfl) dX2_when_2 rfl (fun _ _ _ h => h.elim) ?_
  rintro _ _ ⟨rfl, rfl⟩
  try simp only [xst, xput, xpre, List.set_cons_zero, List.set_cons_succ]
  rcases toR_c b 0 nb (by omega) with ⟨e, e'⟩ | ⟨j, -, hj, rfl, e, e'⟩
  · rw [e']
    refine x_if_eq_t B 15 dX2_when_5 (by decide) rfl ?_
    refine x_bipush B 17 (v := (-2)) dX2_when_15 (by decide) rfl ?_
    exact x_iret B rfl ⟨by simp only [sWhen, e], row, sw, sm, TS.rf, rfl⟩ dX2_when_17 ⟨by first | omega | decide, by first | omega | decide⟩
  rw [e']
  refine x_if_eq_f (tp := 15) B 8 dX2_when_5 (by decide) rfl (by decide) ?_
  refine x_iload2 B 9 dX2_when_8 rfl ?_
  refine x_callS B 12 (m_isWordNumber w) [] rfl q2006 q2007 q92 q2008 hd_X2_isWordNumber rfl ⟨by first | decide | omega, by first | decide | omega⟩ ⟨by first | decide | omega, by first | decide | omega⟩ rfl (Nat.le_of_ble_eq_true rfl) dX2_when_9 rfl (fun _ _ _ h => h.elim) ?_
  rintro _ _ ⟨rfl, rfl⟩
  try simp only [xst, xput, xpre, List.set_cons_zero, List.set_cons_succ]
  rcases toR_c w 0 10 (by omega) with ⟨e2, e2'⟩ | ⟨q, -, hq, rfl, e2, e2'⟩
  · rw [e2']
    refine x_if_ne_f (tp := 18) B 15 dX2_when_12 (by decide) rfl rfl ?_
    refine x_bipush B 17 (v := (-2)) dX2_when_15 (by decide) rfl ?_
    exact x_iret B rfl ⟨by simp only [sWhen, e, e2], row, sw, sm, TS.rf, rfl⟩ dX2_when_17 ⟨by first | omega | decide, by first | omega | decide⟩
  rw [e2']
  refine x_if_ne_t B 18 dX2_when_12 (by decide) (by decide) ?_
  refine x_iload3 B 19 dX2_when_18 rfl ?_
  refine x_i2l B 20 dX2_when_19 rfl ?_
  refine x_lconst B 21 (v := 1) dX2_when_20 (by decide) rfl ?_
  refine x_ldc2 B 24 dX2_when_21 q2009 rfl ?_
  refine x_callS B 27 (m_X2_in _ _ _) [] rfl q1869 q1870 q92 q1871 hd_X2_in rfl ⟨by first | decide | omega, by first | decide | omega⟩ ⟨by first | decide | omega, by first | decide | omega⟩ rfl (Nat.le_of_ble_eq_true rfl) dX2_when_24 rfl (fun _ _ _ h => h.elim) ?_
  rintro _ _ ⟨rfl, rfl⟩
  try simp only [xst, xput, xpre, List.set_cons_zero, List.set_cons_succ]
  rw [show x_in k.toInt64 1 9 = bI (toR k 1 10).isSome from xinR k 1 9 rfl rfl (by decide) (by decide)]
  rcases toR_c k 1 10 (by omega) with ⟨e3, e3'⟩ | ⟨k, hk0, hk, rfl, e3, e3'⟩
  · rw [e3']
    refine x_if_ne_f (tp := 33) B 30 dX2_when_27 (by decide) rfl rfl ?_
    refine x_bipush B 32 (v := (-3)) dX2_when_30 (by decide) rfl ?_
    exact x_iret B rfl ⟨by simp only [sWhen, e, e2, e3], row, sw, sm, TS.rf, rfl⟩ dX2_when_32 ⟨by first | omega | decide, by first | omega | decide⟩
  rw [e3']
  refine x_if_ne_t B 33 dX2_when_27 (by decide) (by decide) ?_
  have hs : sWhen nb nm kd N (nI j) (nI q) (nI k) = oI (hWhen kd nb nm j q k N 0 61) := by simp only [sWhen, e, e2, e3]
  rw [hs] at B
  refine x_aload0 B 34 dX2_when_33 rfl (by first | rfl | exact xisR_rf _) ?_
  refine x_callV B 37 (m_X2_layTried hT hO) [0, 1] rfl ⟨_, _, _, (by repeat (first | with_reducible exact xr_h | refine xr_t ?_)), rfl, rfl⟩ q2011 q2013 qs61 q92 q2014 hd_X2_layTried (by decide) ⟨by first | decide | omega, by first | decide | omega⟩ ⟨by first | decide | omega, by first | decide | omega⟩ rfl (Nat.le_of_ble_eq_true rfl) dX2_when_34 rfl (fun _ _ _ h => h.elim) ?_
  rintro _ _ ⟨rfl, row1, t1, s1, rfl⟩
  try simp only [xst, xput, xpre, List.set_cons_zero, List.set_cons_succ]
  have loop : ∀ (m n : Nat), n + m = 61 → ∀ row' sw' sm', TRep row' 1296 nb nm kd (hGo kd nb nm N n) → TS 1296 1404 row row' → hWhen kd nb nm j q k N n m = hWhen kd nb nm j q k N 0 61 → WX D X [tR D h ad iv, tI D ad 0 1404 row', tI D ad 36 64 sw', tI D ad 37 4 sm'] 0 0 40 [some (.ref h), some (.int (nI j)), some (.int (nI q)), some (.int (nI k)), some (.int (nI n))] [] := by
    intro m
    induction m with
    | zero =>
      intro n hn row' sw' sm' h1 h2 h3
      obtain rfl : n = 61 := by omega
      refine x_iload4 B 42 dX2_when_40 rfl ?_
      refine x_bipush B 44 (v := 61) dX2_when_42 (by decide) rfl ?_
      refine x_icmp_ge_t B 80 dX2_when_44 (by decide) (by (try simp only [xlit]); first | (rw [nI_leI (by omega) (by omega)]; omega) | (rw [nI_ltI (by omega) (by omega)]; omega) | (rw [nI_eq (by omega) (by omega)]; omega)) ?_
      refine x_iconst B 81 (v := (-1)) dX2_when_80 (by decide) rfl ?_
      exact x_iret B rfl ⟨by rw [← h3]; rfl, row', sw', sm', h2, rfl⟩ dX2_when_81 ⟨by first | omega | decide, by first | omega | decide⟩
    | succ m ih =>
      intro n hn row' sw' sm' h1 h2 h3
      have hO1 := hO.go n (by omega)
      have hk1 := hO1.2.2.2.1 j q hj hq
      rw [show hWhen kd nb nm j q k N n (m + 1) = if k ≤ (hGo kd nb nm N n).1 j q then some n else hWhen kd nb nm j q k N (n + 1) m from rfl] at h3
      refine x_iload4 B 42 dX2_when_40 rfl ?_
      refine x_bipush B 44 (v := 61) dX2_when_42 (by decide) rfl ?_
      refine x_icmp_ge_f (tp := 80) B 47 dX2_when_44 (by decide) rfl (by (try simp only [xlit]); first | (rw [nI_leI (by omega) (by omega)]; omega) | (rw [nI_ltI (by omega) (by omega)]; omega) | (rw [nI_eq (by omega) (by omega)]; omega)) ?_
      refine x_aload0 B 48 dX2_when_47 rfl (by first | rfl | exact xisR_rf _) ?_
      refine g_X2_7_X2 B 51 (by repeat (first | with_reducible exact xr_h | refine xr_t ?_)) dX2_when_48 rfl ?_
      refine x_sipush B 54 (v := 1316) dX2_when_51 (by decide) rfl ?_
      refine x_bipush B 56 (v := 10) dX2_when_54 (by decide) rfl ?_
      refine x_iload1 B 57 dX2_when_56 rfl ?_
      refine x_imul B 58 dX2_when_57 rfl ?_
      refine x_iadd B 59 dX2_when_58 rfl ?_
      refine x_iload2 B 60 dX2_when_59 rfl ?_
      refine x_iadd B 61 dX2_when_60 rfl ?_
      rw [show (1316 : Int32) + 10 * nI j + nI q = nI (1296 + 20 + 10 * j + q) by simp only [xlit, nI_add, pk_mul]]
      refine x_ialdv B 62 (by repeat (first | with_reducible exact xr_h | refine xr_t ?_)) (j := 1296 + 20 + 10 * j + q) (by first | (simp only [xlit, nI_add, pk_mul]; done) | rfl | (simp only [xlit, nI_add, pk_mul]; congr 1; omega)) ⟨by first | omega | decide, by first | decide | omega⟩ (h1.2.2.2.2.2.2.1 j q hj hq) dX2_when_61 rfl ?_
      by_cases c : k ≤ (hGo kd nb nm N n).1 j q
      · rw [if_pos c] at h3
        refine x_iload3 B 63 dX2_when_62 rfl ?_
        refine x_icmp_lt_f (tp := 69) B 66 dX2_when_63 (by decide) rfl (by (try simp only [xlit]); first | (rw [nI_leI (by omega) (by omega)]; omega) | (rw [nI_ltI (by omega) (by omega)]; omega) | (rw [nI_eq (by omega) (by omega)]; omega)) ?_
        refine x_iload4 B 68 dX2_when_66 rfl ?_
        exact x_iret B rfl ⟨by rw [← h3]; rfl, row', sw', sm', h2, rfl⟩ dX2_when_68 ⟨by first | omega | decide, by first | omega | decide⟩
      · rw [if_neg c] at h3
        refine x_iload3 B 63 dX2_when_62 rfl ?_
        refine x_icmp_lt_t B 69 dX2_when_63 (by decide) (by (try simp only [xlit]); first | (rw [nI_leI (by omega) (by omega)]; omega) | (rw [nI_ltI (by omega) (by omega)]; omega) | (rw [nI_eq (by omega) (by omega)]; omega)) ?_
        refine x_aload0 B 70 dX2_when_69 rfl (by first | rfl | exact xisR_rf _) ?_
        refine x_iconst B 71 (v := 1) dX2_when_70 (by decide) rfl ?_
        refine x_callV B 74 (m_X2_passTried h1 hO1 1 (by omega) (by rw [hGo_E]; omega) (fun _ _ _ => True) trivial (fun _ _ _ _ _ => trivial)) [0, 1, 2, 3] rfl ⟨_, _, _, (by repeat (first | with_reducible exact xr_h | refine xr_t ?_)), rfl, rfl⟩ q2015 q2017 qs62 q92 q2018 hd_X2_passTried (by decide) ⟨by first | decide | omega, by first | decide | omega⟩ ⟨by first | decide | omega, by first | decide | omega⟩ rfl (Nat.le_of_ble_eq_true rfl) dX2_when_71 rfl (fun _ _ _ h => h.elim) ?_
        rintro _ _ ⟨rfl, row2, sw2, sm2, t2, s2, -, rfl⟩
        try simp only [xst, xput, xpre, List.set_cons_zero, List.set_cons_succ]
        refine x_iinc4 B 77 dX2_when_74 rfl (by first | exact xinc _ | rfl) ?_
        refine x_goto B 40 dX2_when_77 (by decide) ?_
        exact ih (n + 1) (by omega) row2 sw2 sm2 t2 (h2.trans s2) h3
  refine x_iconst B 38 (v := 0) dX2_when_37 (by decide) rfl ?_
  refine x_istore4 B 40 dX2_when_38 rfl ?_
  exact loop 61 0 rfl row1 sw sm t1 s1 rfl
theorem m_X2_keptBy (hW : TW row iv nb nm kd N U) (m b n : Nat) (hm : m < nm) (hb : b < nb) (hn : n ≤ 20) : XC D yX2_keptBy (ws_ yX2_keptBy cX2_keptBy 4 (Option.some Jvm.ClassFile.FieldType.int)) 6 240 (0) (0) [.ref h, .int (nI m), .int (nI b), .int (nI n)] [tR D h ad iv, tI D ad 0 1404 row, tI D ad 36 64 sw, tI D ad 37 4 sm] (fun r cs' => r = some (.int (nI (hKeep kd nb nm N m b n))) ∧ ∃ row' sw' sm', TS 1296 1404 row row' ∧ cs' = [tR D h ad iv, tI D ad 0 1404 row', tI D ad 36 64 sw', tI D ad 37 4 sm']) x0 := by
  refine XC.of (by decide) (by simp [Value.category]) (Nat.le_of_ble_eq_true rfl) fun X B => ?_
  show WX D X [tR D h ad iv, tI D ad 0 1404 row, tI D ad 36 64 sw, tI D ad 37 4 sm] 0 0 0 [some (.ref h), some (.int (nI m)), some (.int (nI b)), some (.int (nI n))] []
  have hT := hW.1
  have hO := hW.2.1.1
  have hE := hW.2.1.2
  have hnm := hO.2.1
  have hO1 := hO.sets hm (b := some b) (fun i e => by cases e; exact hb)
  refine x_aload0 B 1 dX2_keptBy_0 rfl (by first | rfl | exact xisR_rf _) ?_
  refine x_callV B 4 (m_X2_layTried hT hO) [0, 1] rfl ⟨_, _, _, (by repeat (first | with_reducible exact xr_h | refine xr_t ?_)), rfl, rfl⟩ q2011 q2013 qs61 q92 q2014 hd_X2_layTried (by decide) ⟨by first | decide | omega, by first | decide | omega⟩ ⟨by first | decide | omega, by first | decide | omega⟩ rfl (Nat.le_of_ble_eq_true rfl) dX2_keptBy_1 rfl (fun _ _ _ h => h.elim) ?_
  rintro _ _ ⟨rfl, row1, t1, s1, rfl⟩
  try simp only [xst, xput, xpre, List.set_cons_zero, List.set_cons_succ]
  refine x_aload0 B 5 dX2_keptBy_4 rfl (by first | rfl | exact xisR_rf _) ?_
  refine x_sipush B 8 (v := 1296) dX2_keptBy_5 (by decide) rfl ?_
  refine x_iload1 B 9 dX2_keptBy_8 rfl ?_
  refine x_iload2 B 10 dX2_keptBy_9 rfl ?_
  refine x_callV B 13 (m_X2_sets t1 hO (by omega) m hm (some b) (fun i e => by cases e; exact hb)) [0, 1] rfl ⟨_, _, _, (by repeat (first | with_reducible exact xr_h | refine xr_t ?_)), rfl, rfl⟩ q2095 q2097 qs73 q92 q2098 hd_X2_sets (by decide) ⟨by first | decide | omega, by first | decide | omega⟩ ⟨by first | decide | omega, by first | decide | omega⟩ rfl (Nat.le_of_ble_eq_true rfl) dX2_keptBy_10 rfl (fun _ _ _ h => h.elim) ?_
  rintro _ _ ⟨rfl, row2, t2, s2, rfl⟩
  try simp only [xst, xput, xpre, List.set_cons_zero, List.set_cons_succ]
  refine x_aload0 B 14 dX2_keptBy_13 rfl (by first | rfl | exact xisR_rf _) ?_
  refine x_iload3 B 15 dX2_keptBy_14 rfl ?_
  refine x_callV B 18 (m_X2_passTried t2 hO1 n (by omega) (by show N.2.2.2.2.2 + n < _; omega) (fun _ _ _ => True) trivial (fun _ _ _ _ _ => trivial)) [0, 1, 2, 3] rfl ⟨_, _, _, (by repeat (first | with_reducible exact xr_h | refine xr_t ?_)), rfl, rfl⟩ q2015 q2017 qs62 q92 q2018 hd_X2_passTried (by decide) ⟨by first | decide | omega, by first | decide | omega⟩ ⟨by first | decide | omega, by first | decide | omega⟩ rfl (Nat.le_of_ble_eq_true rfl) dX2_keptBy_15 rfl (fun _ _ _ h => h.elim) ?_
  rintro _ _ ⟨rfl, row3, sw3, sm3, t3, s3, -, rfl⟩
  try simp only [xst, xput, xpre, List.set_cons_zero, List.set_cons_succ]
  have hO3 := hO1.go n (by show N.2.2.2.2.2 + n < _; omega)
  refine x_aload0 B 19 dX2_keptBy_18 rfl (by first | rfl | exact xisR_rf _) ?_
  refine x_sipush B 22 (v := 1296) dX2_keptBy_19 (by decide) rfl ?_
  refine x_iload2 B 23 dX2_keptBy_22 rfl ?_
  refine x_callV B 26 (m_X2_wellKnown t3 hO3 (by omega) b hb) [0, 1] rfl ⟨_, _, _, (by repeat (first | with_reducible exact xr_h | refine xr_t ?_)), rfl, rfl⟩ q1982 q1984 qs59 q92 q1985 hd_X2_wellKnown (by decide) ⟨by first | decide | omega, by first | decide | omega⟩ ⟨by first | decide | omega, by first | decide | omega⟩ rfl (Nat.le_of_ble_eq_true rfl) dX2_keptBy_23 rfl (fun _ _ _ h => h.elim) ?_
  rintro _ _ ⟨rfl, rfl⟩
  try simp only [xst, xput, xpre, List.set_cons_zero, List.set_cons_succ]
  have hN3 : TRep row3 0 nb nm kd N := ((hT.keep hO.1 hnm s1 (by omega)).keep hO.1 hnm s2 (by omega)).keep hO.1 hnm s3 (by omega)
  have hH := hO.2.2.2.2.2.1 m hm
  refine x_aload0 B 27 dX2_keptBy_26 rfl (by first | rfl | exact xisR_rf _) ?_
  refine g_X2_7_X2 B 30 (by repeat (first | with_reducible exact xr_h | refine xr_t ?_)) dX2_keptBy_27 rfl ?_
  refine x_bipush B 32 (v := 100) dX2_keptBy_30 (by decide) rfl ?_
  refine x_iload1 B 33 dX2_keptBy_32 rfl ?_
  refine x_iadd B 34 dX2_keptBy_33 rfl ?_
  refine x_ialdv B 35 (by repeat (first | with_reducible exact xr_h | refine xr_t ?_)) (j := 100 + m) (by first | (simp only [xlit, nI_add, pk_mul]; done) | rfl | (simp only [xlit, nI_add, pk_mul]; congr 1; omega)) ⟨by first | omega | decide, by first | decide | omega⟩ ((congrArg row3 (by omega)).trans (hN3.2.2.2.2.2.2.2.1 m hm)) dX2_keptBy_34 rfl ?_
  refine x_iand B 36 dX2_keptBy_35 rfl ?_
  rw [xand_nI]
  have h4 : hWell ((hGo kd nb nm (hSets N nm m (some b)) n).1 b) 10 &&& N.2.2.1 m < 1024 := Nat.lt_of_le_of_lt Nat.and_le_right hH
  refine x_callS B 39 (m_X2_bits _) [] rfl q2133 q2134 q92 q2135 hd_X2_bits rfl ⟨by first | decide | omega, by first | decide | omega⟩ ⟨by first | decide | omega, by first | decide | omega⟩ rfl (Nat.le_of_ble_eq_true rfl) dX2_keptBy_36 rfl (fun _ _ _ h => h.elim) ?_
  rintro _ _ ⟨rfl, rfl⟩
  try simp only [xst, xput, xpre, List.set_cons_zero, List.set_cons_succ]
  rw [t_bits_h (by omega) 10 (by omega)]
  exact x_iret B rfl ⟨rfl, row3, sw3, sm3, (s1.trans s2).trans s3, rfl⟩ dX2_keptBy_39 ⟨by first | omega | decide, by first | omega | decide⟩
theorem m_X2_keeps (hW : TW row iv nb nm kd N U) (m b n : Int32) : XC D yX2_keeps (ws_ yX2_keeps cX2_keeps 4 (Option.some Jvm.ClassFile.FieldType.int)) 7 280 (0) (0) [.ref h, .int m, .int b, .int n] [tR D h ad iv, tI D ad 0 1404 row, tI D ad 36 64 sw, tI D ad 37 4 sm] (fun r cs' => r = some (.int (sKeeps nb nm kd N m b n)) ∧ ∃ row' sw' sm', TS 1296 1404 row row' ∧ cs' = [tR D h ad iv, tI D ad 0 1404 row', tI D ad 36 64 sw', tI D ad 37 4 sm']) x0 := by
  refine XC.of (by decide) (by simp [Value.category]) (Nat.le_of_ble_eq_true rfl) fun X B => ?_
  show WX D X [tR D h ad iv, tI D ad 0 1404 row, tI D ad 36 64 sw, tI D ad 37 4 sm] 0 0 0 [some (.ref h), some (.int m), some (.int b), some (.int n)] []
  have hT := hW.1
  have hO := hW.2.1.1
  have hnb := hO.1
  have hnm := hO.2.1
  refine x_aload0 B 1 dX2_keeps_0 rfl (by first | rfl | exact xisR_rf _) ?_
  refine x_iload1 B 2 dX2_keeps_1 rfl ?_
  refine x_callV B 5 (m_isMan m hT.2.1 (by omega)) [0, 1] rfl ⟨_, _, _, (by repeat (first | with_reducible exact xr_h | refine xr_t ?_)), rfl, rfl⟩ q1990 q1992 qs60 q92 q1993 hd_X2_isMan (by decide) ⟨by first | decide | omega, by first | decide | omega⟩ ⟨by first | decide | omega, by first | decide | omega⟩ rfl (Nat.le_of_ble_eq_true rfl) dX2_keeps_2 rfl (fun _ _ _ h => h.elim) ?_
  rintro _ _ ⟨rfl, rfl⟩
  try simp only [xst, xput, xpre, List.set_cons_zero, List.set_cons_succ]
  rcases toR_c m 0 nm (by omega) with ⟨e, e'⟩ | ⟨m, -, hm, rfl, e, e'⟩
  · rw [e']
    refine x_if_eq_t B 16 dX2_keeps_5 (by decide) rfl ?_
    refine x_bipush B 18 (v := (-2)) dX2_keeps_16 (by decide) rfl ?_
    exact x_iret B rfl ⟨by simp only [sKeeps, e], row, sw, sm, TS.rf, rfl⟩ dX2_keeps_18 ⟨by first | omega | decide, by first | omega | decide⟩
  rw [e']
  refine x_if_eq_f (tp := 16) B 8 dX2_keeps_5 (by decide) rfl (by decide) ?_
  refine x_aload0 B 9 dX2_keeps_8 rfl (by first | rfl | exact xisR_rf _) ?_
  refine x_iload2 B 10 dX2_keeps_9 rfl ?_
  refine x_callV B 13 (m_isBird b hT.1 hnb) [0, 1] rfl ⟨_, _, _, (by repeat (first | with_reducible exact xr_h | refine xr_t ?_)), rfl, rfl⟩ q1974 q1976 qs57 q92 q1977 hd_X2_isBird (by decide) ⟨by first | decide | omega, by first | decide | omega⟩ ⟨by first | decide | omega, by first | decide | omega⟩ rfl (Nat.le_of_ble_eq_true rfl) dX2_keeps_10 rfl (fun _ _ _ h => h.elim) ?_
  rintro _ _ ⟨rfl, rfl⟩
  try simp only [xst, xput, xpre, List.set_cons_zero, List.set_cons_succ]
  rcases toR_c b 0 nb (by omega) with ⟨e2, e2'⟩ | ⟨b, -, hb, rfl, e2, e2'⟩
  · rw [e2']
    refine x_if_ne_f (tp := 19) B 16 dX2_keeps_13 (by decide) rfl rfl ?_
    refine x_bipush B 18 (v := (-2)) dX2_keeps_16 (by decide) rfl ?_
    exact x_iret B rfl ⟨by simp only [sKeeps, e, e2], row, sw, sm, TS.rf, rfl⟩ dX2_keeps_18 ⟨by first | omega | decide, by first | omega | decide⟩
  rw [e2']
  refine x_if_ne_t B 19 dX2_keeps_13 (by decide) (by decide) ?_
  refine x_iload3 B 20 dX2_keeps_19 rfl ?_
  refine x_i2l B 21 dX2_keeps_20 rfl ?_
  refine x_lconst B 22 (v := 1) dX2_keeps_21 (by decide) rfl ?_
  refine x_ldc2 B 25 dX2_keeps_22 q2128 rfl ?_
  refine x_callS B 28 (m_X2_in _ _ _) [] rfl q1869 q1870 q92 q1871 hd_X2_in rfl ⟨by first | decide | omega, by first | decide | omega⟩ ⟨by first | decide | omega, by first | decide | omega⟩ rfl (Nat.le_of_ble_eq_true rfl) dX2_keeps_25 rfl (fun _ _ _ h => h.elim) ?_
  rintro _ _ ⟨rfl, rfl⟩
  try simp only [xst, xput, xpre, List.set_cons_zero, List.set_cons_succ]
  rw [show x_in n.toInt64 1 20 = bI (toR n 1 21).isSome from xinR n 1 20 rfl rfl (by decide) (by decide)]
  rcases toR_c n 1 21 (by omega) with ⟨e3, e3'⟩ | ⟨n, hn0, hn, rfl, e3, e3'⟩
  · rw [e3']
    refine x_if_eq_t B 41 dX2_keeps_28 (by decide) rfl ?_
    refine x_bipush B 43 (v := (-3)) dX2_keeps_41 (by decide) rfl ?_
    exact x_iret B rfl ⟨by simp only [sKeeps, e, e2, e3], row, sw, sm, TS.rf, rfl⟩ dX2_keeps_43 ⟨by first | omega | decide, by first | omega | decide⟩
  rw [e3']
  refine x_if_eq_f (tp := 41) B 31 dX2_keeps_28 (by decide) rfl (by decide) ?_
  refine x_aload0 B 32 dX2_keeps_31 rfl (by first | rfl | exact xisR_rf _) ?_
  refine x_iload1 B 33 dX2_keeps_32 rfl ?_
  refine x_iload2 B 34 dX2_keeps_33 rfl ?_
  refine x_iload3 B 35 dX2_keeps_34 rfl ?_
  refine x_callV B 38 (m_X2_keptBy hW m b n hm hb (by omega)) [0, 1, 2, 3] rfl ⟨_, _, _, (by repeat (first | with_reducible exact xr_h | refine xr_t ?_)), rfl, rfl⟩ q2129 q2131 qs75 q92 q2132 hd_X2_keptBy (by decide) ⟨by first | decide | omega, by first | decide | omega⟩ ⟨by first | decide | omega, by first | decide | omega⟩ rfl (Nat.le_of_ble_eq_true rfl) dX2_keeps_35 rfl (fun _ _ _ h => h.elim) ?_
  rintro _ _ ⟨rfl, row2, sw2, sm2, s2, rfl⟩
  try simp only [xst, xput, xpre, List.set_cons_zero, List.set_cons_succ]
  refine x_goto B 43 dX2_keeps_38 (by decide) ?_
  exact x_iret B rfl ⟨by simp only [sKeeps, e, e2, e3], row2, sw2, sm2, s2, rfl⟩ dX2_keeps_43 ⟨by first | omega | decide, by first | omega | decide⟩
end T8
