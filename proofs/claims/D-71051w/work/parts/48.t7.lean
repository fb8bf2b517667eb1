/-! the twin, 7: what is done -/
section T7
variable {D : xG} {h : Nat} {ad : Nat → Nat} {iv row : Nat → Int32} {base nb nm : Nat} {kd : Nat → Nat} {S N : HS} {sw sm : Nat → Int32} {U : List HS}
theorem m_X2_evening (hW : TW row iv nb nm kd N U) (n : Int32) (q : HU) (hq : sEvening nb nm kd N U n = q) : XC D yX2_evening (ws_ yX2_evening cX2_evening 3 (Option.some Jvm.ClassFile.FieldType.int)) 6 240 (0) (0) [.ref h, .int n] [tR D h ad iv, tI D ad 0 1404 row, tI D ad 36 64 sw, tI D ad 37 4 sm] (fun r cs' => r = some (.int q.1) ∧ ∃ row' iv' sw' sm', TW row' iv' nb nm kd q.2.1 q.2.2 ∧ TK row row' ∧ TI iv iv' ∧ cs' = [tR D h ad iv', tI D ad 0 1404 row', tI D ad 36 64 sw', tI D ad 37 4 sm']) x0 := by
  refine XC.of (by decide) (by simp [Value.category]) (Nat.le_of_ble_eq_true rfl) fun X B => ?_
  show WX D X [tR D h ad iv, tI D ad 0 1404 row, tI D ad 36 64 sw, tI D ad 37 4 sm] 0 0 0 [some (.ref h), some (.int n), none] []
  have hT := hW.1
  have hO := hW.2.1.1
  have hE := hW.2.1.2
  have hnb := hO.1
  refine x_iload1 B 1 dX2_evening_0 rfl ?_
  refine x_i2l B 2 dX2_evening_1 rfl ?_
  refine x_lconst B 3 (v := 1) dX2_evening_2 (by decide) rfl ?_
  refine x_ldc2 B 6 dX2_evening_3 q2069 rfl ?_
  refine x_callS B 9 (m_X2_in _ _ _) [] rfl q1869 q1870 q92 q1871 hd_X2_in rfl ⟨by first | decide | omega, by first | decide | omega⟩ ⟨by first | decide | omega, by first | decide | omega⟩ rfl (Nat.le_of_ble_eq_true rfl) dX2_evening_6 rfl (fun _ _ _ h => h.elim) ?_
  rintro _ _ ⟨rfl, rfl⟩
  try simp only [xst, xput, xpre, List.set_cons_zero, List.set_cons_succ]
  rw [show x_in n.toInt64 1 12 = bI (toR n 1 13).isSome from xinR n 1 12 rfl rfl (by decide) (by decide)]
  rcases toR_c n 1 13 (by omega) with ⟨e, e'⟩ | ⟨n, hn0, hn, rfl, e, e'⟩
  · rw [e']
    refine x_if_ne_f (tp := 15) B 12 dX2_evening_9 (by decide) rfl rfl ?_
    simp only [sEvening, e] at hq; subst hq
    refine x_bipush B 14 (v := (-3)) dX2_evening_12 (by decide) rfl ?_
    exact x_iret B rfl ⟨rfl, row, iv, sw, sm, hW, TK.rf, TI.rf, rfl⟩ dX2_evening_14 ⟨by first | omega | decide, by first | omega | decide⟩
  rw [e']
  refine x_if_ne_t B 15 dX2_evening_9 (by decide) (by decide) ?_
  refine x_aload0 B 16 dX2_evening_15 rfl (by first | rfl | exact xisR_rf _) ?_
  refine g_X2_7_X2 B 19 (by repeat (first | with_reducible exact xr_h | refine xr_t ?_)) dX2_evening_16 rfl ?_
  refine x_iconst B 20 (v := 2) dX2_evening_19 (by decide) rfl ?_
  refine x_ialdv B 21 (by repeat (first | with_reducible exact xr_h | refine xr_t ?_)) rfl ⟨by first | omega | decide, by first | decide | omega⟩ hT.2.2.1 dX2_evening_20 rfl ?_
  refine x_iload1 B 22 dX2_evening_21 rfl ?_
  refine x_iadd B 23 dX2_evening_22 rfl ?_
  rw [nI_add]
  by_cases c : 999 < N.2.2.2.2.2 + n
  · refine x_sipush B 26 (v := 999) dX2_evening_23 (by decide) rfl ?_
    refine x_icmp_le_f (tp := 32) B 29 dX2_evening_26 (by decide) rfl (by (try simp only [xlit]); first | (rw [nI_leI (by omega) (by omega)]; omega) | (rw [nI_ltI (by omega) (by omega)]; omega) | (rw [nI_eq (by omega) (by omega)]; omega)) ?_
    simp only [sEvening, e] at hq; rw [if_pos c] at hq; subst hq
    refine x_bipush B 31 (v := (-5)) dX2_evening_29 (by decide) rfl ?_
    exact x_iret B rfl ⟨rfl, row, iv, sw, sm, hW, TK.rf, TI.rf, rfl⟩ dX2_evening_31 ⟨by first | omega | decide, by first | omega | decide⟩
  refine x_sipush B 26 (v := 999) dX2_evening_23 (by decide) rfl ?_
  refine x_icmp_le_t B 32 dX2_evening_26 (by decide) (by (try simp only [xlit]); first | (rw [nI_leI (by omega) (by omega)]; omega) | (rw [nI_ltI (by omega) (by omega)]; omega) | (rw [nI_eq (by omega) (by omega)]; omega)) ?_
  simp only [sEvening, e] at hq; rw [if_neg c] at hq; subst hq
  refine x_aload0 B 33 dX2_evening_32 rfl (by first | rfl | exact xisR_rf _) ?_
  refine x_callV B 36 (m_X2_keepPast hW) [0, 1] rfl ⟨_, _, _, (by repeat (first | with_reducible exact xr_h | refine xr_t ?_)), rfl, rfl⟩ q2070 q2072 qs72 q92 q2073 hd_X2_keepPast (by decide) ⟨by first | decide | omega, by first | decide | omega⟩ ⟨by first | decide | omega, by first | decide | omega⟩ rfl (Nat.le_of_ble_eq_true rfl) dX2_evening_33 rfl (fun _ _ _ h => h.elim) ?_
  rintro _ _ ⟨rfl, row1, iv1, W1, K1, I1, rfl⟩
  try simp only [xst, xput, xpre, List.set_cons_zero, List.set_cons_succ]
  have loop : ∀ (m k : Nat), k + m = n → ∀ row' sw' sm', TRep row' 0 nb nm kd (hGo kd nb nm N k) → TS 0 108 row1 row' → WX D X [tR D h ad iv1, tI D ad 0 1404 row', tI D ad 36 64 sw', tI D ad 37 4 sm'] 0 0 38 [some (.ref h), some (.int (nI n)), some (.int (nI k))] [] := by
    intro m
    induction m with
    | zero =>
      intro k hk row' sw' sm' h1 h2
      obtain rfl : k = n := by omega
      refine x_iload2 B 39 dX2_evening_38 rfl ?_
      refine x_iload1 B 40 dX2_evening_39 rfl ?_
      refine x_icmp_ge_t B 54 dX2_evening_40 (by decide) (by (try simp only [xlit]); first | (rw [nI_leI (by omega) (by omega)]; omega) | (rw [nI_ltI (by omega) (by omega)]; omega) | (rw [nI_eq (by omega) (by omega)]; omega)) ?_
      refine x_aload0 B 55 dX2_evening_54 rfl (by first | rfl | exact xisR_rf _) ?_
      refine g_X2_7_X2 B 58 (by repeat (first | with_reducible exact xr_h | refine xr_t ?_)) dX2_evening_55 rfl ?_
      refine x_iconst B 59 (v := 2) dX2_evening_58 (by decide) rfl ?_
      refine x_ialdv B 60 (by repeat (first | with_reducible exact xr_h | refine xr_t ?_)) rfl ⟨by first | omega | decide, by first | decide | omega⟩ (h1.2.2.1.trans (by rw [hGo_E])) dX2_evening_59 rfl ?_
      exact x_iret B rfl ⟨rfl, row', iv1, sw', sm', W1.now h1 ⟨hO.go k (by omega), by rw [hGo_E]; omega⟩ h2, K1.now h2, I1, rfl⟩ dX2_evening_60 ⟨by first | omega | decide, by first | omega | decide⟩
    | succ m ih =>
      intro k hk row' sw' sm' h1 h2
      refine x_iload2 B 39 dX2_evening_38 rfl ?_
      refine x_iload1 B 40 dX2_evening_39 rfl ?_
      refine x_icmp_ge_f (tp := 54) B 43 dX2_evening_40 (by decide) rfl (by (try simp only [xlit]); first | (rw [nI_leI (by omega) (by omega)]; omega) | (rw [nI_ltI (by omega) (by omega)]; omega) | (rw [nI_eq (by omega) (by omega)]; omega)) ?_
      refine x_aload0 B 44 dX2_evening_43 rfl (by first | rfl | exact xisR_rf _) ?_
      refine x_iconst B 45 (v := 0) dX2_evening_44 (by decide) rfl ?_
      refine x_callV B 48 (m_X2_passes h1 (hO.go k (by omega)) (by omega)) [0, 1, 2, 3] rfl ⟨_, _, _, (by repeat (first | with_reducible exact xr_h | refine xr_t ?_)), rfl, rfl⟩ q2019 q2021 qs63 q92 q2022 hd_X2_passes (by decide) ⟨by first | decide | omega, by first | decide | omega⟩ ⟨by first | decide | omega, by first | decide | omega⟩ rfl (Nat.le_of_ble_eq_true rfl) dX2_evening_45 rfl (fun _ _ _ h => h.elim) ?_
      rintro _ _ ⟨rfl, row2, sw2, sm2, g1, g2, g3, rfl⟩
      try simp only [xst, xput, xpre, List.set_cons_zero, List.set_cons_succ]
      refine x_iinc2 B 51 dX2_evening_48 rfl (by first | exact xinc _ | rfl) ?_
      refine x_goto B 38 dX2_evening_51 (by decide) ?_
      exact ih (k + 1) (by omega) row2 sw2 sm2 g1 (h2.trans g2.ts)
  refine x_iconst B 37 (v := 0) dX2_evening_36 (by decide) rfl ?_
  refine x_istore2 B 38 dX2_evening_37 rfl ?_
  exact loop n 0 (by omega) row1 sw sm W1.1 TS.rf
theorem m_X2_teach (hW : TW row iv nb nm kd N U) (b w : Int32) (q : HU) (hq : sTeach nb N U b w = q) : XC D yX2_teach (ws_ yX2_teach cX2_teach 3 (Option.some Jvm.ClassFile.FieldType.int)) 3 120 (0) (0) [.ref h, .int b, .int w] [tR D h ad iv, tI D ad 0 1404 row] (fun r cs' => r = some (.int q.1) ∧ ∃ row' iv', TW row' iv' nb nm kd q.2.1 q.2.2 ∧ TK row row' ∧ TI iv iv' ∧ cs' = [tR D h ad iv', tI D ad 0 1404 row']) x0 := by
  refine XC.of (by decide) (by simp [Value.category]) (Nat.le_of_ble_eq_true rfl) fun X B => ?_
  show WX D X [tR D h ad iv, tI D ad 0 1404 row] 0 0 0 [some (.ref h), some (.int b), some (.int w)] []
  have hT := hW.1
  have hO := hW.2.1.1
  have hE := hW.2.1.2
  have hnb := hO.1
  refine x_aload0 B 1 dX2_teach_0 rfl (by first | rfl | exact xisR_rf _) ?_
  refine x_iload1 B 2 dX2_teach_1 rfl ?_
  refine x_callV B 5 (m_isBird b hT.1 hnb) [0, 1] rfl ⟨_, _, _, (by repeat (first | with_reducible exact xr_h | refine xr_t ?_)), rfl, rfl⟩ q1974 q1976 qs57 q92 q1977 hd_X2_isBird (by decide) ⟨by first | decide | omega, by first | decide | omega⟩ ⟨by first | decide | omega, by first | decide | omega⟩ rfl (Nat.le_of_ble_eq_true rfl) dX2_teach_2 rfl (fun _ _ _ h => h.elim) ?_
  rintro _ _ ⟨rfl, rfl⟩
  try simp only [xst, xput, xpre, List.set_cons_zero, List.set_cons_succ]
  rcases toR_c b 0 nb (by omega) with ⟨e, e'⟩ | ⟨j, -, hj, rfl, e, e'⟩
  · rw [e']
    refine x_if_eq_t B 15 dX2_teach_5 (by decide) rfl ?_
    simp only [sTeach, e] at hq; subst hq
    refine x_bipush B 17 (v := (-2)) dX2_teach_15 (by decide) rfl ?_
    exact x_iret B rfl ⟨rfl, row, iv, hW, TK.rf, TI.rf, rfl⟩ dX2_teach_17 ⟨by first | omega | decide, by first | omega | decide⟩
  rw [e']
  refine x_if_eq_f (tp := 15) B 8 dX2_teach_5 (by decide) rfl (by decide) ?_
  refine x_iload2 B 9 dX2_teach_8 rfl ?_
  refine x_callS B 12 (m_isWordNumber w) [] rfl q2006 q2007 q92 q2008 hd_X2_isWordNumber rfl ⟨by first | decide | omega, by first | decide | omega⟩ ⟨by first | decide | omega, by first | decide | omega⟩ rfl (Nat.le_of_ble_eq_true rfl) dX2_teach_9 rfl (fun _ _ _ h => h.elim) ?_
  rintro _ _ ⟨rfl, rfl⟩
  try simp only [xst, xput, xpre, List.set_cons_zero, List.set_cons_succ]
  rcases toR_c w 0 10 (by omega) with ⟨e2, e2'⟩ | ⟨w, -, hw, rfl, e2, e2'⟩
  · rw [e2']
    refine x_if_ne_f (tp := 18) B 15 dX2_teach_12 (by decide) rfl rfl ?_
    simp only [sTeach, e, e2] at hq; subst hq
    refine x_bipush B 17 (v := (-2)) dX2_teach_15 (by decide) rfl ?_
    exact x_iret B rfl ⟨rfl, row, iv, hW, TK.rf, TI.rf, rfl⟩ dX2_teach_17 ⟨by first | omega | decide, by first | omega | decide⟩
  rw [e2']
  refine x_if_ne_t B 18 dX2_teach_12 (by decide) (by decide) ?_
  simp only [sTeach, e, e2] at hq; subst hq
  refine x_aload0 B 19 dX2_teach_18 rfl (by first | rfl | exact xisR_rf _) ?_
  refine x_callV B 22 (m_X2_keepPast hW) [0, 1] rfl ⟨_, _, _, (by repeat (first | with_reducible exact xr_h | refine xr_t ?_)), rfl, rfl⟩ q2070 q2072 qs72 q92 q2073 hd_X2_keepPast (by decide) ⟨by first | decide | omega, by first | decide | omega⟩ ⟨by first | decide | omega, by first | decide | omega⟩ rfl (Nat.le_of_ble_eq_true rfl) dX2_teach_19 rfl (fun _ _ _ h => h.elim) ?_
  rintro _ _ ⟨rfl, row1, iv1, W1, K1, I1, rfl⟩
  try simp only [xst, xput, xpre, List.set_cons_zero, List.set_cons_succ]
  refine x_aload0 B 23 dX2_teach_22 rfl (by first | rfl | exact xisR_rf _) ?_
  refine x_iconst B 24 (v := 0) dX2_teach_23 (by decide) rfl ?_
  refine x_iload1 B 25 dX2_teach_24 rfl ?_
  refine x_iload2 B 26 dX2_teach_25 rfl ?_
  refine x_iconst B 27 (v := 3) dX2_teach_26 (by decide) rfl ?_
  refine x_callV B 30 (m_X2_learns 0 j w (nI 3) (by omega)) [0, 1] rfl ⟨_, _, _, (by repeat (first | with_reducible exact xr_h | refine xr_t ?_)), rfl, rfl⟩ q2031 q2033 qs66 q92 q2034 hd_X2_learns (by decide) ⟨by first | decide | omega, by first | decide | omega⟩ ⟨by first | decide | omega, by first | decide | omega⟩ rfl (Nat.le_of_ble_eq_true rfl) dX2_teach_27 rfl (fun _ _ _ h => h.elim) ?_
  rintro _ _ ⟨rfl, rfl⟩
  try simp only [xst, xput, xpre, List.set_cons_zero, List.set_cons_succ]
  have e4 : (20 : Int32) + 10 * nI j + nI w = nI (0 + 20 + 10 * j + w) := by simp only [xlit, nI_add, pk_mul, Nat.zero_add]
  have hG := tGain (g := 3) W1.1 hO hj hw (by omega)
  have hS : TS 0 108 row1 (upd row1 (0 + 20 + 10 * j + w) (if 9 < row1 (0 + 20 + 10 * j + w) + nI 3 then 9 else row1 (0 + 20 + 10 * j + w) + nI 3)) := TS.rf.upd (by omega) (by omega)
  refine x_aload0 B 31 dX2_teach_30 rfl (by first | rfl | exact xisR_rf _) ?_
  refine g_X2_7_X2 B 34 (by repeat (first | with_reducible exact xr_h | refine xr_t ?_)) dX2_teach_31 rfl ?_
  refine x_bipush B 36 (v := 20) dX2_teach_34 (by decide) rfl ?_
  refine x_bipush B 38 (v := 10) dX2_teach_36 (by decide) rfl ?_
  refine x_iload1 B 39 dX2_teach_38 rfl ?_
  refine x_imul B 40 dX2_teach_39 rfl ?_
  refine x_iadd B 41 dX2_teach_40 rfl ?_
  refine x_iload2 B 42 dX2_teach_41 rfl ?_
  refine x_iadd B 43 dX2_teach_42 rfl ?_
  rw [e4]
  refine x_ialdv B 44 (by repeat (first | with_reducible exact xr_h | refine xr_t ?_)) (j := 0 + 20 + 10 * j + w) (by first | (simp only [xlit, nI_add, pk_mul]; done) | rfl | (simp only [xlit, nI_add, pk_mul]; congr 1; omega)) ⟨by first | omega | decide, by first | decide | omega⟩ (hG.2.2.2.2.2.2.1 j w hj hw) dX2_teach_43 rfl ?_
  exact x_iret B rfl ⟨rfl, _, iv1, W1.now hG ⟨hO.gain j w 3, hE⟩ hS, K1.now hS, I1, rfl⟩ dX2_teach_44 ⟨by first | omega | decide, by first | omega | decide⟩
theorem m_X2_moult (hW : TW row iv nb nm kd N U) (b : Int32) (q : HU) (hq : sMoult nb N U b = q) : XC D yX2_moult (ws_ yX2_moult cX2_moult 4 (Option.some Jvm.ClassFile.FieldType.int)) 2 80 (0) (0) [.ref h, .int b] [tR D h ad iv, tI D ad 0 1404 row] (fun r cs' => r = some (.int q.1) ∧ ∃ row' iv', TW row' iv' nb nm kd q.2.1 q.2.2 ∧ TK row row' ∧ TI iv iv' ∧ cs' = [tR D h ad iv', tI D ad 0 1404 row']) x0 := by
  refine XC.of (by decide) (by simp [Value.category]) (Nat.le_of_ble_eq_true rfl) fun X B => ?_
  show WX D X [tR D h ad iv, tI D ad 0 1404 row] 0 0 0 [some (.ref h), some (.int b), none, none] []
  have hT := hW.1
  have hO := hW.2.1.1
  have hE := hW.2.1.2
  have hnb := hO.1
  have hnm := hO.2.1
  refine x_aload0 B 1 dX2_moult_0 rfl (by first | rfl | exact xisR_rf _) ?_
  refine x_iload1 B 2 dX2_moult_1 rfl ?_
  refine x_callV B 5 (m_isBird b hT.1 hnb) [0, 1] rfl ⟨_, _, _, (by repeat (first | with_reducible exact xr_h | refine xr_t ?_)), rfl, rfl⟩ q1974 q1976 qs57 q92 q1977 hd_X2_isBird (by decide) ⟨by first | decide | omega, by first | decide | omega⟩ ⟨by first | decide | omega, by first | decide | omega⟩ rfl (Nat.le_of_ble_eq_true rfl) dX2_moult_2 rfl (fun _ _ _ h => h.elim) ?_
  rintro _ _ ⟨rfl, rfl⟩
  try simp only [xst, xput, xpre, List.set_cons_zero, List.set_cons_succ]
  rcases toR_c b 0 nb (by omega) with ⟨e, e'⟩ | ⟨j, -, hj, rfl, e, e'⟩
  · rw [e']
    refine x_if_ne_f (tp := 11) B 8 dX2_moult_5 (by decide) rfl rfl ?_
    simp only [sMoult, e] at hq; subst hq
    refine x_bipush B 10 (v := (-2)) dX2_moult_8 (by decide) rfl ?_
    exact x_iret B rfl ⟨rfl, row, iv, hW, TK.rf, TI.rf, rfl⟩ dX2_moult_10 ⟨by first | omega | decide, by first | omega | decide⟩
  rw [e']
  refine x_if_ne_t B 11 dX2_moult_5 (by decide) (by decide) ?_
  simp only [sMoult, e] at hq; subst hq
  refine x_aload0 B 12 dX2_moult_11 rfl (by first | rfl | exact xisR_rf _) ?_
  refine x_callV B 15 (m_X2_keepPast hW) [0, 1] rfl ⟨_, _, _, (by repeat (first | with_reducible exact xr_h | refine xr_t ?_)), rfl, rfl⟩ q2070 q2072 qs72 q92 q2073 hd_X2_keepPast (by decide) ⟨by first | decide | omega, by first | decide | omega⟩ ⟨by first | decide | omega, by first | decide | omega⟩ rfl (Nat.le_of_ble_eq_true rfl) dX2_moult_12 rfl (fun _ _ _ h => h.elim) ?_
  rintro _ _ ⟨rfl, row1, iv1, W1, K1, I1, rfl⟩
  try simp only [xst, xput, xpre, List.set_cons_zero, List.set_cons_succ]
  have sum : ∀ w n, w ≤ n → hSum ((hHalf N j n).1 j) w = hSum ((hHalf N j w).1 j) w := by
    intro w n hwn
    have key : ∀ d v, v < w → (hHalf N j (w + d)).1 j v = (hHalf N j w).1 j v := by
      intro d
      induction d with
      | zero => intro v hv; rfl
      | succ d ih =>
        intro v hv
        rw [← ih v hv]
        show kUp _ j (w + d) _ j v = _
        unfold kUp
        rw [if_neg (by omega)]
        rfl
    have g : ∀ (f g : Nat → Nat) u, (∀ v, v < u → f v = g v) → hSum f u = hSum g u := by
      intro f g u
      induction u with
      | zero => intro _; rfl
      | succ u ih => intro hv; unfold hSum; rw [ih (fun v h => hv v (by omega)), hv u (by omega)]
    exact g _ _ w (fun v hv => by have := key (n - w) v hv; rw [show w + (n - w) = n by omega] at this; exact this)
  have loop : ∀ (m k : Nat), k + m = 10 → ∀ row', TRep row' 0 nb nm kd (hHalf N j k) → TS 0 108 row1 row' → WX D X [tR D h ad iv1, tI D ad 0 1404 row'] 0 0 19 [some (.ref h), some (.int (nI j)), some (.int (nI (hSum ((hHalf N j k).1 j) k))), some (.int (nI k))] [] := by
    intro m
    induction m with
    | zero =>
      intro k hk row' h1 h2
      obtain rfl : k = 10 := by omega
      refine x_iload3 B 20 dX2_moult_19 rfl ?_
      refine x_bipush B 22 (v := 10) dX2_moult_20 (by decide) rfl ?_
      refine x_icmp_ge_t B 66 dX2_moult_22 (by decide) (by (try simp only [xlit]); first | (rw [nI_leI (by omega) (by omega)]; omega) | (rw [nI_ltI (by omega) (by omega)]; omega) | (rw [nI_eq (by omega) (by omega)]; omega)) ?_
      refine x_iload2 B 67 dX2_moult_66 rfl ?_
      exact x_iret B rfl ⟨rfl, row', iv1, W1.now h1 ⟨(hO.half j 10).1, by rw [(hO.half j 10).2]; exact hE⟩ h2, K1.now h2, I1, rfl⟩ dX2_moult_67 ⟨by first | omega | decide, by first | omega | decide⟩
    | succ m ih =>
      intro k hk row' h1 h2
      have hk1 := (hO.half j k).1.2.2.2.1 j k hj (by omega)
      refine x_iload3 B 20 dX2_moult_19 rfl ?_
      refine x_bipush B 22 (v := 10) dX2_moult_20 (by decide) rfl ?_
      refine x_icmp_ge_f (tp := 66) B 25 dX2_moult_22 (by decide) rfl (by (try simp only [xlit]); first | (rw [nI_leI (by omega) (by omega)]; omega) | (rw [nI_ltI (by omega) (by omega)]; omega) | (rw [nI_eq (by omega) (by omega)]; omega)) ?_
      refine x_aload0 B 26 dX2_moult_25 rfl (by first | rfl | exact xisR_rf _) ?_
      refine g_X2_7_X2 B 29 (by repeat (first | with_reducible exact xr_h | refine xr_t ?_)) dX2_moult_26 rfl ?_
      refine x_bipush B 31 (v := 20) dX2_moult_29 (by decide) rfl ?_
      refine x_bipush B 33 (v := 10) dX2_moult_31 (by decide) rfl ?_
      refine x_iload1 B 34 dX2_moult_33 rfl ?_
      refine x_imul B 35 dX2_moult_34 rfl ?_
      refine x_iadd B 36 dX2_moult_35 rfl ?_
      refine x_iload3 B 37 dX2_moult_36 rfl ?_
      refine x_iadd B 38 dX2_moult_37 rfl ?_
      rw [show (20 : Int32) + 10 * nI j + nI k = nI (0 + 20 + 10 * j + k) from by simp only [xlit, nI_add, pk_mul, Nat.zero_add]]
      refine x_dup2 B 39 dX2_moult_38 rfl rfl rfl ?_
      refine x_ialdv B 40 (by repeat (first | with_reducible exact xr_h | refine xr_t ?_)) (j := 0 + 20 + 10 * j + k) (by first | (simp only [xlit, nI_add, pk_mul]; done) | rfl | (simp only [xlit, nI_add, pk_mul]; congr 1; omega)) ⟨by first | omega | decide, by first | decide | omega⟩ (h1.2.2.2.2.2.2.1 j k hj (by omega)) dX2_moult_39 rfl ?_
      refine x_iconst B 41 (v := 2) dX2_moult_40 (by decide) rfl ?_
      refine x_idiv B 42 dX2_moult_41 (by decide) rfl ?_
      rw [show nI ((hHalf N j k).1 j k) / 2 = nI ((hHalf N j k).1 j k / 2) from pk_div (by omega) (by decide) (by decide)]
      refine x_iast B 43 (by repeat (first | with_reducible exact xu_h | apply xu_t)) (j := 0 + 20 + 10 * j + k) (by first | (simp only [xlit, nI_add, pk_mul]; done) | rfl | (simp only [xlit, nI_add, pk_mul]; congr 1; omega)) ⟨by first | omega | decide, by first | decide | omega⟩ dX2_moult_42 rfl ?_
      have h3 := h1.setK hnb hnm hj (show k < 10 by omega) ((hHalf N j k).1 j k / 2)
      have h3 : TRep (upd row' (0 + 20 + 10 * j + k) (nI ((hHalf N j k).1 j k / 2))) 0 nb nm kd (hHalf N j (k + 1)) := by
        have e5 : hHalf N j (k + 1) = (kUp (hHalf N j k).1 j k ((hHalf N j k).1 j k / 2), (hHalf N j k).2) := by rw [(hO.half j k).2]; rfl
        rw [e5]; exact h3
      refine x_iload2 B 44 dX2_moult_43 rfl ?_
      refine x_aload0 B 45 dX2_moult_44 rfl (by first | rfl | exact xisR_rf _) ?_
      refine g_X2_7_X2 B 48 (by repeat (first | with_reducible exact xr_h | refine xr_t ?_)) dX2_moult_45 rfl ?_
      refine x_bipush B 50 (v := 20) dX2_moult_48 (by decide) rfl ?_
      refine x_bipush B 52 (v := 10) dX2_moult_50 (by decide) rfl ?_
      refine x_iload1 B 53 dX2_moult_52 rfl ?_
      refine x_imul B 54 dX2_moult_53 rfl ?_
      refine x_iadd B 55 dX2_moult_54 rfl ?_
      refine x_iload3 B 56 dX2_moult_55 rfl ?_
      refine x_iadd B 57 dX2_moult_56 rfl ?_
      rw [show (20 : Int32) + 10 * nI j + nI k = nI (0 + 20 + 10 * j + k) from by simp only [xlit, nI_add, pk_mul, Nat.zero_add]]
      refine x_ialdv B 58 (by repeat (first | with_reducible exact xr_h | refine xr_t ?_)) (j := 0 + 20 + 10 * j + k) (by first | (simp only [xlit, nI_add, pk_mul]; done) | rfl | (simp only [xlit, nI_add, pk_mul]; congr 1; omega)) ⟨by first | omega | decide, by first | decide | omega⟩ (h3.2.2.2.2.2.2.1 j k hj (by omega)) dX2_moult_57 rfl ?_
      refine x_iadd B 59 dX2_moult_58 rfl ?_
      rw [show nI (hSum ((hHalf N j k).1 j) k) + nI ((hHalf N j (k + 1)).1 j k) = nI (hSum ((hHalf N j (k + 1)).1 j) (k + 1)) by rw [nI_add, ← sum k (k + 1) (by omega)]; rfl]
      refine x_istore2 B 60 dX2_moult_59 rfl ?_
      refine x_iinc3 B 63 dX2_moult_60 rfl (by first | exact xinc _ | rfl) ?_
      refine x_goto B 19 dX2_moult_63 (by decide) ?_
      exact ih (k + 1) (by omega) _ h3 (h2.upd (by omega) (by omega))
  refine x_iconst B 16 (v := 0) dX2_moult_15 (by decide) rfl ?_
  refine x_istore2 B 17 dX2_moult_16 rfl ?_
  refine x_iconst B 18 (v := 0) dX2_moult_17 (by decide) rfl ?_
  refine x_istore3 B 19 dX2_moult_18 rfl ?_
  exact loop 10 0 rfl row1 W1.1 TS.rf
theorem m_X2_perch (hW : TW row iv nb nm kd N U) (b p : Int32) (q : HU) (hq : sPerch nb N U b p = q) : XC D yX2_perch (ws_ yX2_perch cX2_perch 4 (Option.some Jvm.ClassFile.FieldType.int)) 2 80 (0) (0) [.ref h, .int b, .int p] [tR D h ad iv, tI D ad 0 1404 row] (fun r cs' => r = some (.int q.1) ∧ ∃ row' iv', TW row' iv' nb nm kd q.2.1 q.2.2 ∧ TK row row' ∧ TI iv iv' ∧ cs' = [tR D h ad iv', tI D ad 0 1404 row']) x0 := by
  refine XC.of (by decide) (by simp [Value.category]) (Nat.le_of_ble_eq_true rfl) fun X B => ?_
  show WX D X [tR D h ad iv, tI D ad 0 1404 row] 0 0 0 [some (.ref h), some (.int b), some (.int p), none] []
  have hT := hW.1
  have hO := hW.2.1.1
  have hE := hW.2.1.2
  have hnb := hO.1
  refine x_aload0 B 1 dX2_perch_0 rfl (by first | rfl | exact xisR_rf _) ?_
  refine x_iload1 B 2 dX2_perch_1 rfl ?_
  refine x_callV B 5 (m_isBird b hT.1 hnb) [0, 1] rfl ⟨_, _, _, (by repeat (first | with_reducible exact xr_h | refine xr_t ?_)), rfl, rfl⟩ q1974 q1976 qs57 q92 q1977 hd_X2_isBird (by decide) ⟨by first | decide | omega, by first | decide | omega⟩ ⟨by first | decide | omega, by first | decide | omega⟩ rfl (Nat.le_of_ble_eq_true rfl) dX2_perch_2 rfl (fun _ _ _ h => h.elim) ?_
  rintro _ _ ⟨rfl, rfl⟩
  try simp only [xst, xput, xpre, List.set_cons_zero, List.set_cons_succ]
  rcases toR_c b 0 nb (by omega) with ⟨e, e'⟩ | ⟨j, -, hj, rfl, e, e'⟩
  · rw [e']
    refine x_if_eq_t B 20 dX2_perch_5 (by decide) rfl ?_
    simp only [sPerch, e] at hq; subst hq
    refine x_bipush B 22 (v := (-2)) dX2_perch_20 (by decide) rfl ?_
    exact x_iret B rfl ⟨rfl, row, iv, hW, TK.rf, TI.rf, rfl⟩ dX2_perch_22 ⟨by first | omega | decide, by first | omega | decide⟩
  rw [e']
  refine x_if_eq_f (tp := 20) B 8 dX2_perch_5 (by decide) rfl (by decide) ?_
  refine x_iload2 B 9 dX2_perch_8 rfl ?_
  refine x_i2l B 10 dX2_perch_9 rfl ?_
  refine x_lconst B 11 (v := 0) dX2_perch_10 (by decide) rfl ?_
  refine x_ldc2 B 14 dX2_perch_11 q2086 rfl ?_
  refine x_callS B 17 (m_X2_in _ _ _) [] rfl q1869 q1870 q92 q1871 hd_X2_in rfl ⟨by first | decide | omega, by first | decide | omega⟩ ⟨by first | decide | omega, by first | decide | omega⟩ rfl (Nat.le_of_ble_eq_true rfl) dX2_perch_14 rfl (fun _ _ _ h => h.elim) ?_
  rintro _ _ ⟨rfl, rfl⟩
  try simp only [xst, xput, xpre, List.set_cons_zero, List.set_cons_succ]
  rw [show x_in p.toInt64 0 3 = bI (toR p 0 4).isSome from xinR p 0 3 rfl rfl (by decide) (by decide)]
  rcases toR_c p 0 4 (by omega) with ⟨e2, e2'⟩ | ⟨p, -, hp, rfl, e2, e2'⟩
  · rw [e2']
    refine x_if_ne_f (tp := 23) B 20 dX2_perch_17 (by decide) rfl rfl ?_
    simp only [sPerch, e, e2] at hq; subst hq
    refine x_bipush B 22 (v := (-2)) dX2_perch_20 (by decide) rfl ?_
    exact x_iret B rfl ⟨rfl, row, iv, hW, TK.rf, TI.rf, rfl⟩ dX2_perch_22 ⟨by first | omega | decide, by first | omega | decide⟩
  rw [e2']
  refine x_if_ne_t B 23 dX2_perch_17 (by decide) (by decide) ?_
  have hP := hO.2.2.2.2.1 j hj
  refine x_aload0 B 24 dX2_perch_23 rfl (by first | rfl | exact xisR_rf _) ?_
  refine g_X2_7_X2 B 27 (by repeat (first | with_reducible exact xr_h | refine xr_t ?_)) dX2_perch_24 rfl ?_
  refine x_bipush B 29 (v := 12) dX2_perch_27 (by decide) rfl ?_
  refine x_iload1 B 30 dX2_perch_29 rfl ?_
  refine x_iadd B 31 dX2_perch_30 rfl ?_
  refine x_ialdv B 32 (by repeat (first | with_reducible exact xr_h | refine xr_t ?_)) (j := 12 + j) (by first | (simp only [xlit, nI_add, pk_mul]; done) | rfl | (simp only [xlit, nI_add, pk_mul]; congr 1; omega)) ⟨by first | omega | decide, by first | decide | omega⟩ ((congrArg row (by omega)).trans (hT.2.2.2.2.2.1 j hj)) dX2_perch_31 rfl ?_
  by_cases c : N.2.1 j = p
  · refine x_istore3 B 33 dX2_perch_32 rfl ?_
    refine x_iload3 B 34 dX2_perch_33 rfl ?_
    refine x_iload2 B 35 dX2_perch_34 rfl ?_
    refine x_icmp_ne_f (tp := 41) B 38 dX2_perch_35 (by decide) rfl (by (try simp only [xlit]); first | (rw [nI_leI (by omega) (by omega)]; omega) | (rw [nI_ltI (by omega) (by omega)]; omega) | (rw [nI_eq (by omega) (by omega)]; omega)) ?_
    simp only [sPerch, e, e2] at hq; rw [if_pos c] at hq; subst hq
    refine x_bipush B 40 (v := (-4)) dX2_perch_38 (by decide) rfl ?_
    exact x_iret B rfl ⟨rfl, row, iv, hW, TK.rf, TI.rf, rfl⟩ dX2_perch_40 ⟨by first | omega | decide, by first | omega | decide⟩
  refine x_istore3 B 33 dX2_perch_32 rfl ?_
  refine x_iload3 B 34 dX2_perch_33 rfl ?_
  refine x_iload2 B 35 dX2_perch_34 rfl ?_
  refine x_icmp_ne_t B 41 dX2_perch_35 (by decide) (by (try simp only [xlit]); first | (rw [nI_leI (by omega) (by omega)]; omega) | (rw [nI_ltI (by omega) (by omega)]; omega) | (rw [nI_eq (by omega) (by omega)]; omega)) ?_
  simp only [sPerch, e, e2] at hq; rw [if_neg c] at hq; subst hq
  refine x_aload0 B 42 dX2_perch_41 rfl (by first | rfl | exact xisR_rf _) ?_
  refine x_callV B 45 (m_X2_keepPast hW) [0, 1] rfl ⟨_, _, _, (by repeat (first | with_reducible exact xr_h | refine xr_t ?_)), rfl, rfl⟩ q2070 q2072 qs72 q92 q2073 hd_X2_keepPast (by decide) ⟨by first | decide | omega, by first | decide | omega⟩ ⟨by first | decide | omega, by first | decide | omega⟩ rfl (Nat.le_of_ble_eq_true rfl) dX2_perch_42 rfl (fun _ _ _ h => h.elim) ?_
  rintro _ _ ⟨rfl, row1, iv1, W1, K1, I1, rfl⟩
  try simp only [xst, xput, xpre, List.set_cons_zero, List.set_cons_succ]
  have h3 := W1.1.setP hnb hO.2.1 hj p
  have hS : TS 0 108 row1 (upd row1 (0 + 12 + j) (nI p)) := TS.rf.upd (by omega) (by omega)
  refine x_aload0 B 46 dX2_perch_45 rfl (by first | rfl | exact xisR_rf _) ?_
  refine g_X2_7_X2 B 49 (by repeat (first | with_reducible exact xr_h | refine xr_t ?_)) dX2_perch_46 rfl ?_
  refine x_bipush B 51 (v := 12) dX2_perch_49 (by decide) rfl ?_
  refine x_iload1 B 52 dX2_perch_51 rfl ?_
  refine x_iadd B 53 dX2_perch_52 rfl ?_
  refine x_iload2 B 54 dX2_perch_53 rfl ?_
  refine x_iast B 55 (by repeat (first | with_reducible exact xu_h | apply xu_t)) (j := 0 + 12 + j) (by first | (simp only [xlit, nI_add, pk_mul]; done) | rfl | (simp only [xlit, nI_add, pk_mul]; congr 1; omega)) ⟨by first | omega | decide, by first | decide | omega⟩ dX2_perch_54 rfl ?_
  refine x_iload3 B 56 dX2_perch_55 rfl ?_
  exact x_iret B rfl ⟨rfl, _, iv1, W1.now h3 ⟨hO.setP hp, hE⟩ hS, K1.now hS, I1, rfl⟩ dX2_perch_56 ⟨by first | omega | decide, by first | omega | decide⟩
theorem m_X2_cover (hW : TW row iv nb nm kd N U) (b : Int32) (q : HU) (hq : sCover nb N U b = q) : XC D yX2_cover (ws_ yX2_cover cX2_cover 2 (Option.some Jvm.ClassFile.FieldType.int)) 2 80 (0) (0) [.ref h, .int b] [tR D h ad iv, tI D ad 0 1404 row] (fun r cs' => r = some (.int q.1) ∧ ∃ row' iv', TW row' iv' nb nm kd q.2.1 q.2.2 ∧ TK row row' ∧ TI iv iv' ∧ cs' = [tR D h ad iv', tI D ad 0 1404 row']) x0 := by
  refine XC.of (by decide) (by simp [Value.category]) (Nat.le_of_ble_eq_true rfl) fun X B => ?_
  show WX D X [tR D h ad iv, tI D ad 0 1404 row] 0 0 0 [some (.ref h), some (.int b)] []
  have hT := hW.1
  have hO := hW.2.1.1
  have hE := hW.2.1.2
  have hnb := hO.1
  have hC : N.2.2.2.2.1 < 256 := Nat.lt_of_lt_of_le hO.2.2.2.2.2.2.2.2.1 (pow_nb hnb)
  refine x_aload0 B 1 dX2_cover_0 rfl (by first | rfl | exact xisR_rf _) ?_
  refine x_iload1 B 2 dX2_cover_1 rfl ?_
  refine x_callV B 5 (m_isBird b hT.1 hnb) [0, 1] rfl ⟨_, _, _, (by repeat (first | with_reducible exact xr_h | refine xr_t ?_)), rfl, rfl⟩ q1974 q1976 qs57 q92 q1977 hd_X2_isBird (by decide) ⟨by first | decide | omega, by first | decide | omega⟩ ⟨by first | decide | omega, by first | decide | omega⟩ rfl (Nat.le_of_ble_eq_true rfl) dX2_cover_2 rfl (fun _ _ _ h => h.elim) ?_
  rintro _ _ ⟨rfl, rfl⟩
  try simp only [xst, xput, xpre, List.set_cons_zero, List.set_cons_succ]
  rcases toR_c b 0 nb (by omega) with ⟨e, e'⟩ | ⟨j, -, hj, rfl, e, e'⟩
  · rw [e']
    refine x_if_ne_f (tp := 11) B 8 dX2_cover_5 (by decide) rfl rfl ?_
    simp only [sCover, e] at hq; subst hq
    refine x_bipush B 10 (v := (-2)) dX2_cover_8 (by decide) rfl ?_
    exact x_iret B rfl ⟨rfl, row, iv, hW, TK.rf, TI.rf, rfl⟩ dX2_cover_10 ⟨by first | omega | decide, by first | omega | decide⟩
  rw [e']
  refine x_if_ne_t B 11 dX2_cover_5 (by decide) (by decide) ?_
  simp only [sCover, e] at hq; subst hq
  refine x_aload0 B 12 dX2_cover_11 rfl (by first | rfl | exact xisR_rf _) ?_
  refine x_callV B 15 (m_X2_keepPast hW) [0, 1] rfl ⟨_, _, _, (by repeat (first | with_reducible exact xr_h | refine xr_t ?_)), rfl, rfl⟩ q2070 q2072 qs72 q92 q2073 hd_X2_keepPast (by decide) ⟨by first | decide | omega, by first | decide | omega⟩ ⟨by first | decide | omega, by first | decide | omega⟩ rfl (Nat.le_of_ble_eq_true rfl) dX2_cover_12 rfl (fun _ _ _ h => h.elim) ?_
  rintro _ _ ⟨rfl, row1, iv1, W1, K1, I1, rfl⟩
  try simp only [xst, xput, xpre, List.set_cons_zero, List.set_cons_succ]
  have hx : N.2.2.2.2.1 ^^^ 2 ^ j < 2 ^ nb := Nat.xor_lt_two_pow hO.2.2.2.2.2.2.2.2.1 (Nat.pow_lt_pow_right (by decide) hj)
  have hx8 := Nat.lt_of_lt_of_le hx (pow_nb hnb)
  have h3 := W1.1.setC hnb hO.2.1 (N.2.2.2.2.1 ^^^ 2 ^ j)
  have hS : TS 0 108 row1 (upd row1 (0 + 3) (nI (N.2.2.2.2.1 ^^^ 2 ^ j))) := TS.rf.upd (by omega) (by omega)
  refine x_aload0 B 16 dX2_cover_15 rfl (by first | rfl | exact xisR_rf _) ?_
  refine g_X2_7_X2 B 19 (by repeat (first | with_reducible exact xr_h | refine xr_t ?_)) dX2_cover_16 rfl ?_
  refine x_iconst B 20 (v := 3) dX2_cover_19 (by decide) rfl ?_
  refine x_dup2 B 21 dX2_cover_20 rfl rfl rfl ?_
  refine x_ialdv B 22 (by repeat (first | with_reducible exact xr_h | refine xr_t ?_)) rfl ⟨by first | omega | decide, by first | decide | omega⟩ W1.1.2.2.2.1 dX2_cover_21 rfl ?_
  refine x_iconst B 23 (v := 1) dX2_cover_22 (by decide) rfl ?_
  refine x_iload1 B 24 dX2_cover_23 rfl ?_
  refine x_ishl B 25 dX2_cover_24 rfl ?_
  rw [xshl1 (by omega)]
  refine x_ixor B 26 dX2_cover_25 rfl ?_
  rw [show nI N.2.2.2.2.1 ^^^ nI (2 ^ j) = nI (N.2.2.2.2.1 ^^^ 2 ^ j) from xxor_nI _ _]
  refine x_iast B 27 (by repeat (first | with_reducible exact xu_h | apply xu_t)) (j := 0 + 3) (by first | (simp only [xlit, nI_add, pk_mul]; done) | rfl | (simp only [xlit, nI_add, pk_mul]; congr 1; omega)) ⟨by first | omega | decide, by first | decide | omega⟩ dX2_cover_26 rfl ?_
  refine x_aload0 B 28 dX2_cover_27 rfl (by first | rfl | exact xisR_rf _) ?_
  refine g_X2_7_X2 B 31 (by repeat (first | with_reducible exact xr_h | refine xr_t ?_)) dX2_cover_28 rfl ?_
  refine x_iconst B 32 (v := 3) dX2_cover_31 (by decide) rfl ?_
  refine x_ialdv B 33 (by repeat (first | with_reducible exact xr_h | refine xr_t ?_)) rfl ⟨by first | omega | decide, by first | decide | omega⟩ (show _ = nI (N.2.2.2.2.1 ^^^ 2 ^ j) from h3.2.2.2.1) dX2_cover_32 rfl ?_
  refine x_iload1 B 34 dX2_cover_33 rfl ?_
  refine x_ishr B 35 dX2_cover_34 rfl ?_
  rw [xshr (by omega) (by omega)]
  refine x_iconst B 36 (v := 1) dX2_cover_35 (by decide) rfl ?_
  refine x_iand B 37 dX2_cover_36 rfl ?_
  rw [xand1 (by have : (N.2.2.2.2.1 ^^^ 2 ^ j) / 2 ^ j ≤ (N.2.2.2.2.1 ^^^ 2 ^ j) := Nat.div_le_self _ _; omega)]
  exact x_iret B rfl ⟨rfl, _, iv1, W1.now h3 ⟨hO.setC hx, hE⟩ hS, K1.now hS, I1, rfl⟩ dX2_cover_37 ⟨by first | omega | decide, by first | omega | decide⟩
theorem m_X2_sit (hW : TW row iv nb nm kd N U) (m b : Int32) (q : HU) (hq : sSit nb nm N U m b = q) : XC D yX2_sit (ws_ yX2_sit cX2_sit 4 (Option.some Jvm.ClassFile.FieldType.int)) 2 80 (0) (0) [.ref h, .int m, .int b] [tR D h ad iv, tI D ad 0 1404 row] (fun r cs' => r = some (.int q.1) ∧ ∃ row' iv', TW row' iv' nb nm kd q.2.1 q.2.2 ∧ TK row row' ∧ TI iv iv' ∧ cs' = [tR D h ad iv', tI D ad 0 1404 row']) x0 := by
  refine XC.of (by decide) (by simp [Value.category]) (Nat.le_of_ble_eq_true rfl) fun X B => ?_
  show WX D X [tR D h ad iv, tI D ad 0 1404 row] 0 0 0 [some (.ref h), some (.int m), some (.int b), none] []
  have hT := hW.1
  have hO := hW.2.1.1
  have hE := hW.2.1.2
  have hnb := hO.1
  have hnm := hO.2.1
  refine x_aload0 B 1 dX2_sit_0 rfl (by first | rfl | exact xisR_rf _) ?_
  refine x_iload1 B 2 dX2_sit_1 rfl ?_
  refine x_callV B 5 (m_isMan m hT.2.1 (by omega)) [0, 1] rfl ⟨_, _, _, (by repeat (first | with_reducible exact xr_h | refine xr_t ?_)), rfl, rfl⟩ q1990 q1992 qs60 q92 q1993 hd_X2_isMan (by decide) ⟨by first | decide | omega, by first | decide | omega⟩ ⟨by first | decide | omega, by first | decide | omega⟩ rfl (Nat.le_of_ble_eq_true rfl) dX2_sit_2 rfl (fun _ _ _ h => h.elim) ?_
  rintro _ _ ⟨rfl, rfl⟩
  try simp only [xst, xput, xpre, List.set_cons_zero, List.set_cons_succ]
  rcases toR_c m 0 nm (by omega) with ⟨e, e'⟩ | ⟨m, -, hm, rfl, e, e'⟩
  · rw [e']
    refine x_if_eq_t B 21 dX2_sit_5 (by decide) rfl ?_
    simp only [sSit, e] at hq; subst hq
    refine x_bipush B 23 (v := (-2)) dX2_sit_21 (by decide) rfl ?_
    exact x_iret B rfl ⟨rfl, row, iv, hW, TK.rf, TI.rf, rfl⟩ dX2_sit_23 ⟨by first | omega | decide, by first | omega | decide⟩
  rw [e']
  refine x_if_eq_f (tp := 21) B 8 dX2_sit_5 (by decide) rfl (by decide) ?_
  have go : ∀ y : Option Nat, toB b nb = some y → b = oI y → (∀ j, y = some j → j < nb) → WX D X [tR D h ad iv, tI D ad 0 1404 row] 0 0 24 [some (.ref h), some (.int (nI m)), some (.int b), none] [] := by
    intro y hy hby hyb
    have hy2 : ∀ j, y = some j → j < 2147483648 := fun j e => by have := hyb j e; omega
    subst hby
    refine x_aload0 B 25 dX2_sit_24 rfl (by first | rfl | exact xisR_rf _) ?_
    refine g_X2_7_X2 B 28 (by repeat (first | with_reducible exact xr_h | refine xr_t ?_)) dX2_sit_25 rfl ?_
    refine x_bipush B 30 (v := 104) dX2_sit_28 (by decide) rfl ?_
    refine x_iload1 B 31 dX2_sit_30 rfl ?_
    refine x_iadd B 32 dX2_sit_31 rfl ?_
    refine x_ialdv B 33 (by repeat (first | with_reducible exact xr_h | refine xr_t ?_)) (j := 104 + m) (by first | (simp only [xlit, nI_add, pk_mul]; done) | rfl | (simp only [xlit, nI_add, pk_mul]; congr 1; omega)) ⟨by first | omega | decide, by first | decide | omega⟩ ((congrArg row (by omega)).trans (hT.2.2.2.2.2.2.2.2 m hm)) dX2_sit_32 rfl ?_
    by_cases c : N.2.2.2.1 m = y
    · refine x_istore3 B 34 dX2_sit_33 rfl ?_
      refine x_iload3 B 35 dX2_sit_34 rfl ?_
      refine x_iload2 B 36 dX2_sit_35 rfl ?_
      refine x_icmp_ne_f (tp := 42) B 39 dX2_sit_36 (by decide) rfl ((oI_inj (hO.Yb hm) hy2).mpr c) ?_
      simp only [sSit, e, hy] at hq; rw [if_pos c] at hq; subst hq
      refine x_bipush B 41 (v := (-4)) dX2_sit_39 (by decide) rfl ?_
      exact x_iret B rfl ⟨rfl, row, iv, hW, TK.rf, TI.rf, rfl⟩ dX2_sit_41 ⟨by first | omega | decide, by first | omega | decide⟩
    · refine x_istore3 B 34 dX2_sit_33 rfl ?_
      refine x_iload3 B 35 dX2_sit_34 rfl ?_
      refine x_iload2 B 36 dX2_sit_35 rfl ?_
      refine x_icmp_ne_t B 42 dX2_sit_36 (by decide) (fun z => c ((oI_inj (hO.Yb hm) hy2).mp z)) ?_
      simp only [sSit, e, hy] at hq; rw [if_neg c] at hq; subst hq
      refine x_aload0 B 43 dX2_sit_42 rfl (by first | rfl | exact xisR_rf _) ?_
      refine x_callV B 46 (m_X2_keepPast hW) [0, 1] rfl ⟨_, _, _, (by repeat (first | with_reducible exact xr_h | refine xr_t ?_)), rfl, rfl⟩ q2070 q2072 qs72 q92 q2073 hd_X2_keepPast (by decide) ⟨by first | decide | omega, by first | decide | omega⟩ ⟨by first | decide | omega, by first | decide | omega⟩ rfl (Nat.le_of_ble_eq_true rfl) dX2_sit_43 rfl (fun _ _ _ h => h.elim) ?_
      rintro _ _ ⟨rfl, row1, iv1, W1, K1, I1, rfl⟩
      try simp only [xst, xput, xpre, List.set_cons_zero, List.set_cons_succ]
      refine x_aload0 B 47 dX2_sit_46 rfl (by first | rfl | exact xisR_rf _) ?_
      refine x_iconst B 48 (v := 0) dX2_sit_47 (by decide) rfl ?_
      refine x_iload1 B 49 dX2_sit_48 rfl ?_
      refine x_iload2 B 50 dX2_sit_49 rfl ?_
      refine x_callV B 53 (m_X2_sets W1.1 hO (by omega) m hm y hyb) [0, 1] rfl ⟨_, _, _, (by repeat (first | with_reducible exact xr_h | refine xr_t ?_)), rfl, rfl⟩ q2095 q2097 qs73 q92 q2098 hd_X2_sets (by decide) ⟨by first | decide | omega, by first | decide | omega⟩ ⟨by first | decide | omega, by first | decide | omega⟩ rfl (Nat.le_of_ble_eq_true rfl) dX2_sit_50 rfl (fun _ _ _ h => h.elim) ?_
      rintro _ _ ⟨rfl, row2, h3, hS, rfl⟩
      try simp only [xst, xput, xpre, List.set_cons_zero, List.set_cons_succ]
      refine x_iload3 B 54 dX2_sit_53 rfl ?_
      exact x_iret B rfl ⟨rfl, _, iv1, W1.now h3 ⟨hO.sets hm hyb, hE⟩ hS, K1.now hS, I1, rfl⟩ dX2_sit_54 ⟨by first | omega | decide, by first | omega | decide⟩
  rcases toB_c b (show nb ≤ 100 by omega) with ⟨b1, b2⟩ | ⟨b1, b2, b3, b4⟩ | ⟨j, hj, b1, b2, b3⟩
  · refine x_iload2 B 9 dX2_sit_8 rfl ?_
    refine x_iconst B 10 (v := (-1)) dX2_sit_9 (by decide) rfl ?_
    refine x_icmp_eq_t B 24 dX2_sit_10 (by decide) b1 ?_
    exact go none b2 b1 (fun j e => by cases e)
  · refine x_iload2 B 9 dX2_sit_8 rfl ?_
    refine x_iconst B 10 (v := (-1)) dX2_sit_9 (by decide) rfl ?_
    refine x_icmp_eq_f (tp := 24) B 13 dX2_sit_10 (by decide) rfl b1 ?_
    refine x_aload0 B 14 dX2_sit_13 rfl (by first | rfl | exact xisR_rf _) ?_
    refine x_iload2 B 15 dX2_sit_14 rfl ?_
    refine x_callV B 18 (m_isBird b hT.1 hnb) [0, 1] rfl ⟨_, _, _, (by repeat (first | with_reducible exact xr_h | refine xr_t ?_)), rfl, rfl⟩ q1974 q1976 qs57 q92 q1977 hd_X2_isBird (by decide) ⟨by first | decide | omega, by first | decide | omega⟩ ⟨by first | decide | omega, by first | decide | omega⟩ rfl (Nat.le_of_ble_eq_true rfl) dX2_sit_15 rfl (fun _ _ _ h => h.elim) ?_
    rintro _ _ ⟨rfl, rfl⟩
    try simp only [xst, xput, xpre, List.set_cons_zero, List.set_cons_succ]
    rw [b4]
    refine x_if_ne_f (tp := 24) B 21 dX2_sit_18 (by decide) rfl rfl ?_
    simp only [sSit, e, b3] at hq; subst hq
    refine x_bipush B 23 (v := (-2)) dX2_sit_21 (by decide) rfl ?_
    exact x_iret B rfl ⟨rfl, row, iv, hW, TK.rf, TI.rf, rfl⟩ dX2_sit_23 ⟨by first | omega | decide, by first | omega | decide⟩
  · refine x_iload2 B 9 dX2_sit_8 rfl ?_
    refine x_iconst B 10 (v := (-1)) dX2_sit_9 (by decide) rfl ?_
    refine x_icmp_eq_f (tp := 24) B 13 dX2_sit_10 (by decide) rfl (by rw [b1]; exact ne_m1 (by omega)) ?_
    refine x_aload0 B 14 dX2_sit_13 rfl (by first | rfl | exact xisR_rf _) ?_
    refine x_iload2 B 15 dX2_sit_14 rfl ?_
    refine x_callV B 18 (m_isBird b hT.1 hnb) [0, 1] rfl ⟨_, _, _, (by repeat (first | with_reducible exact xr_h | refine xr_t ?_)), rfl, rfl⟩ q1974 q1976 qs57 q92 q1977 hd_X2_isBird (by decide) ⟨by first | decide | omega, by first | decide | omega⟩ ⟨by first | decide | omega, by first | decide | omega⟩ rfl (Nat.le_of_ble_eq_true rfl) dX2_sit_15 rfl (fun _ _ _ h => h.elim) ?_
    rintro _ _ ⟨rfl, rfl⟩
    try simp only [xst, xput, xpre, List.set_cons_zero, List.set_cons_succ]
    rw [b3]
    refine x_if_ne_t B 24 dX2_sit_18 (by decide) (by decide) ?_
    exact go (some j) b2 b1 (fun i e => by cases e; exact hj)
theorem m_X2_undo (hW : TW row iv nb nm kd N U) (q : HU) (hq : sUndo N U = q) : XC D yX2_undo (ws_ yX2_undo cX2_undo 1 (Option.some Jvm.ClassFile.FieldType.int)) 1 40 (0) (0) [.ref h] [tR D h ad iv, tI D ad 0 1404 row] (fun r cs' => r = some (.int q.1) ∧ ∃ row' iv', TW row' iv' nb nm kd q.2.1 q.2.2 ∧ TK row row' ∧ TI iv iv' ∧ cs' = [tR D h ad iv', tI D ad 0 1404 row']) x0 := by
  refine XC.of (by decide) (by simp [Value.category]) (Nat.le_of_ble_eq_true rfl) fun X B => ?_
  show WX D X [tR D h ad iv, tI D ad 0 1404 row] 0 0 0 [some (.ref h)] []
  obtain ⟨hT, hG, hU⟩ := hW
  have hnb := hG.1.1
  have hnm := hG.1.2.1
  have hU2 := hU.2.1
  refine x_aload0 B 1 dX2_undo_0 rfl (by first | rfl | exact xisR_rf _) ?_
  refine g_X2_206_X2 B 4 (by repeat (first | with_reducible exact xr_h | refine xr_t ?_)) dX2_undo_1 rfl ?_
  rw [hU.1]
  rcases Nat.eq_zero_or_pos U.length with c | c
  · rw [c]
    have hn : U = [] := List.length_eq_zero_iff.mp c
    subst hn
    refine x_if_ne_f (tp := 10) B 7 dX2_undo_4 (by decide) rfl rfl ?_
    simp only [sUndo, List.getLast?_nil] at hq; subst hq
    refine x_bipush B 9 (v := (-4)) dX2_undo_7 (by decide) rfl ?_
    exact x_iret B rfl ⟨rfl, row, iv, ⟨hT, hG, hU⟩, TK.rf, TI.rf, rfl⟩ dX2_undo_9 ⟨by first | omega | decide, by first | omega | decide⟩
  refine x_if_ne_t B 10 dX2_undo_4 (by decide) (nI_ne0 (by omega) (by omega)) ?_
  refine x_aload0 B 11 dX2_undo_10 rfl (by first | rfl | exact xisR_rf _) ?_
  refine x_dup B 12 dX2_undo_11 rfl rfl ?_
  refine g_X2_206_X2 B 15 (by repeat (first | with_reducible exact xr_h | refine xr_t ?_)) dX2_undo_12 rfl ?_
  rw [hU.1]
  refine x_iconst B 16 (v := 1) dX2_undo_15 (by decide) rfl ?_
  refine x_isub B 17 dX2_undo_16 rfl ?_
  rw [show nI U.length - 1 = nI (U.length - 1) from pk_sub (show 1 ≤ U.length by omega)]
  refine s_X2_206_X2 B 20 (by repeat (first | with_reducible exact xu_h | apply xu_t)) dX2_undo_17 rfl ?_
  refine x_aload0 B 21 dX2_undo_20 rfl (by first | rfl | exact xisR_rf _) ?_
  refine x_sipush B 24 (v := 216) dX2_undo_21 (by decide) rfl ?_
  refine x_bipush B 26 (v := 108) dX2_undo_24 (by decide) rfl ?_
  refine x_aload0 B 27 dX2_undo_26 rfl (by first | rfl | exact xisR_rf _) ?_
  refine g_X2_206_X2 B 30 (by repeat (first | with_reducible exact xr_h | refine xr_t ?_)) dX2_undo_27 rfl ?_
  rw [show upd iv 1 (nI (U.length - 1)) 1 = nI (U.length - 1) from pk_us]
  refine x_imul B 31 dX2_undo_30 rfl ?_
  refine x_iadd B 32 dX2_undo_31 rfl ?_
  rw [show (216 : Int32) + 108 * nI (U.length - 1) = nI (216 + 108 * (U.length - 1)) from by simp only [xlit, nI_add, pk_mul]]
  refine x_iconst B 33 (v := 0) dX2_undo_32 (by decide) rfl ?_
  rw [show (0 : Int32) = nI 0 from rfl]
  refine x_callV B 36 (m_X2_copyHarbour (216 + 108 * (U.length - 1)) 0 (by omega) (by omega) (by omega)) [0, 1] rfl ⟨_, _, _, (by repeat (first | with_reducible exact xr_h | refine xr_t ?_)), rfl, rfl⟩ q1949 q1951 qs54 q92 q1952 hd_X2_copyHarbour (by decide) ⟨by first | decide | omega, by first | decide | omega⟩ ⟨by first | decide | omega, by first | decide | omega⟩ rfl (Nat.le_of_ble_eq_true rfl) dX2_undo_33 rfl (fun _ _ _ h => h.elim) ?_
  rintro _ _ ⟨rfl, row2, c1, c2, rfl⟩
  try simp only [xst, xput, xpre, List.set_cons_zero, List.set_cons_succ]
  obtain ⟨S, hS⟩ : ∃ S, U[U.length - 1]? = some S := ⟨U[U.length - 1]'(by omega), List.getElem?_eq_getElem _⟩
  have hL : U.getLast? = some S := by rw [List.getLast?_eq_getElem?]; exact hS
  simp only [sUndo, hL] at hq; subst hq
  have hSS := hU.2.2 _ S hS
  refine x_aload0 B 37 dX2_undo_36 rfl (by first | rfl | exact xisR_rf _) ?_
  refine g_X2_206_X2 B 40 (by repeat (first | with_reducible exact xr_h | refine xr_t ?_)) dX2_undo_37 rfl ?_
  rw [show upd iv 1 (nI (U.length - 1)) 1 = nI (U.length - 1) from pk_us]
  refine x_iret B rfl ⟨rfl, row2, _, ⟨hSS.1.copy hnb hnm (fun i hi => c1 i hi), hSS.2, by rw [pk_us]; simp, by simp; omega, fun k S' hk => ?_⟩, fun i h1 h2 => c2 i (by omega), fun i hi => pk_un hi, rfl⟩ dX2_undo_40 ⟨by first | omega | decide, by first | omega | decide⟩
  have hk2 := (List.getElem?_eq_some_iff.mp hk).1
  rw [List.length_dropLast] at hk2
  rw [List.getElem?_dropLast, if_pos (by omega)] at hk
  exact ⟨(hU.2.2 k S' hk).1.keep hnb hnm c2 (by omega), (hU.2.2 k S' hk).2⟩
end T7
