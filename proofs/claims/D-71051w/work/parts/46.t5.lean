/-! the twin, 5: harbours copied, tried; what is asked -/
section T5
variable {D : xG} {h : Nat} {ad : Nat → Nat} {iv row : Nat → Int32} {base nb nm : Nat} {kd : Nat → Nat} {S N : HS} {sw sm : Nat → Int32} {U : List HS}
theorem m_isBird (b : Int32) (hr : row 0 = nI nb) (hn : nb ≤ 8) : XC D yX2_isBird (ws_ yX2_isBird cX2_isBird 2 (Option.some Jvm.ClassFile.FieldType.boolean)) 1 40 (0) (0) [.ref h, .int b] [tR D h ad iv, tI D ad 0 1404 row] (fun r cs' => r = some (.int (bI (toR b 0 nb).isSome)) ∧ cs' = [tR D h ad iv, tI D ad 0 1404 row]) x0 := by
  refine XC.of (by decide) (by simp [Value.category]) (Nat.le_of_ble_eq_true rfl) fun X B => ?_
  show WX D X [tR D h ad iv, tI D ad 0 1404 row] 0 0 0 [some (.ref h), some (.int b)] []
  refine x_iload1 B 1 dX2_isBird_0 rfl ?_
  refine x_i2l B 2 dX2_isBird_1 rfl ?_
  refine x_lconst B 3 (v := 0) dX2_isBird_2 (by decide) rfl ?_
  refine x_aload0 B 4 dX2_isBird_3 rfl (by first | rfl | exact xisR_rf _) ?_
  refine g_X2_7_X2 B 7 (by repeat (first | with_reducible exact xr_h | refine xr_t ?_)) dX2_isBird_4 rfl ?_
  refine x_iconst B 8 (v := 0) dX2_isBird_7 (by decide) rfl ?_
  refine x_iald B 9 (by repeat (first | with_reducible exact xr_h | refine xr_t ?_)) rfl ⟨by first | omega | decide, by first | decide | omega⟩ dX2_isBird_8 rfl ?_
  refine x_iconst B 10 (v := 1) dX2_isBird_9 (by decide) rfl ?_
  refine x_isub B 11 dX2_isBird_10 rfl ?_
  refine x_i2l B 12 dX2_isBird_11 rfl ?_
  refine x_callS B 15 (m_X2_in _ _ _) [] rfl q1869 q1870 q92 q1871 hd_X2_in rfl ⟨by first | decide | omega, by first | decide | omega⟩ ⟨by first | decide | omega, by first | decide | omega⟩ rfl (Nat.le_of_ble_eq_true rfl) dX2_isBird_12 rfl (fun _ _ _ h => h.elim) ?_
  rintro _ _ ⟨rfl, rfl⟩
  try simp only [xst, xput, xpre, List.set_cons_zero, List.set_cons_succ]
  rw [hr, xinB b (by omega)]
  exact x_zret B rfl ⟨rfl, rfl⟩ dX2_isBird_15 ⟨by first | omega | decide, by first | omega | decide⟩ (by first | exact Or.inl rfl | exact Or.inr rfl | exact x_in01 _ _ _ | exact x_has01 _ _ | exact bI01 _ | assumption)
theorem m_isMan (b : Int32) (hr : row 1 = nI nm) (hn : nm ≤ 8) : XC D yX2_isMan (ws_ yX2_isMan cX2_isMan 2 (Option.some Jvm.ClassFile.FieldType.boolean)) 1 40 (0) (0) [.ref h, .int b] [tR D h ad iv, tI D ad 0 1404 row] (fun r cs' => r = some (.int (bI (toR b 0 nm).isSome)) ∧ cs' = [tR D h ad iv, tI D ad 0 1404 row]) x0 := by
  refine XC.of (by decide) (by simp [Value.category]) (Nat.le_of_ble_eq_true rfl) fun X B => ?_
  show WX D X [tR D h ad iv, tI D ad 0 1404 row] 0 0 0 [some (.ref h), some (.int b)] []
  refine x_iload1 B 1 dX2_isMan_0 rfl ?_
  refine x_i2l B 2 dX2_isMan_1 rfl ?_
  refine x_lconst B 3 (v := 0) dX2_isMan_2 (by decide) rfl ?_
  refine x_aload0 B 4 dX2_isMan_3 rfl (by first | rfl | exact xisR_rf _) ?_
  refine g_X2_7_X2 B 7 (by repeat (first | with_reducible exact xr_h | refine xr_t ?_)) dX2_isMan_4 rfl ?_
  refine x_iconst B 8 (v := 1) dX2_isMan_7 (by decide) rfl ?_
  refine x_iald B 9 (by repeat (first | with_reducible exact xr_h | refine xr_t ?_)) rfl ⟨by first | omega | decide, by first | decide | omega⟩ dX2_isMan_8 rfl ?_
  refine x_iconst B 10 (v := 1) dX2_isMan_9 (by decide) rfl ?_
  refine x_isub B 11 dX2_isMan_10 rfl ?_
  refine x_i2l B 12 dX2_isMan_11 rfl ?_
  refine x_callS B 15 (m_X2_in _ _ _) [] rfl q1869 q1870 q92 q1871 hd_X2_in rfl ⟨by first | decide | omega, by first | decide | omega⟩ ⟨by first | decide | omega, by first | decide | omega⟩ rfl (Nat.le_of_ble_eq_true rfl) dX2_isMan_12 rfl (fun _ _ _ h => h.elim) ?_
  rintro _ _ ⟨rfl, rfl⟩
  try simp only [xst, xput, xpre, List.set_cons_zero, List.set_cons_succ]
  rw [hr, xinB b (by omega)]
  exact x_zret B rfl ⟨rfl, rfl⟩ dX2_isMan_15 ⟨by first | omega | decide, by first | omega | decide⟩ (by first | exact Or.inl rfl | exact Or.inr rfl | exact x_in01 _ _ _ | exact x_has01 _ _ | exact bI01 _ | assumption)
theorem m_isWordNumber (b : Int32) : XC D yX2_isWordNumber (ws_ yX2_isWordNumber cX2_isWordNumber 1 (Option.some Jvm.ClassFile.FieldType.boolean)) 1 40 (0) (0) [.int b] [] (fun r cs' => r = some (.int (bI (toR b 0 10).isSome)) ∧ cs' = []) x0 := by
  refine XC.of (by decide) (by simp [Value.category]) (Nat.le_of_ble_eq_true rfl) fun X B => ?_
  show WX D X [] 0 0 0 [some (.int b)] []
  refine x_iload0 B 1 dX2_isWordNumber_0 rfl ?_
  refine x_i2l B 2 dX2_isWordNumber_1 rfl ?_
  refine x_lconst B 3 (v := 0) dX2_isWordNumber_2 (by decide) rfl ?_
  refine x_ldc2 B 6 dX2_isWordNumber_3 q2009 rfl ?_
  refine x_callS B 9 (m_X2_in _ _ _) [] rfl q1869 q1870 q92 q1871 hd_X2_in rfl ⟨by first | decide | omega, by first | decide | omega⟩ ⟨by first | decide | omega, by first | decide | omega⟩ rfl (Nat.le_of_ble_eq_true rfl) dX2_isWordNumber_6 rfl (fun _ _ _ h => h.elim) ?_
  rintro _ _ ⟨rfl, rfl⟩
  try simp only [xst, xput, xpre, List.set_cons_zero, List.set_cons_succ]
  rw [show x_in b.toInt64 0 9 = bI (toR b 0 10).isSome from xinR b 0 9 rfl rfl (by decide) (by decide)]
  exact x_zret B rfl ⟨rfl, rfl⟩ dX2_isWordNumber_9 ⟨by first | omega | decide, by first | omega | decide⟩ (by first | exact Or.inl rfl | exact Or.inr rfl | exact x_in01 _ _ _ | exact x_has01 _ _ | exact bI01 _ | assumption)
theorem m_X2_copyHarbour (f t : Nat) (hf : f + 108 ≤ 1404) (ht : t + 108 ≤ 1404) (hd : f + 108 ≤ t ∨ t + 108 ≤ f) : XC D yX2_copyHarbour (ws_ yX2_copyHarbour cX2_copyHarbour 4 (Option.none : Option Jvm.ClassFile.FieldType)) 0 0 (0) (0) [.ref h, .int (nI f), .int (nI t)] [tR D h ad iv, tI D ad 0 1404 row] (fun r cs' => r = none ∧ ∃ row', (∀ k, k < 108 → row' (t + k) = row (f + k)) ∧ TS t (t + 108) row row' ∧ cs' = [tR D h ad iv, tI D ad 0 1404 row']) x0 := by
  refine XC.of (by decide) (by simp [Value.category]) (Nat.le_of_ble_eq_true rfl) fun X B => ?_
  show WX D X [tR D h ad iv, tI D ad 0 1404 row] 0 0 0 [some (.ref h), some (.int (nI f)), some (.int (nI t)), none] []
  have loop : ∀ (m k : Nat), k + m = 108 → ∀ row', (∀ j, j < k → row' (t + j) = row (f + j)) → TS t (t + 108) row row' → WX D X [tR D h ad iv, tI D ad 0 1404 row'] 0 0 2 [some (.ref h), some (.int (nI f)), some (.int (nI t)), some (.int (nI k))] [] := by
    intro m
    induction m with
    | zero =>
      intro k hk row' h1 h2
      obtain rfl : k = 108 := by omega
      refine x_iload3 B 3 dX2_copyHarbour_2 rfl ?_
      refine x_bipush B 5 (v := 108) dX2_copyHarbour_3 (by decide) rfl ?_
      refine x_icmp_ge_t B 30 dX2_copyHarbour_5 (by decide) (by (try simp only [xlit]); first | (rw [nI_leI (by omega) (by omega)]; omega) | (rw [nI_ltI (by omega) (by omega)]; omega) | (rw [nI_eq (by omega) (by omega)]; omega)) ?_
      exact x_vret B rfl ⟨rfl, row', h1, h2, rfl⟩ dX2_copyHarbour_30 ⟨by first | omega | decide, by first | omega | decide⟩
    | succ m ih =>
      intro k hk row' h1 h2
      refine x_iload3 B 3 dX2_copyHarbour_2 rfl ?_
      refine x_bipush B 5 (v := 108) dX2_copyHarbour_3 (by decide) rfl ?_
      refine x_icmp_ge_f (tp := 30) B 8 dX2_copyHarbour_5 (by decide) rfl (by (try simp only [xlit]); first | (rw [nI_leI (by omega) (by omega)]; omega) | (rw [nI_ltI (by omega) (by omega)]; omega) | (rw [nI_eq (by omega) (by omega)]; omega)) ?_
      refine x_aload0 B 9 dX2_copyHarbour_8 rfl (by first | rfl | exact xisR_rf _) ?_
      refine g_X2_7_X2 B 12 (by repeat (first | with_reducible exact xr_h | refine xr_t ?_)) dX2_copyHarbour_9 rfl ?_
      refine x_iload2 B 13 dX2_copyHarbour_12 rfl ?_
      refine x_iload3 B 14 dX2_copyHarbour_13 rfl ?_
      refine x_iadd B 15 dX2_copyHarbour_14 rfl ?_
      refine x_aload0 B 16 dX2_copyHarbour_15 rfl (by first | rfl | exact xisR_rf _) ?_
      refine g_X2_7_X2 B 19 (by repeat (first | with_reducible exact xr_h | refine xr_t ?_)) dX2_copyHarbour_16 rfl ?_
      refine x_iload1 B 20 dX2_copyHarbour_19 rfl ?_
      refine x_iload3 B 21 dX2_copyHarbour_20 rfl ?_
      refine x_iadd B 22 dX2_copyHarbour_21 rfl ?_
      refine x_iald B 23 (by repeat (first | with_reducible exact xr_h | refine xr_t ?_)) (j := f + k) (by first | (simp only [xlit, nI_add, pk_mul]; done) | rfl | (simp only [xlit, nI_add, pk_mul]; congr 1; omega)) ⟨by first | omega | decide, by first | decide | omega⟩ dX2_copyHarbour_22 rfl ?_
      rw [h2 (f + k) (by omega)]
      refine x_iast B 24 (by repeat (first | with_reducible exact xu_h | apply xu_t)) (j := t + k) (by first | (simp only [xlit, nI_add, pk_mul]; done) | rfl | (simp only [xlit, nI_add, pk_mul]; congr 1; omega)) ⟨by first | omega | decide, by first | decide | omega⟩ dX2_copyHarbour_23 rfl ?_
      refine x_iinc3 B 27 dX2_copyHarbour_24 rfl (by first | exact xinc _ | rfl) ?_
      refine x_goto B 2 dX2_copyHarbour_27 (by decide) ?_
      refine ih (k + 1) (by omega) _ (fun j hj => ?_) (h2.upd (by omega) (by omega))
      by_cases e : j = k
      · subst e; rw [pk_us]
      · rw [pk_un (by omega)]; exact h1 j (by omega)
  refine x_iconst B 1 (v := 0) dX2_copyHarbour_0 (by decide) rfl ?_
  refine x_istore3 B 2 dX2_copyHarbour_1 rfl ?_
  exact loop 108 0 rfl row (fun j hj => by omega) TS.rf
theorem m_X2_layTried (hT : TRep row 0 nb nm kd S) (hO : HOk nb nm kd S) : XC D yX2_layTried (ws_ yX2_layTried cX2_layTried 1 (Option.none : Option Jvm.ClassFile.FieldType)) 1 40 (0) (0) [.ref h] [tR D h ad iv, tI D ad 0 1404 row] (fun r cs' => r = none ∧ ∃ row', TRep row' 1296 nb nm kd S ∧ TS 1296 1404 row row' ∧ cs' = [tR D h ad iv, tI D ad 0 1404 row']) x0 := by
  refine XC.of (by decide) (by simp [Value.category]) (Nat.le_of_ble_eq_true rfl) fun X B => ?_
  show WX D X [tR D h ad iv, tI D ad 0 1404 row] 0 0 0 [some (.ref h)] []
  refine x_aload0 B 1 dX2_layTried_0 rfl (by first | rfl | exact xisR_rf _) ?_
  refine x_iconst B 2 (v := 0) dX2_layTried_1 (by decide) rfl ?_
  refine x_sipush B 5 (v := 1296) dX2_layTried_2 (by decide) rfl ?_
  refine x_callV B 8 (m_X2_copyHarbour 0 1296 (by omega) (by omega) (by omega)) [0, 1] rfl ⟨_, _, _, (by repeat (first | with_reducible exact xr_h | refine xr_t ?_)), rfl, rfl⟩ q1949 q1951 qs54 q92 q1952 hd_X2_copyHarbour (by decide) ⟨by first | decide | omega, by first | decide | omega⟩ ⟨by first | decide | omega, by first | decide | omega⟩ rfl (Nat.le_of_ble_eq_true rfl) dX2_layTried_5 rfl (fun _ _ _ h => h.elim) ?_
  rintro _ _ ⟨rfl, row', h1, h2, rfl⟩
  try simp only [xst, xput, xpre, List.set_cons_zero, List.set_cons_succ]
  exact x_vret B rfl ⟨rfl, row', hT.copy hO.1 hO.2.1 h1, h2, rfl⟩ dX2_layTried_8 ⟨by first | omega | decide, by first | omega | decide⟩
theorem m_X2_passTried (hT : TRep row 1296 nb nm kd S) (hO : HOk nb nm kd S) (n : Nat) (hn : n < 1000) (hE : S.2.2.2.2.2 + n < 100000) (P0 : (Nat → Int32) → (Nat → Int32) → HS → Prop) (h0 : P0 sw sm S) (hP : ∀ j sw' sm', j < n → SAll sw' sm' (hPass kd nb nm (hGo kd nb nm S j)).2 4 → P0 sw' sm' (hGo kd nb nm S (j + 1))) : XC D yX2_passTried (ws_ yX2_passTried cX2_passTried 3 (Option.none : Option Jvm.ClassFile.FieldType)) 5 200 (0) (0) [.ref h, .int (nI n)] [tR D h ad iv, tI D ad 0 1404 row, tI D ad 36 64 sw, tI D ad 37 4 sm] (fun r cs' => r = none ∧ ∃ row' sw' sm', TRep row' 1296 nb nm kd (hGo kd nb nm S n) ∧ TS 1296 1404 row row' ∧ P0 sw' sm' (hGo kd nb nm S n) ∧ cs' = [tR D h ad iv, tI D ad 0 1404 row', tI D ad 36 64 sw', tI D ad 37 4 sm']) x0 := by
  refine XC.of (by decide) (by simp [Value.category]) (Nat.le_of_ble_eq_true rfl) fun X B => ?_
  show WX D X [tR D h ad iv, tI D ad 0 1404 row, tI D ad 36 64 sw, tI D ad 37 4 sm] 0 0 0 [some (.ref h), some (.int (nI n)), none] []
  have loop : ∀ (m k : Nat), k + m = n → ∀ row' sw' sm', TRep row' 1296 nb nm kd (hGo kd nb nm S k) → TS 1296 1404 row row' → P0 sw' sm' (hGo kd nb nm S k) → WX D X [tR D h ad iv, tI D ad 0 1404 row', tI D ad 36 64 sw', tI D ad 37 4 sm'] 0 0 2 [some (.ref h), some (.int (nI n)), some (.int (nI k))] [] := by
    intro m
    induction m with
    | zero =>
      intro k hk row' sw' sm' h1 h2 h3
      obtain rfl : k = n := by omega
      refine x_iload2 B 3 dX2_passTried_2 rfl ?_
      refine x_iload1 B 4 dX2_passTried_3 rfl ?_
      refine x_icmp_ge_t B 20 dX2_passTried_4 (by decide) (by (try simp only [xlit]); first | (rw [nI_leI (by omega) (by omega)]; omega) | (rw [nI_ltI (by omega) (by omega)]; omega) | (rw [nI_eq (by omega) (by omega)]; omega)) ?_
      exact x_vret B rfl ⟨rfl, row', sw', sm', h1, h2, h3, rfl⟩ dX2_passTried_20 ⟨by first | omega | decide, by first | omega | decide⟩
    | succ m ih =>
      intro k hk row' sw' sm' h1 h2 h3
      refine x_iload2 B 3 dX2_passTried_2 rfl ?_
      refine x_iload1 B 4 dX2_passTried_3 rfl ?_
      refine x_icmp_ge_f (tp := 20) B 7 dX2_passTried_4 (by decide) rfl (by (try simp only [xlit]); first | (rw [nI_leI (by omega) (by omega)]; omega) | (rw [nI_ltI (by omega) (by omega)]; omega) | (rw [nI_eq (by omega) (by omega)]; omega)) ?_
      refine x_aload0 B 8 dX2_passTried_7 rfl (by first | rfl | exact xisR_rf _) ?_
      refine x_sipush B 11 (v := 1296) dX2_passTried_8 (by decide) rfl ?_
      refine x_callV B 14 (m_X2_passes h1 (hO.go k (by omega)) (by omega)) [0, 1, 2, 3] rfl ⟨_, _, _, (by repeat (first | with_reducible exact xr_h | refine xr_t ?_)), rfl, rfl⟩ q2019 q2021 qs63 q92 q2022 hd_X2_passes (by decide) ⟨by first | decide | omega, by first | decide | omega⟩ ⟨by first | decide | omega, by first | decide | omega⟩ rfl (Nat.le_of_ble_eq_true rfl) dX2_passTried_11 rfl (fun _ _ _ h => h.elim) ?_
      rintro _ _ ⟨rfl, row2, sw2, sm2, g1, g2, g3, rfl⟩
      try simp only [xst, xput, xpre, List.set_cons_zero, List.set_cons_succ]
      refine x_iinc2 B 17 dX2_passTried_14 rfl (by first | exact xinc _ | rfl) ?_
      refine x_goto B 2 dX2_passTried_17 (by decide) ?_
      exact ih (k + 1) (by omega) row2 sw2 sm2 g1 (h2.trans (fun j hj => g2 j (by omega))) (hP k sw2 sm2 (by omega) g3)
  refine x_iconst B 1 (v := 0) dX2_passTried_0 (by decide) rfl ?_
  refine x_istore2 B 2 dX2_passTried_1 rfl ?_
  exact loop n 0 (by omega) row sw sm hT TS.rf h0
theorem m_X2_manOf (hT : TRep row base nb nm kd S) (hO : HOk nb nm kd S) (hB : base + 108 ≤ 1404) (b : Nat) (hb : b < nb) : XC D yX2_manOf (ws_ yX2_manOf cX2_manOf 5 (Option.some Jvm.ClassFile.FieldType.int)) 0 0 (0) (0) [.ref h, .int (nI base), .int (nI b)] [tR D h ad iv, tI D ad 0 1404 row] (fun r cs' => r = some (.int (oI (hMan S.2.2.2.1 b nm))) ∧ cs' = [tR D h ad iv, tI D ad 0 1404 row]) x0 := by
  refine XC.of (by decide) (by simp [Value.category]) (Nat.le_of_ble_eq_true rfl) fun X B => ?_
  show WX D X [tR D h ad iv, tI D ad 0 1404 row] 0 0 0 [some (.ref h), some (.int (nI base)), some (.int (nI b)), none, none] []
  have hnb := hO.1
  have hnm := hO.2.1
  have loop : ∀ (j m : Nat), m + j = nm → WX D X [tR D h ad iv, tI D ad 0 1404 row] 0 0 5 [some (.ref h), some (.int (nI base)), some (.int (nI b)), some (.int (oI (hMan S.2.2.2.1 b m))), some (.int (nI m))] [] := by
    intro j
    induction j with
    | zero =>
      intro m hm
      obtain rfl : m = nm := by omega
      refine x_iload4 B 7 dX2_manOf_5 rfl ?_
      refine x_aload0 B 8 dX2_manOf_7 rfl (by first | rfl | exact xisR_rf _) ?_
      refine g_X2_7_X2 B 11 (by repeat (first | with_reducible exact xr_h | refine xr_t ?_)) dX2_manOf_8 rfl ?_
      refine x_iload1 B 12 dX2_manOf_11 rfl ?_
      refine x_iconst B 13 (v := 1) dX2_manOf_12 (by decide) rfl ?_
      refine x_iadd B 14 dX2_manOf_13 rfl ?_
      refine x_ialdv B 15 (by repeat (first | with_reducible exact xr_h | refine xr_t ?_)) (j := base + 1) (by first | (simp only [xlit, nI_add, pk_mul]; done) | rfl | (simp only [xlit, nI_add, pk_mul]; congr 1; omega)) ⟨by first | omega | decide, by first | decide | omega⟩ hT.2.1 dX2_manOf_14 rfl ?_
      refine x_icmp_ge_t B 47 dX2_manOf_15 (by decide) (by (try simp only [xlit]); first | (rw [nI_leI (by omega) (by omega)]; omega) | (rw [nI_ltI (by omega) (by omega)]; omega) | (rw [nI_eq (by omega) (by omega)]; omega)) ?_
      refine x_iload3 B 48 dX2_manOf_47 rfl ?_
      exact x_iret B rfl ⟨rfl, rfl⟩ dX2_manOf_48 ⟨by first | omega | decide, by first | omega | decide⟩
    | succ j ih =>
      intro m hm
      have hm' : m < nm := by omega
      have e1 : hMan S.2.2.2.1 b (m + 1) = if S.2.2.2.1 m = some b then some m else hMan S.2.2.2.1 b m := rfl
      refine x_iload4 B 7 dX2_manOf_5 rfl ?_
      refine x_aload0 B 8 dX2_manOf_7 rfl (by first | rfl | exact xisR_rf _) ?_
      refine g_X2_7_X2 B 11 (by repeat (first | with_reducible exact xr_h | refine xr_t ?_)) dX2_manOf_8 rfl ?_
      refine x_iload1 B 12 dX2_manOf_11 rfl ?_
      refine x_iconst B 13 (v := 1) dX2_manOf_12 (by decide) rfl ?_
      refine x_iadd B 14 dX2_manOf_13 rfl ?_
      refine x_ialdv B 15 (by repeat (first | with_reducible exact xr_h | refine xr_t ?_)) (j := base + 1) (by first | (simp only [xlit, nI_add, pk_mul]; done) | rfl | (simp only [xlit, nI_add, pk_mul]; congr 1; omega)) ⟨by first | omega | decide, by first | decide | omega⟩ hT.2.1 dX2_manOf_14 rfl ?_
      refine x_icmp_ge_f (tp := 47) B 18 dX2_manOf_15 (by decide) rfl (by (try simp only [xlit]); first | (rw [nI_leI (by omega) (by omega)]; omega) | (rw [nI_ltI (by omega) (by omega)]; omega) | (rw [nI_eq (by omega) (by omega)]; omega)) ?_
      refine x_aload0 B 19 dX2_manOf_18 rfl (by first | rfl | exact xisR_rf _) ?_
      refine g_X2_7_X2 B 22 (by repeat (first | with_reducible exact xr_h | refine xr_t ?_)) dX2_manOf_19 rfl ?_
      refine x_iload1 B 23 dX2_manOf_22 rfl ?_
      refine x_bipush B 25 (v := 104) dX2_manOf_23 (by decide) rfl ?_
      refine x_iadd B 26 dX2_manOf_25 rfl ?_
      refine x_iload4 B 28 dX2_manOf_26 rfl ?_
      refine x_iadd B 29 dX2_manOf_28 rfl ?_
      refine x_ialdv B 30 (by repeat (first | with_reducible exact xr_h | refine xr_t ?_)) (j := base + 104 + m) (by first | (simp only [xlit, nI_add, pk_mul]; done) | rfl | (simp only [xlit, nI_add, pk_mul]; congr 1; omega)) ⟨by first | omega | decide, by first | decide | omega⟩ (hT.2.2.2.2.2.2.2.2 m hm') dX2_manOf_29 rfl ?_
      have e2 : oI (S.2.2.2.1 m) = nI b ↔ S.2.2.2.1 m = some b := oI_inj (z := some b) (hO.Yb hm') (fun c hc => by cases hc; omega)
      by_cases c : S.2.2.2.1 m = some b
      · refine x_iload2 B 31 dX2_manOf_30 rfl ?_
        refine x_icmp_ne_f (tp := 39) B 34 dX2_manOf_31 (by decide) rfl (by rw [e2]; exact c) ?_
        refine x_iload4 B 36 dX2_manOf_34 rfl ?_
        refine x_goto B 40 dX2_manOf_36 (by decide) ?_
        refine x_istore3 B 41 dX2_manOf_40 rfl ?_
        refine x_iinc4 B 44 dX2_manOf_41 rfl (by first | exact xinc _ | rfl) ?_
        refine x_goto B 5 dX2_manOf_44 (by decide) ?_
        rw [if_pos c] at e1
        rw [show nI m = oI (hMan S.2.2.2.1 b (m + 1)) by rw [e1]; rfl]
        exact ih (m + 1) (by omega)
      · refine x_iload2 B 31 dX2_manOf_30 rfl ?_
        refine x_icmp_ne_t B 39 dX2_manOf_31 (by decide) (by rw [e2]; exact c) ?_
        refine x_iload3 B 40 dX2_manOf_39 rfl ?_
        refine x_istore3 B 41 dX2_manOf_40 rfl ?_
        refine x_iinc4 B 44 dX2_manOf_41 rfl (by first | exact xinc _ | rfl) ?_
        refine x_goto B 5 dX2_manOf_44 (by decide) ?_
        rw [if_neg c] at e1
        rw [← e1]
        exact ih (m + 1) (by omega)
  refine x_iconst B 1 (v := (-1)) dX2_manOf_0 (by decide) rfl ?_
  refine x_istore3 B 2 dX2_manOf_1 rfl ?_
  refine x_iconst B 3 (v := 0) dX2_manOf_2 (by decide) rfl ?_
  refine x_istore4 B 5 dX2_manOf_3 rfl ?_
  exact loop nm 0 (by omega)
theorem m_X2_wellKnown (hT : TRep row base nb nm kd S) (hO : HOk nb nm kd S) (hB : base + 108 ≤ 1404) (b : Nat) (hb : b < nb) : XC D yX2_wellKnown (ws_ yX2_wellKnown cX2_wellKnown 5 (Option.some Jvm.ClassFile.FieldType.int)) 0 0 (0) (0) [.ref h, .int (nI base), .int (nI b)] [tR D h ad iv, tI D ad 0 1404 row] (fun r cs' => r = some (.int (nI (hWell (S.1 b) 10))) ∧ cs' = [tR D h ad iv, tI D ad 0 1404 row]) x0 := by
  refine XC.of (by decide) (by simp [Value.category]) (Nat.le_of_ble_eq_true rfl) fun X B => ?_
  show WX D X [tR D h ad iv, tI D ad 0 1404 row] 0 0 0 [some (.ref h), some (.int (nI base)), some (.int (nI b)), none, none] []
  have hnb := hO.1
  have loop : ∀ (j w : Nat), w + j = 10 → WX D X [tR D h ad iv, tI D ad 0 1404 row] 0 0 5 [some (.ref h), some (.int (nI base)), some (.int (nI b)), some (.int (nI (hWell (S.1 b) w))), some (.int (nI w))] [] := by
    intro j
    induction j with
    | zero =>
      intro w hw
      obtain rfl : w = 10 := by omega
      refine x_iload4 B 7 dX2_wellKnown_5 rfl ?_
      refine x_bipush B 9 (v := 10) dX2_wellKnown_7 (by decide) rfl ?_
      refine x_icmp_ge_t B 50 dX2_wellKnown_9 (by decide) (by (try simp only [xlit]); first | (rw [nI_leI (by omega) (by omega)]; omega) | (rw [nI_ltI (by omega) (by omega)]; omega) | (rw [nI_eq (by omega) (by omega)]; omega)) ?_
      refine x_iload3 B 51 dX2_wellKnown_50 rfl ?_
      exact x_iret B rfl ⟨rfl, rfl⟩ dX2_wellKnown_51 ⟨by first | omega | decide, by first | omega | decide⟩
    | succ j ih =>
      intro w hw
      have hK := hO.2.2.2.1 b w hb (by omega)
      have e1 : hWell (S.1 b) (w + 1) = hWell (S.1 b) w ||| (if 4 < S.1 b w then 2 ^ w else 0) := rfl
      refine x_iload4 B 7 dX2_wellKnown_5 rfl ?_
      refine x_bipush B 9 (v := 10) dX2_wellKnown_7 (by decide) rfl ?_
      refine x_icmp_ge_f (tp := 50) B 12 dX2_wellKnown_9 (by decide) rfl (by (try simp only [xlit]); first | (rw [nI_leI (by omega) (by omega)]; omega) | (rw [nI_ltI (by omega) (by omega)]; omega) | (rw [nI_eq (by omega) (by omega)]; omega)) ?_
      refine x_iload3 B 13 dX2_wellKnown_12 rfl ?_
      refine x_aload0 B 14 dX2_wellKnown_13 rfl (by first | rfl | exact xisR_rf _) ?_
      refine g_X2_7_X2 B 17 (by repeat (first | with_reducible exact xr_h | refine xr_t ?_)) dX2_wellKnown_14 rfl ?_
      refine x_iload1 B 18 dX2_wellKnown_17 rfl ?_
      refine x_bipush B 20 (v := 20) dX2_wellKnown_18 (by decide) rfl ?_
      refine x_iadd B 21 dX2_wellKnown_20 rfl ?_
      refine x_bipush B 23 (v := 10) dX2_wellKnown_21 (by decide) rfl ?_
      refine x_iload2 B 24 dX2_wellKnown_23 rfl ?_
      refine x_imul B 25 dX2_wellKnown_24 rfl ?_
      refine x_iadd B 26 dX2_wellKnown_25 rfl ?_
      refine x_iload4 B 28 dX2_wellKnown_26 rfl ?_
      refine x_iadd B 29 dX2_wellKnown_28 rfl ?_
      refine x_ialdv B 30 (by repeat (first | with_reducible exact xr_h | refine xr_t ?_)) (j := base + 20 + 10 * b + w) (by first | (simp only [xlit, nI_add, pk_mul]; done) | rfl | (simp only [xlit, nI_add, pk_mul]; congr 1; omega)) ⟨by first | omega | decide, by first | decide | omega⟩ (hT.2.2.2.2.2.2.1 b w hb (by omega)) dX2_wellKnown_29 rfl ?_
      by_cases c : 4 < S.1 b w
      · rw [if_pos c] at e1
        refine x_iconst B 31 (v := 4) dX2_wellKnown_30 (by decide) rfl ?_
        refine x_icmp_le_f (tp := 41) B 34 dX2_wellKnown_31 (by decide) rfl (by (try simp only [xlit]); first | (rw [nI_leI (by omega) (by omega)]; omega) | (rw [nI_ltI (by omega) (by omega)]; omega) | (rw [nI_eq (by omega) (by omega)]; omega)) ?_
        refine x_iconst B 35 (v := 1) dX2_wellKnown_34 (by decide) rfl ?_
        refine x_iload4 B 37 dX2_wellKnown_35 rfl ?_
        refine x_ishl B 38 dX2_wellKnown_37 rfl ?_
        rw [xshl1 (by omega)]
        refine x_goto B 42 dX2_wellKnown_38 (by decide) ?_
        refine x_ior B 43 dX2_wellKnown_42 rfl ?_
        rw [xor_nI, ← e1]
        refine x_istore3 B 44 dX2_wellKnown_43 rfl ?_
        refine x_iinc4 B 47 dX2_wellKnown_44 rfl (by first | exact xinc _ | rfl) ?_
        refine x_goto B 5 dX2_wellKnown_47 (by decide) ?_
        exact ih (w + 1) (by omega)
      · rw [if_neg c] at e1
        refine x_iconst B 31 (v := 4) dX2_wellKnown_30 (by decide) rfl ?_
        refine x_icmp_le_t B 41 dX2_wellKnown_31 (by decide) (by (try simp only [xlit]); first | (rw [nI_leI (by omega) (by omega)]; omega) | (rw [nI_ltI (by omega) (by omega)]; omega) | (rw [nI_eq (by omega) (by omega)]; omega)) ?_
        refine x_iconst B 42 (v := 0) dX2_wellKnown_41 (by decide) rfl ?_
        refine x_ior B 43 dX2_wellKnown_42 rfl ?_
        rw [show nI (hWell (S.1 b) w) ||| 0 = nI (hWell (S.1 b) (w + 1)) by rw [e1]; exact xor_nI _ 0]
        refine x_istore3 B 44 dX2_wellKnown_43 rfl ?_
        refine x_iinc4 B 47 dX2_wellKnown_44 rfl (by first | exact xinc _ | rfl) ?_
        refine x_goto B 5 dX2_wellKnown_47 (by decide) ?_
        exact ih (w + 1) (by omega)
  refine x_iconst B 1 (v := 0) dX2_wellKnown_0 (by decide) rfl ?_
  refine x_istore3 B 2 dX2_wellKnown_1 rfl ?_
  refine x_iconst B 3 (v := 0) dX2_wellKnown_2 (by decide) rfl ?_
  refine x_istore4 B 5 dX2_wellKnown_3 rfl ?_
  exact loop 10 0 rfl
theorem m_X2_sets (hT : TRep row base nb nm kd S) (hO : HOk nb nm kd S) (hB : base + 108 ≤ 1404) (m : Nat) (hm : m < nm) (b : Option Nat) (hb : ∀ j, b = some j → j < nb) : XC D yX2_sets (ws_ yX2_sets cX2_sets 5 (Option.none : Option Jvm.ClassFile.FieldType)) 0 0 (0) (0) [.ref h, .int (nI base), .int (nI m), .int (oI b)] [tR D h ad iv, tI D ad 0 1404 row] (fun r cs' => r = none ∧ ∃ row', TRep row' base nb nm kd (hSets S nm m b) ∧ TS base (base + 108) row row' ∧ cs' = [tR D h ad iv, tI D ad 0 1404 row']) x0 := by
  refine XC.of (by decide) (by simp [Value.category]) (Nat.le_of_ble_eq_true rfl) fun X B => ?_
  show WX D X [tR D h ad iv, tI D ad 0 1404 row] 0 0 0 [some (.ref h), some (.int (nI base)), some (.int (nI m)), some (.int (oI b)), none] []
  have hnb := hO.1
  have hnm := hO.2.1
  have hb2 : ∀ j, b = some j → j < 2147483648 := fun j e => by have := hb j e; omega
  have eN : ∀ k, k < nm → (oI (S.2.2.2.1 k) = oI b ↔ S.2.2.2.1 k = b) := fun k hk => oI_inj (hO.Yb hk) hb2
  have loop : ∀ (j k : Nat), k + j = nm → ∀ row', TRep row' base nb nm kd (S.1, S.2.1, S.2.2.1, (fun i => if i < k ∧ b ≠ none ∧ S.2.2.2.1 i = b then none else S.2.2.2.1 i), S.2.2.2.2) → TS base (base + 108) row row' → WX D X [tR D h ad iv, tI D ad 0 1404 row'] 0 0 3 [some (.ref h), some (.int (nI base)), some (.int (nI m)), some (.int (oI b)), some (.int (nI k))] [] := by
    intro j
    induction j with
    | zero =>
      intro k hk row' h1 h2
      obtain rfl : k = nm := by omega
      refine x_iload4 B 5 dX2_sets_3 rfl ?_
      refine x_aload0 B 6 dX2_sets_5 rfl (by first | rfl | exact xisR_rf _) ?_
      refine g_X2_7_X2 B 9 (by repeat (first | with_reducible exact xr_h | refine xr_t ?_)) dX2_sets_6 rfl ?_
      refine x_iload1 B 10 dX2_sets_9 rfl ?_
      refine x_iconst B 11 (v := 1) dX2_sets_10 (by decide) rfl ?_
      refine x_iadd B 12 dX2_sets_11 rfl ?_
      refine x_ialdv B 13 (by repeat (first | with_reducible exact xr_h | refine xr_t ?_)) (j := base + 1) (by first | (simp only [xlit, nI_add, pk_mul]; done) | rfl | (simp only [xlit, nI_add, pk_mul]; congr 1; omega)) ⟨by first | omega | decide, by first | decide | omega⟩ h1.2.1 dX2_sets_12 rfl ?_
      refine x_icmp_ge_t B 71 dX2_sets_13 (by decide) (by (try simp only [xlit]); first | (rw [nI_leI (by omega) (by omega)]; omega) | (rw [nI_ltI (by omega) (by omega)]; omega) | (rw [nI_eq (by omega) (by omega)]; omega)) ?_
      refine x_aload0 B 72 dX2_sets_71 rfl (by first | rfl | exact xisR_rf _) ?_
      refine g_X2_7_X2 B 75 (by repeat (first | with_reducible exact xr_h | refine xr_t ?_)) dX2_sets_72 rfl ?_
      refine x_iload1 B 76 dX2_sets_75 rfl ?_
      refine x_bipush B 78 (v := 104) dX2_sets_76 (by decide) rfl ?_
      refine x_iadd B 79 dX2_sets_78 rfl ?_
      refine x_iload2 B 80 dX2_sets_79 rfl ?_
      refine x_iadd B 81 dX2_sets_80 rfl ?_
      refine x_iload3 B 82 dX2_sets_81 rfl ?_
      refine x_iast B 83 (by repeat (first | with_reducible exact xu_h | apply xu_t)) (j := base + 104 + m) (by first | (simp only [xlit, nI_add, pk_mul]; done) | rfl | (simp only [xlit, nI_add, pk_mul]; congr 1; omega)) ⟨by first | omega | decide, by first | decide | omega⟩ dX2_sets_82 rfl ?_
      exact x_vret B rfl ⟨rfl, _, h1.setY hnb hnm hm b, h2.upd (by omega) (by omega), rfl⟩ dX2_sets_83 ⟨by first | omega | decide, by first | omega | decide⟩
    | succ j ih =>
      intro k hk row' h1 h2
      have hk' : k < nm := by omega
      have eY : row' (base + 104 + k) = oI (S.2.2.2.1 k) := (h1.2.2.2.2.2.2.2.2 k hk').trans (by dsimp only; rw [if_neg (by omega)])
      have next : ∀ y : Option Nat, y = (if b ≠ none ∧ S.2.2.2.1 k = b then none else S.2.2.2.1 k) → WX D X [tR D h ad iv, tI D ad 0 1404 (upd row' (base + 104 + k) (oI y))] 0 0 65 [some (.ref h), some (.int (nI base)), some (.int (nI m)), some (.int (oI b)), some (.int (nI k))] [] := by
        intro y hy
        refine x_iinc4 B 68 dX2_sets_65 rfl (by first | exact xinc _ | rfl) ?_
        refine x_goto B 3 dX2_sets_68 (by decide) ?_
        have h3 := h1.setY hnb hnm hk' y
        refine ih (k + 1) (by omega) _ (h3.ext fun i hi => ?_) (h2.upd (by omega) (by omega))
        dsimp only
        unfold fUp
        by_cases c : i = k
        · subst c; rw [if_pos rfl, hy]
          by_cases c2 : b ≠ none ∧ S.2.2.2.1 i = b
          · rw [if_pos c2, if_pos ⟨by omega, c2.1, c2.2⟩]
          · rw [if_neg c2, if_neg (fun z => c2 ⟨z.2.1, z.2.2⟩)]
        · rw [if_neg c]
          dsimp only
          by_cases c2 : i < k ∧ b ≠ none ∧ S.2.2.2.1 i = b
          · rw [if_pos c2, if_pos ⟨by omega, c2.2.1, c2.2.2⟩]
          · rw [if_neg c2, if_neg (fun z => c2 ⟨by omega, z.2.1, z.2.2⟩)]
      refine x_iload4 B 5 dX2_sets_3 rfl ?_
      refine x_aload0 B 6 dX2_sets_5 rfl (by first | rfl | exact xisR_rf _) ?_
      refine g_X2_7_X2 B 9 (by repeat (first | with_reducible exact xr_h | refine xr_t ?_)) dX2_sets_6 rfl ?_
      refine x_iload1 B 10 dX2_sets_9 rfl ?_
      refine x_iconst B 11 (v := 1) dX2_sets_10 (by decide) rfl ?_
      refine x_iadd B 12 dX2_sets_11 rfl ?_
      refine x_ialdv B 13 (by repeat (first | with_reducible exact xr_h | refine xr_t ?_)) (j := base + 1) (by first | (simp only [xlit, nI_add, pk_mul]; done) | rfl | (simp only [xlit, nI_add, pk_mul]; congr 1; omega)) ⟨by first | omega | decide, by first | decide | omega⟩ h1.2.1 dX2_sets_12 rfl ?_
      refine x_icmp_ge_f (tp := 71) B 16 dX2_sets_13 (by decide) rfl (by (try simp only [xlit]); first | (rw [nI_leI (by omega) (by omega)]; omega) | (rw [nI_ltI (by omega) (by omega)]; omega) | (rw [nI_eq (by omega) (by omega)]; omega)) ?_
      by_cases c : b = none
      · subst c
        refine x_aload0 B 17 dX2_sets_16 rfl (by first | rfl | exact xisR_rf _) ?_
        refine g_X2_7_X2 B 20 (by repeat (first | with_reducible exact xr_h | refine xr_t ?_)) dX2_sets_17 rfl ?_
        refine x_iload1 B 21 dX2_sets_20 rfl ?_
        refine x_bipush B 23 (v := 104) dX2_sets_21 (by decide) rfl ?_
        refine x_iadd B 24 dX2_sets_23 rfl ?_
        refine x_iload4 B 26 dX2_sets_24 rfl ?_
        refine x_iadd B 27 dX2_sets_26 rfl ?_
        refine x_iload3 B 28 dX2_sets_27 rfl ?_
        refine x_iconst B 29 (v := (-1)) dX2_sets_28 (by decide) rfl ?_
        refine x_icmp_eq_t B 52 dX2_sets_29 (by decide) rfl ?_
        refine x_aload0 B 53 dX2_sets_52 rfl (by first | rfl | exact xisR_rf _) ?_
        refine g_X2_7_X2 B 56 (by repeat (first | with_reducible exact xr_h | refine xr_t ?_)) dX2_sets_53 rfl ?_
        refine x_iload1 B 57 dX2_sets_56 rfl ?_
        refine x_bipush B 59 (v := 104) dX2_sets_57 (by decide) rfl ?_
        refine x_iadd B 60 dX2_sets_59 rfl ?_
        refine x_iload4 B 62 dX2_sets_60 rfl ?_
        refine x_iadd B 63 dX2_sets_62 rfl ?_
        refine x_ialdv B 64 (by repeat (first | with_reducible exact xr_h | refine xr_t ?_)) (j := base + 104 + k) (by first | (simp only [xlit, nI_add, pk_mul]; done) | rfl | (simp only [xlit, nI_add, pk_mul]; congr 1; omega)) ⟨by first | omega | decide, by first | decide | omega⟩ eY dX2_sets_63 rfl ?_
        refine x_iast B 65 (by repeat (first | with_reducible exact xu_h | apply xu_t)) (j := base + 104 + k) (by first | (simp only [xlit, nI_add, pk_mul]; done) | rfl | (simp only [xlit, nI_add, pk_mul]; congr 1; omega)) ⟨by first | omega | decide, by first | decide | omega⟩ dX2_sets_64 rfl ?_
        exact next _ (by rw [if_neg (by simp)])
      · refine x_aload0 B 17 dX2_sets_16 rfl (by first | rfl | exact xisR_rf _) ?_
        refine g_X2_7_X2 B 20 (by repeat (first | with_reducible exact xr_h | refine xr_t ?_)) dX2_sets_17 rfl ?_
        refine x_iload1 B 21 dX2_sets_20 rfl ?_
        refine x_bipush B 23 (v := 104) dX2_sets_21 (by decide) rfl ?_
        refine x_iadd B 24 dX2_sets_23 rfl ?_
        refine x_iload4 B 26 dX2_sets_24 rfl ?_
        refine x_iadd B 27 dX2_sets_26 rfl ?_
        refine x_iload3 B 28 dX2_sets_27 rfl ?_
        refine x_iconst B 29 (v := (-1)) dX2_sets_28 (by decide) rfl ?_
        refine x_icmp_eq_f (tp := 52) B 32 dX2_sets_29 (by decide) rfl (fun z => c ((oI_none hb2).mp z)) ?_
        refine x_aload0 B 33 dX2_sets_32 rfl (by first | rfl | exact xisR_rf _) ?_
        refine g_X2_7_X2 B 36 (by repeat (first | with_reducible exact xr_h | refine xr_t ?_)) dX2_sets_33 rfl ?_
        refine x_iload1 B 37 dX2_sets_36 rfl ?_
        refine x_bipush B 39 (v := 104) dX2_sets_37 (by decide) rfl ?_
        refine x_iadd B 40 dX2_sets_39 rfl ?_
        refine x_iload4 B 42 dX2_sets_40 rfl ?_
        refine x_iadd B 43 dX2_sets_42 rfl ?_
        refine x_ialdv B 44 (by repeat (first | with_reducible exact xr_h | refine xr_t ?_)) (j := base + 104 + k) (by first | (simp only [xlit, nI_add, pk_mul]; done) | rfl | (simp only [xlit, nI_add, pk_mul]; congr 1; omega)) ⟨by first | omega | decide, by first | decide | omega⟩ eY dX2_sets_43 rfl ?_
        by_cases c2 : S.2.2.2.1 k = b
        · refine x_iload3 B 45 dX2_sets_44 rfl ?_
          refine x_icmp_ne_f (tp := 52) B 48 dX2_sets_45 (by decide) rfl ((eN k hk').mpr c2) ?_
          refine x_iconst B 49 (v := (-1)) dX2_sets_48 (by decide) rfl ?_
          refine x_goto B 64 dX2_sets_49 (by decide) ?_
          rw [show (-1 : Int32) = oI none from rfl]
          refine x_iast B 65 (by repeat (first | with_reducible exact xu_h | apply xu_t)) (j := base + 104 + k) (by first | (simp only [xlit, nI_add, pk_mul]; done) | rfl | (simp only [xlit, nI_add, pk_mul]; congr 1; omega)) ⟨by first | omega | decide, by first | decide | omega⟩ dX2_sets_64 rfl ?_
          exact next none (by rw [if_pos ⟨c, c2⟩])
        · refine x_iload3 B 45 dX2_sets_44 rfl ?_
          refine x_icmp_ne_t B 52 dX2_sets_45 (by decide) (fun z => c2 ((eN k hk').mp z)) ?_
          refine x_aload0 B 53 dX2_sets_52 rfl (by first | rfl | exact xisR_rf _) ?_
          refine g_X2_7_X2 B 56 (by repeat (first | with_reducible exact xr_h | refine xr_t ?_)) dX2_sets_53 rfl ?_
          refine x_iload1 B 57 dX2_sets_56 rfl ?_
          refine x_bipush B 59 (v := 104) dX2_sets_57 (by decide) rfl ?_
          refine x_iadd B 60 dX2_sets_59 rfl ?_
          refine x_iload4 B 62 dX2_sets_60 rfl ?_
          refine x_iadd B 63 dX2_sets_62 rfl ?_
          refine x_ialdv B 64 (by repeat (first | with_reducible exact xr_h | refine xr_t ?_)) (j := base + 104 + k) (by first | (simp only [xlit, nI_add, pk_mul]; done) | rfl | (simp only [xlit, nI_add, pk_mul]; congr 1; omega)) ⟨by first | omega | decide, by first | decide | omega⟩ eY dX2_sets_63 rfl ?_
          refine x_iast B 65 (by repeat (first | with_reducible exact xu_h | apply xu_t)) (j := base + 104 + k) (by first | (simp only [xlit, nI_add, pk_mul]; done) | rfl | (simp only [xlit, nI_add, pk_mul]; congr 1; omega)) ⟨by first | omega | decide, by first | decide | omega⟩ dX2_sets_64 rfl ?_
          exact next _ (by rw [if_neg (fun z => c2 z.2)])
  refine x_iconst B 1 (v := 0) dX2_sets_0 (by decide) rfl ?_
  refine x_istore4 B 3 dX2_sets_1 rfl ?_
  exact loop nm 0 (by omega) row (hT.ext fun i hi => by rw [if_neg (by omega)]) TS.rf
end T5
