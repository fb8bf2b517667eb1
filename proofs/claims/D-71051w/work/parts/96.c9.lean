/-! THE COMPONENT, 10: birds, what an interface says for them -/
section C9
variable {D : xG} {q : Nat} {v : Int32}
theorem m_X16_gets_9  : XC D yX16_gets (ws_ yX16_gets cX16_gets 1 (Option.some Jvm.ClassFile.FieldType.int)) 1 40 (0) (0) [.ref q] [[(q, .inr (9, [.int v]))]] (fun r cs' => r = some (.int 3) ∧ cs' = [[(q, .inr (9, [.int v]))]]) x0 := by
  refine XC.of (by decide) (by simp [Value.category]) (Nat.le_of_ble_eq_true rfl) fun X B => ?_
  show WX D X [[(q, .inr (9, [.int v]))]] 0 0 0 [some (.ref q)] []
  refine x_iconst B 1 (v := 3) dX16_gets_0 (by decide) rfl ?_
  refine x_aload0 B 2 dX16_gets_1 rfl (by first | rfl | exact xisR_rf _) ?_
  refine x_callFD B 7 (C := "ParrotSpeech$Parrot") (m_X16_hears) [0] rfl ⟨9, _, _, (by repeat (first | with_reducible exact xr_h | refine xr_t ?_)), rfl, rfl⟩ q1278 xq_5 xl_4 q1283 q2256 q1285 q1284 q1298 (by decide +kernel) (by decide) ⟨by first | decide | omega, by first | decide | omega⟩ ⟨by first | decide | omega, by first | decide | omega⟩ rfl (Nat.le_of_ble_eq_true rfl) dX16_gets_2 rfl (fun _ _ _ h => h.elim) ?_
  rintro _ _ ⟨rfl, rfl⟩
  try simp only [xst, xput, xpre, List.set_cons_zero, List.set_cons_succ]
  refine x_imul B 8 dX16_gets_7 rfl ?_
  exact x_iret B rfl ⟨congrArg some (congrArg Value.int (by decide)), rfl⟩ dX16_gets_8 ⟨by first | omega | decide, by first | omega | decide⟩
theorem m_X16_gets_10  : XC D yX16_gets (ws_ yX16_gets cX16_gets 1 (Option.some Jvm.ClassFile.FieldType.int)) 1 40 (0) (0) [.ref q] [[(q, .inr (10, [.int v]))]] (fun r cs' => r = some (.int 3) ∧ cs' = [[(q, .inr (10, [.int v]))]]) x0 := by
  refine XC.of (by decide) (by simp [Value.category]) (Nat.le_of_ble_eq_true rfl) fun X B => ?_
  show WX D X [[(q, .inr (10, [.int v]))]] 0 0 0 [some (.ref q)] []
  refine x_iconst B 1 (v := 3) dX16_gets_0 (by decide) rfl ?_
  refine x_aload0 B 2 dX16_gets_1 rfl (by first | rfl | exact xisR_rf _) ?_
  refine x_callFD B 7 (C := "ParrotSpeech$Grey") (m_X16_hears) [0] rfl ⟨10, _, _, (by repeat (first | with_reducible exact xr_h | refine xr_t ?_)), rfl, rfl⟩ q1278 xq_5 xl_3 q1283 q2256 q1285 q1284 q1292 (by decide +kernel) (by decide) ⟨by first | decide | omega, by first | decide | omega⟩ ⟨by first | decide | omega, by first | decide | omega⟩ rfl (Nat.le_of_ble_eq_true rfl) dX16_gets_2 rfl (fun _ _ _ h => h.elim) ?_
  rintro _ _ ⟨rfl, rfl⟩
  try simp only [xst, xput, xpre, List.set_cons_zero, List.set_cons_succ]
  refine x_imul B 8 dX16_gets_7 rfl ?_
  exact x_iret B rfl ⟨congrArg some (congrArg Value.int (by decide)), rfl⟩ dX16_gets_8 ⟨by first | omega | decide, by first | omega | decide⟩
theorem m_X16_gets_11  : XC D yX16_gets (ws_ yX16_gets cX16_gets 1 (Option.some Jvm.ClassFile.FieldType.int)) 1 40 (0) (0) [.ref q] [[(q, .inr (11, [.int v]))]] (fun r cs' => r = some (.int 3) ∧ cs' = [[(q, .inr (11, [.int v]))]]) x0 := by
  refine XC.of (by decide) (by simp [Value.category]) (Nat.le_of_ble_eq_true rfl) fun X B => ?_
  show WX D X [[(q, .inr (11, [.int v]))]] 0 0 0 [some (.ref q)] []
  refine x_iconst B 1 (v := 3) dX16_gets_0 (by decide) rfl ?_
  refine x_aload0 B 2 dX16_gets_1 rfl (by first | rfl | exact xisR_rf _) ?_
  refine x_callFD B 7 (C := "ParrotSpeech$Cockatoo") (m_X16_hears) [0] rfl ⟨11, _, _, (by repeat (first | with_reducible exact xr_h | refine xr_t ?_)), rfl, rfl⟩ q1278 xq_5 xl_2 q1283 q2256 q1285 q1284 q1281 (by decide +kernel) (by decide) ⟨by first | decide | omega, by first | decide | omega⟩ ⟨by first | decide | omega, by first | decide | omega⟩ rfl (Nat.le_of_ble_eq_true rfl) dX16_gets_2 rfl (fun _ _ _ h => h.elim) ?_
  rintro _ _ ⟨rfl, rfl⟩
  try simp only [xst, xput, xpre, List.set_cons_zero, List.set_cons_succ]
  refine x_imul B 8 dX16_gets_7 rfl ?_
  exact x_iret B rfl ⟨congrArg some (congrArg Value.int (by decide)), rfl⟩ dX16_gets_8 ⟨by first | omega | decide, by first | omega | decide⟩
theorem m_X16_gets_12  : XC D yX16_gets (ws_ yX16_gets cX16_gets 1 (Option.some Jvm.ClassFile.FieldType.int)) 1 40 (0) (0) [.ref q] [[(q, .inr (12, [.int v]))]] (fun r cs' => r = some (.int 0) ∧ cs' = [[(q, .inr (12, [.int v]))]]) x0 := by
  refine XC.of (by decide) (by simp [Value.category]) (Nat.le_of_ble_eq_true rfl) fun X B => ?_
  show WX D X [[(q, .inr (12, [.int v]))]] 0 0 0 [some (.ref q)] []
  refine x_iconst B 1 (v := 3) dX16_gets_0 (by decide) rfl ?_
  refine x_aload0 B 2 dX16_gets_1 rfl (by first | rfl | exact xisR_rf _) ?_
  refine x_callF B 7 (C := "ParrotSpeech$Hawk") (m_X14_hears) [0] rfl ⟨12, _, _, (by repeat (first | with_reducible exact xr_h | refine xr_t ?_)), rfl, rfl⟩ q1278 xq_5 q1295 q1270 q125 q1271 (by decide +kernel) (by decide) ⟨by first | decide | omega, by first | decide | omega⟩ ⟨by first | decide | omega, by first | decide | omega⟩ rfl (Nat.le_of_ble_eq_true rfl) dX16_gets_2 rfl (fun _ _ _ h => h.elim) ?_
  rintro _ _ ⟨rfl, rfl⟩
  try simp only [xst, xput, xpre, List.set_cons_zero, List.set_cons_succ]
  refine x_imul B 8 dX16_gets_7 rfl ?_
  exact x_iret B rfl ⟨congrArg some (congrArg Value.int (by decide)), rfl⟩ dX16_gets_8 ⟨by first | omega | decide, by first | omega | decide⟩
theorem m_X16_loses_9  : XC D yX16_loses (ws_ yX16_loses cX16_loses 1 (Option.some Jvm.ClassFile.FieldType.int)) 1 40 (0) (0) [.ref q] [[(q, .inr (9, [.int v]))]] (fun r cs' => r = some (.int 1) ∧ cs' = [[(q, .inr (9, [.int v]))]]) x0 := by
  refine XC.of (by decide) (by simp [Value.category]) (Nat.le_of_ble_eq_true rfl) fun X B => ?_
  show WX D X [[(q, .inr (9, [.int v]))]] 0 0 0 [some (.ref q)] []
  refine x_aload0 B 1 dX16_loses_0 rfl (by first | rfl | exact xisR_rf _) ?_
  refine x_callFD B 6 (C := "ParrotSpeech$Parrot") (m_X16_hears) [0] rfl ⟨9, _, _, (by repeat (first | with_reducible exact xr_h | refine xr_t ?_)), rfl, rfl⟩ q1278 xq_5 xl_4 q1283 q2256 q1285 q1284 q1298 (by decide +kernel) (by decide) ⟨by first | decide | omega, by first | decide | omega⟩ ⟨by first | decide | omega, by first | decide | omega⟩ rfl (Nat.le_of_ble_eq_true rfl) dX16_loses_1 rfl (fun _ _ _ h => h.elim) ?_
  rintro _ _ ⟨rfl, rfl⟩
  try simp only [xst, xput, xpre, List.set_cons_zero, List.set_cons_succ]
  exact x_iret B rfl ⟨congrArg some (congrArg Value.int (by decide)), rfl⟩ dX16_loses_6 ⟨by first | omega | decide, by first | omega | decide⟩
theorem m_X16_loses_10  : XC D yX16_loses (ws_ yX16_loses cX16_loses 1 (Option.some Jvm.ClassFile.FieldType.int)) 1 40 (0) (0) [.ref q] [[(q, .inr (10, [.int v]))]] (fun r cs' => r = some (.int 1) ∧ cs' = [[(q, .inr (10, [.int v]))]]) x0 := by
  refine XC.of (by decide) (by simp [Value.category]) (Nat.le_of_ble_eq_true rfl) fun X B => ?_
  show WX D X [[(q, .inr (10, [.int v]))]] 0 0 0 [some (.ref q)] []
  refine x_aload0 B 1 dX16_loses_0 rfl (by first | rfl | exact xisR_rf _) ?_
  refine x_callFD B 6 (C := "ParrotSpeech$Grey") (m_X16_hears) [0] rfl ⟨10, _, _, (by repeat (first | with_reducible exact xr_h | refine xr_t ?_)), rfl, rfl⟩ q1278 xq_5 xl_3 q1283 q2256 q1285 q1284 q1292 (by decide +kernel) (by decide) ⟨by first | decide | omega, by first | decide | omega⟩ ⟨by first | decide | omega, by first | decide | omega⟩ rfl (Nat.le_of_ble_eq_true rfl) dX16_loses_1 rfl (fun _ _ _ h => h.elim) ?_
  rintro _ _ ⟨rfl, rfl⟩
  try simp only [xst, xput, xpre, List.set_cons_zero, List.set_cons_succ]
  exact x_iret B rfl ⟨congrArg some (congrArg Value.int (by decide)), rfl⟩ dX16_loses_6 ⟨by first | omega | decide, by first | omega | decide⟩
theorem m_X16_loses_11  : XC D yX16_loses (ws_ yX16_loses cX16_loses 1 (Option.some Jvm.ClassFile.FieldType.int)) 1 40 (0) (0) [.ref q] [[(q, .inr (11, [.int v]))]] (fun r cs' => r = some (.int 1) ∧ cs' = [[(q, .inr (11, [.int v]))]]) x0 := by
  refine XC.of (by decide) (by simp [Value.category]) (Nat.le_of_ble_eq_true rfl) fun X B => ?_
  show WX D X [[(q, .inr (11, [.int v]))]] 0 0 0 [some (.ref q)] []
  refine x_aload0 B 1 dX16_loses_0 rfl (by first | rfl | exact xisR_rf _) ?_
  refine x_callFD B 6 (C := "ParrotSpeech$Cockatoo") (m_X16_hears) [0] rfl ⟨11, _, _, (by repeat (first | with_reducible exact xr_h | refine xr_t ?_)), rfl, rfl⟩ q1278 xq_5 xl_2 q1283 q2256 q1285 q1284 q1281 (by decide +kernel) (by decide) ⟨by first | decide | omega, by first | decide | omega⟩ ⟨by first | decide | omega, by first | decide | omega⟩ rfl (Nat.le_of_ble_eq_true rfl) dX16_loses_1 rfl (fun _ _ _ h => h.elim) ?_
  rintro _ _ ⟨rfl, rfl⟩
  try simp only [xst, xput, xpre, List.set_cons_zero, List.set_cons_succ]
  exact x_iret B rfl ⟨congrArg some (congrArg Value.int (by decide)), rfl⟩ dX16_loses_6 ⟨by first | omega | decide, by first | omega | decide⟩
theorem m_X16_loses_12  : XC D yX16_loses (ws_ yX16_loses cX16_loses 1 (Option.some Jvm.ClassFile.FieldType.int)) 1 40 (0) (0) [.ref q] [[(q, .inr (12, [.int v]))]] (fun r cs' => r = some (.int 0) ∧ cs' = [[(q, .inr (12, [.int v]))]]) x0 := by
  refine XC.of (by decide) (by simp [Value.category]) (Nat.le_of_ble_eq_true rfl) fun X B => ?_
  show WX D X [[(q, .inr (12, [.int v]))]] 0 0 0 [some (.ref q)] []
  refine x_aload0 B 1 dX16_loses_0 rfl (by first | rfl | exact xisR_rf _) ?_
  refine x_callF B 6 (C := "ParrotSpeech$Hawk") (m_X14_hears) [0] rfl ⟨12, _, _, (by repeat (first | with_reducible exact xr_h | refine xr_t ?_)), rfl, rfl⟩ q1278 xq_5 q1295 q1270 q125 q1271 (by decide +kernel) (by decide) ⟨by first | decide | omega, by first | decide | omega⟩ ⟨by first | decide | omega, by first | decide | omega⟩ rfl (Nat.le_of_ble_eq_true rfl) dX16_loses_1 rfl (fun _ _ _ h => h.elim) ?_
  rintro _ _ ⟨rfl, rfl⟩
  try simp only [xst, xput, xpre, List.set_cons_zero, List.set_cons_succ]
  exact x_iret B rfl ⟨congrArg some (congrArg Value.int (by decide)), rfl⟩ dX16_loses_6 ⟨by first | omega | decide, by first | omega | decide⟩
theorem m_X16_silences_9  : XC D yX16_silences (ws_ yX16_silences cX16_silences 1 (Option.some Jvm.ClassFile.FieldType.boolean)) 2 80 (0) (0) [.ref q] [[(q, .inr (9, [.int v]))]] (fun r cs' => r = some (.int 0) ∧ cs' = [[(q, .inr (9, [.int v]))]]) x0 := by
  refine XC.of (by decide) (by simp [Value.category]) (Nat.le_of_ble_eq_true rfl) fun X B => ?_
  show WX D X [[(q, .inr (9, [.int v]))]] 0 0 0 [some (.ref q)] []
  refine x_aload0 B 1 dX16_silences_0 rfl (by first | rfl | exact xisR_rf _) ?_
  refine x_callF B 6 (C := "ParrotSpeech$Parrot") (m_X11_says) [0] rfl ⟨9, _, _, (by repeat (first | with_reducible exact xr_h | refine xr_t ?_)), rfl, rfl⟩ q1325 xq_7 q1346 q1334 q122 q1335 (by decide +kernel) (by decide) ⟨by first | decide | omega, by first | decide | omega⟩ ⟨by first | decide | omega, by first | decide | omega⟩ rfl (Nat.le_of_ble_eq_true rfl) dX16_silences_1 rfl (fun _ _ _ h => h.elim) ?_
  rintro _ _ ⟨rfl, rfl⟩
  try simp only [xst, xput, xpre, List.set_cons_zero, List.set_cons_succ]
  refine x_if_ne_t B 13 dX16_silences_6 (by decide) (by decide) ?_
  refine x_iconst B 14 (v := 0) dX16_silences_13 (by decide) rfl ?_
  exact x_zret B rfl ⟨congrArg some (congrArg Value.int (by decide)), rfl⟩ dX16_silences_14 ⟨by first | omega | decide, by first | omega | decide⟩ (by first | exact Or.inl rfl | exact Or.inr rfl | exact x_in01 _ _ _ | exact x_has01 _ _ | exact bI01 _ | assumption)
theorem m_X16_silences_10  : XC D yX16_silences (ws_ yX16_silences cX16_silences 1 (Option.some Jvm.ClassFile.FieldType.boolean)) 2 80 (0) (0) [.ref q] [[(q, .inr (10, [.int v]))]] (fun r cs' => r = some (.int 0) ∧ cs' = [[(q, .inr (10, [.int v]))]]) x0 := by
  refine XC.of (by decide) (by simp [Value.category]) (Nat.le_of_ble_eq_true rfl) fun X B => ?_
  show WX D X [[(q, .inr (10, [.int v]))]] 0 0 0 [some (.ref q)] []
  refine x_aload0 B 1 dX16_silences_0 rfl (by first | rfl | exact xisR_rf _) ?_
  refine x_callF B 6 (C := "ParrotSpeech$Grey") (m_X11_says) [0] rfl ⟨10, _, _, (by repeat (first | with_reducible exact xr_h | refine xr_t ?_)), rfl, rfl⟩ q1325 xq_8 q1341 q1334 q122 q1335 (by decide +kernel) (by decide) ⟨by first | decide | omega, by first | decide | omega⟩ ⟨by first | decide | omega, by first | decide | omega⟩ rfl (Nat.le_of_ble_eq_true rfl) dX16_silences_1 rfl (fun _ _ _ h => h.elim) ?_
  rintro _ _ ⟨rfl, rfl⟩
  try simp only [xst, xput, xpre, List.set_cons_zero, List.set_cons_succ]
  refine x_if_ne_t B 13 dX16_silences_6 (by decide) (by decide) ?_
  refine x_iconst B 14 (v := 0) dX16_silences_13 (by decide) rfl ?_
  exact x_zret B rfl ⟨congrArg some (congrArg Value.int (by decide)), rfl⟩ dX16_silences_14 ⟨by first | omega | decide, by first | omega | decide⟩ (by first | exact Or.inl rfl | exact Or.inr rfl | exact x_in01 _ _ _ | exact x_has01 _ _ | exact bI01 _ | assumption)
theorem m_X16_silences_11  : XC D yX16_silences (ws_ yX16_silences cX16_silences 1 (Option.some Jvm.ClassFile.FieldType.boolean)) 2 80 (0) (0) [.ref q] [[(q, .inr (11, [.int v]))]] (fun r cs' => r = some (.int 0) ∧ cs' = [[(q, .inr (11, [.int v]))]]) x0 := by
  refine XC.of (by decide) (by simp [Value.category]) (Nat.le_of_ble_eq_true rfl) fun X B => ?_
  show WX D X [[(q, .inr (11, [.int v]))]] 0 0 0 [some (.ref q)] []
  refine x_aload0 B 1 dX16_silences_0 rfl (by first | rfl | exact xisR_rf _) ?_
  refine x_callF B 6 (C := "ParrotSpeech$Cockatoo") (m_X13_says) [0] rfl ⟨11, _, _, (by repeat (first | with_reducible exact xr_h | refine xr_t ?_)), rfl, rfl⟩ q1325 xq_9 q1328 q1330 q124 q1332 (by decide +kernel) (by decide) ⟨by first | decide | omega, by first | decide | omega⟩ ⟨by first | decide | omega, by first | decide | omega⟩ rfl (Nat.le_of_ble_eq_true rfl) dX16_silences_1 rfl (fun _ _ _ h => h.elim) ?_
  rintro _ _ ⟨rfl, rfl⟩
  try simp only [xst, xput, xpre, List.set_cons_zero, List.set_cons_succ]
  refine x_if_ne_t B 13 dX16_silences_6 (by decide) (by decide) ?_
  refine x_iconst B 14 (v := 0) dX16_silences_13 (by decide) rfl ?_
  exact x_zret B rfl ⟨congrArg some (congrArg Value.int (by decide)), rfl⟩ dX16_silences_14 ⟨by first | omega | decide, by first | omega | decide⟩ (by first | exact Or.inl rfl | exact Or.inr rfl | exact x_in01 _ _ _ | exact x_has01 _ _ | exact bI01 _ | assumption)
theorem m_X16_silences_12  : XC D yX16_silences (ws_ yX16_silences cX16_silences 1 (Option.some Jvm.ClassFile.FieldType.boolean)) 2 80 (0) (0) [.ref q] [[(q, .inr (12, [.int v]))]] (fun r cs' => r = some (.int 1) ∧ cs' = [[(q, .inr (12, [.int v]))]]) x0 := by
  refine XC.of (by decide) (by simp [Value.category]) (Nat.le_of_ble_eq_true rfl) fun X B => ?_
  show WX D X [[(q, .inr (12, [.int v]))]] 0 0 0 [some (.ref q)] []
  refine x_aload0 B 1 dX16_silences_0 rfl (by first | rfl | exact xisR_rf _) ?_
  refine x_callF B 6 (C := "ParrotSpeech$Hawk") (m_X14_says) [0] rfl ⟨12, _, _, (by repeat (first | with_reducible exact xr_h | refine xr_t ?_)), rfl, rfl⟩ q1325 xq_10 q1344 q1338 q125 q1340 (by decide +kernel) (by decide) ⟨by first | decide | omega, by first | decide | omega⟩ ⟨by first | decide | omega, by first | decide | omega⟩ rfl (Nat.le_of_ble_eq_true rfl) dX16_silences_1 rfl (fun _ _ _ h => h.elim) ?_
  rintro _ _ ⟨rfl, rfl⟩
  try simp only [xst, xput, xpre, List.set_cons_zero, List.set_cons_succ]
  refine x_if_ne_f (tp := 13) B 9 dX16_silences_6 (by decide) rfl (by decide) ?_
  refine x_iconst B 10 (v := 1) dX16_silences_9 (by decide) rfl ?_
  refine x_goto B 14 dX16_silences_10 (by decide) ?_
  exact x_zret B rfl ⟨congrArg some (congrArg Value.int (by decide)), rfl⟩ dX16_silences_14 ⟨by first | omega | decide, by first | omega | decide⟩ (by first | exact Or.inl rfl | exact Or.inr rfl | exact x_in01 _ _ _ | exact x_has01 _ _ | exact bI01 _ | assumption)
theorem m_X16_silences_13  : XC D yX16_silences (ws_ yX16_silences cX16_silences 1 (Option.some Jvm.ClassFile.FieldType.boolean)) 2 80 (0) (0) [.ref q] [[(q, .inr (13, [.int v]))]] (fun r cs' => r = some (.int 1) ∧ cs' = [[(q, .inr (13, [.int v]))]]) x0 := by
  refine XC.of (by decide) (by simp [Value.category]) (Nat.le_of_ble_eq_true rfl) fun X B => ?_
  show WX D X [[(q, .inr (13, [.int v]))]] 0 0 0 [some (.ref q)] []
  refine x_aload0 B 1 dX16_silences_0 rfl (by first | rfl | exact xisR_rf _) ?_
  refine x_callF B 6 (C := "ParrotSpeech$Green") (m_X14_says) [0] rfl ⟨13, _, _, (by repeat (first | with_reducible exact xr_h | refine xr_t ?_)), rfl, rfl⟩ q1325 xq_11 q1336 q1338 q125 q1340 (by decide +kernel) (by decide) ⟨by first | decide | omega, by first | decide | omega⟩ ⟨by first | decide | omega, by first | decide | omega⟩ rfl (Nat.le_of_ble_eq_true rfl) dX16_silences_1 rfl (fun _ _ _ h => h.elim) ?_
  rintro _ _ ⟨rfl, rfl⟩
  try simp only [xst, xput, xpre, List.set_cons_zero, List.set_cons_succ]
  refine x_if_ne_f (tp := 13) B 9 dX16_silences_6 (by decide) rfl (by decide) ?_
  refine x_iconst B 10 (v := 1) dX16_silences_9 (by decide) rfl ?_
  refine x_goto B 14 dX16_silences_10 (by decide) ?_
  exact x_zret B rfl ⟨congrArg some (congrArg Value.int (by decide)), rfl⟩ dX16_silences_14 ⟨by first | omega | decide, by first | omega | decide⟩ (by first | exact Or.inl rfl | exact Or.inr rfl | exact x_in01 _ _ _ | exact x_has01 _ _ | exact bI01 _ | assumption)
theorem m_X12_gets  : XC D yX12_gets (ws_ yX12_gets cX12_gets 1 (Option.some Jvm.ClassFile.FieldType.int)) 2 80 (0) (0) [.ref q] [[(q, .inr (10, [.int v]))]] (fun r cs' => r = some (.int 5) ∧ cs' = [[(q, .inr (10, [.int v]))]]) x0 := by
  refine XC.of (by decide) (by simp [Value.category]) (Nat.le_of_ble_eq_true rfl) fun X B => ?_
  show WX D X [[(q, .inr (10, [.int v]))]] 0 0 0 [some (.ref q)] []
  refine x_aload0 B 1 dX12_gets_0 rfl (by first | rfl | exact xisR_rf _) ?_
  refine x_callSupD B 4 (C := "ParrotSpeech$Grey") (m_X16_gets_10) [0] rfl ⟨10, _, _, (by repeat (first | with_reducible exact xr_h | refine xr_t ?_)), rfl, rfl⟩ xw_2 xw_3 q1159 xl_1 rfl rfl q1275 q2256 q1276 (by decide +kernel) (by decide) ⟨by first | decide | omega, by first | decide | omega⟩ ⟨by first | decide | omega, by first | decide | omega⟩ rfl (Nat.le_of_ble_eq_true rfl) dX12_gets_1 rfl (fun _ _ _ h => h.elim) ?_
  rintro _ _ ⟨rfl, rfl⟩
  try simp only [xst, xput, xpre, List.set_cons_zero, List.set_cons_succ]
  refine x_iconst B 5 (v := 2) dX12_gets_4 (by decide) rfl ?_
  refine x_iadd B 6 dX12_gets_5 rfl ?_
  exact x_iret B rfl ⟨congrArg some (congrArg Value.int (by decide)), rfl⟩ dX12_gets_6 ⟨by first | omega | decide, by first | omega | decide⟩
theorem m_X12_loses  : XC D yX12_loses (ws_ yX12_loses cX12_loses 1 (Option.some Jvm.ClassFile.FieldType.int)) 2 80 (0) (0) [.ref q] [[(q, .inr (10, [.int v]))]] (fun r cs' => r = some (.int 0) ∧ cs' = [[(q, .inr (10, [.int v]))]]) x0 := by
  refine XC.of (by decide) (by simp [Value.category]) (Nat.le_of_ble_eq_true rfl) fun X B => ?_
  show WX D X [[(q, .inr (10, [.int v]))]] 0 0 0 [some (.ref q)] []
  refine x_aload0 B 1 dX12_loses_0 rfl (by first | rfl | exact xisR_rf _) ?_
  refine x_callSupD B 4 (C := "ParrotSpeech$Grey") (m_X16_loses_10) [0] rfl ⟨10, _, _, (by repeat (first | with_reducible exact xr_h | refine xr_t ?_)), rfl, rfl⟩ xw_15 xw_16 q1159 xl_16 rfl rfl q1376 q2256 q1377 (by decide +kernel) (by decide) ⟨by first | decide | omega, by first | decide | omega⟩ ⟨by first | decide | omega, by first | decide | omega⟩ rfl (Nat.le_of_ble_eq_true rfl) dX12_loses_1 rfl (fun _ _ _ h => h.elim) ?_
  rintro _ _ ⟨rfl, rfl⟩
  try simp only [xst, xput, xpre, List.set_cons_zero, List.set_cons_succ]
  refine x_iconst B 5 (v := 1) dX12_loses_4 (by decide) rfl ?_
  refine x_isub B 6 dX12_loses_5 rfl ?_
  exact x_iret B rfl ⟨congrArg some (congrArg Value.int (by decide)), rfl⟩ dX12_loses_6 ⟨by first | omega | decide, by first | omega | decide⟩
theorem m_X15_silences  : XC D yX15_silences (ws_ yX15_silences cX15_silences 1 (Option.some Jvm.ClassFile.FieldType.boolean)) 3 120 (0) (0) [.ref q] [[(q, .inr (13, [.int v]))]] (fun r cs' => r = some (.int 0) ∧ cs' = [[(q, .inr (13, [.int v]))]]) x0 := by
  refine XC.of (by decide) (by simp [Value.category]) (Nat.le_of_ble_eq_true rfl) fun X B => ?_
  show WX D X [[(q, .inr (13, [.int v]))]] 0 0 0 [some (.ref q)] []
  refine x_aload0 B 1 dX15_silences_0 rfl (by first | rfl | exact xisR_rf _) ?_
  refine x_callSupD B 4 (C := "ParrotSpeech$Green") (m_X16_silences_13) [0] rfl ⟨13, _, _, (by repeat (first | with_reducible exact xr_h | refine xr_t ?_)), rfl, rfl⟩ xw_7 xw_8 q1183 xl_8 rfl rfl q1322 q2256 q1323 (by decide +kernel) (by decide) ⟨by first | decide | omega, by first | decide | omega⟩ ⟨by first | decide | omega, by first | decide | omega⟩ rfl (Nat.le_of_ble_eq_true rfl) dX15_silences_1 rfl (fun _ _ _ h => h.elim) ?_
  rintro _ _ ⟨rfl, rfl⟩
  try simp only [xst, xput, xpre, List.set_cons_zero, List.set_cons_succ]
  refine x_if_ne_t B 11 dX15_silences_4 (by decide) (by decide) ?_
  refine x_iconst B 12 (v := 0) dX15_silences_11 (by decide) rfl ?_
  exact x_zret B rfl ⟨congrArg some (congrArg Value.int (by decide)), rfl⟩ dX15_silences_12 ⟨by first | omega | decide, by first | omega | decide⟩ (by first | exact Or.inl rfl | exact Or.inr rfl | exact x_in01 _ _ _ | exact x_has01 _ _ | exact bI01 _ | assumption)
end C9
