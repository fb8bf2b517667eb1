/-! THE COMPONENT, 7: birds, what is said by what is above -/
section C6
variable {D : xG} {q : Nat} {v : Int32}
theorem m_X12_kind  : XC D yX12_kind (ws_ yX12_kind cX12_kind 1 (Option.some Jvm.ClassFile.FieldType.int)) 1 40 (0) (0) [.ref q] [[(q, .inr (10, [.int v]))]] (fun r cs' => r = some (.int 1) ∧ cs' = [[(q, .inr (10, [.int v]))]]) x0 := by
  refine XC.of (by decide) (by simp [Value.category]) (Nat.le_of_ble_eq_true rfl) fun X B => ?_
  show WX D X [[(q, .inr (10, [.int v]))]] 0 0 0 [some (.ref q)] []
  refine x_iconst B 1 (v := 1) dX12_kind_0 (by decide) rfl ?_
  refine x_aload0 B 2 dX12_kind_1 rfl (by first | rfl | exact xisR_rf _) ?_
  refine x_callSup B 5 (m_X11_kind) [0] rfl ⟨10, _, _, (by repeat (first | with_reducible exact xr_h | refine xr_t ?_)), rfl, rfl⟩ (ci := 10) rfl rfl q1219 q2251 q1159 q1208 q122 q1209 (by decide +kernel) (by decide) ⟨by first | decide | omega, by first | decide | omega⟩ ⟨by first | decide | omega, by first | decide | omega⟩ rfl (Nat.le_of_ble_eq_true rfl) dX12_kind_2 rfl (fun _ _ _ h => h.elim) ?_
  rintro _ _ ⟨rfl, rfl⟩
  try simp only [xst, xput, xpre, List.set_cons_zero, List.set_cons_succ]
  refine x_iadd B 6 dX12_kind_5 rfl ?_
  exact x_iret B rfl ⟨congrArg some (congrArg Value.int (by decide)), rfl⟩ dX12_kind_6 ⟨by first | omega | decide, by first | omega | decide⟩
theorem m_X13_kind  : XC D yX13_kind (ws_ yX13_kind cX13_kind 1 (Option.some Jvm.ClassFile.FieldType.int)) 1 40 (0) (0) [.ref q] [[(q, .inr (11, [.int v]))]] (fun r cs' => r = some (.int 2) ∧ cs' = [[(q, .inr (11, [.int v]))]]) x0 := by
  refine XC.of (by decide) (by simp [Value.category]) (Nat.le_of_ble_eq_true rfl) fun X B => ?_
  show WX D X [[(q, .inr (11, [.int v]))]] 0 0 0 [some (.ref q)] []
  refine x_iconst B 1 (v := 2) dX13_kind_0 (by decide) rfl ?_
  refine x_aload0 B 2 dX13_kind_1 rfl (by first | rfl | exact xisR_rf _) ?_
  refine x_callSup B 5 (m_X11_kind) [0] rfl ⟨11, _, _, (by repeat (first | with_reducible exact xr_h | refine xr_t ?_)), rfl, rfl⟩ (ci := 11) rfl rfl q1207 q2251 q1167 q1208 q122 q1209 (by decide +kernel) (by decide) ⟨by first | decide | omega, by first | decide | omega⟩ ⟨by first | decide | omega, by first | decide | omega⟩ rfl (Nat.le_of_ble_eq_true rfl) dX13_kind_2 rfl (fun _ _ _ h => h.elim) ?_
  rintro _ _ ⟨rfl, rfl⟩
  try simp only [xst, xput, xpre, List.set_cons_zero, List.set_cons_succ]
  refine x_iadd B 6 dX13_kind_5 rfl ?_
  exact x_iret B rfl ⟨congrArg some (congrArg Value.int (by decide)), rfl⟩ dX13_kind_6 ⟨by first | omega | decide, by first | omega | decide⟩
theorem m_X15_kind  : XC D yX15_kind (ws_ yX15_kind cX15_kind 1 (Option.some Jvm.ClassFile.FieldType.int)) 1 40 (0) (0) [.ref q] [[(q, .inr (13, [.int v]))]] (fun r cs' => r = some (.int 4) ∧ cs' = [[(q, .inr (13, [.int v]))]]) x0 := by
  refine XC.of (by decide) (by simp [Value.category]) (Nat.le_of_ble_eq_true rfl) fun X B => ?_
  show WX D X [[(q, .inr (13, [.int v]))]] 0 0 0 [some (.ref q)] []
  refine x_iconst B 1 (v := 1) dX15_kind_0 (by decide) rfl ?_
  refine x_aload0 B 2 dX15_kind_1 rfl (by first | rfl | exact xisR_rf _) ?_
  refine x_callSup B 5 (m_X14_kind) [0] rfl ⟨13, _, _, (by repeat (first | with_reducible exact xr_h | refine xr_t ?_)), rfl, rfl⟩ (ci := 13) rfl rfl q1213 q2252 q1183 q1214 q125 q1215 (by decide +kernel) (by decide) ⟨by first | decide | omega, by first | decide | omega⟩ ⟨by first | decide | omega, by first | decide | omega⟩ rfl (Nat.le_of_ble_eq_true rfl) dX15_kind_2 rfl (fun _ _ _ h => h.elim) ?_
  rintro _ _ ⟨rfl, rfl⟩
  try simp only [xst, xput, xpre, List.set_cons_zero, List.set_cons_succ]
  refine x_iadd B 6 dX15_kind_5 rfl ?_
  exact x_iret B rfl ⟨congrArg some (congrArg Value.int (by decide)), rfl⟩ dX15_kind_6 ⟨by first | omega | decide, by first | omega | decide⟩
theorem m_X13_says  : XC D yX13_says (ws_ yX13_says cX13_says 1 (Option.some Jvm.ClassFile.FieldType.int)) 1 40 (0) (0) [.ref q] [[(q, .inr (11, [.int v]))]] (fun r cs' => r = some (.int 2) ∧ cs' = [[(q, .inr (11, [.int v]))]]) x0 := by
  refine XC.of (by decide) (by simp [Value.category]) (Nat.le_of_ble_eq_true rfl) fun X B => ?_
  show WX D X [[(q, .inr (11, [.int v]))]] 0 0 0 [some (.ref q)] []
  refine x_iconst B 1 (v := 2) dX13_says_0 (by decide) rfl ?_
  refine x_aload0 B 2 dX13_says_1 rfl (by first | rfl | exact xisR_rf _) ?_
  refine x_callSup B 5 (m_X11_says) [0] rfl ⟨11, _, _, (by repeat (first | with_reducible exact xr_h | refine xr_t ?_)), rfl, rfl⟩ (ci := 11) rfl rfl q1333 q2254 q1167 q1334 q122 q1335 (by decide +kernel) (by decide) ⟨by first | decide | omega, by first | decide | omega⟩ ⟨by first | decide | omega, by first | decide | omega⟩ rfl (Nat.le_of_ble_eq_true rfl) dX13_says_2 rfl (fun _ _ _ h => h.elim) ?_
  rintro _ _ ⟨rfl, rfl⟩
  try simp only [xst, xput, xpre, List.set_cons_zero, List.set_cons_succ]
  refine x_imul B 6 dX13_says_5 rfl ?_
  exact x_iret B rfl ⟨congrArg some (congrArg Value.int (by decide)), rfl⟩ dX13_says_6 ⟨by first | omega | decide, by first | omega | decide⟩
theorem m_X15_hears  : XC D yX15_hears (ws_ yX15_hears cX15_hears 1 (Option.some Jvm.ClassFile.FieldType.int)) 1 40 (0) (0) [.ref q] [[(q, .inr (13, [.int v]))]] (fun r cs' => r = some (.int 2) ∧ cs' = [[(q, .inr (13, [.int v]))]]) x0 := by
  refine XC.of (by decide) (by simp [Value.category]) (Nat.le_of_ble_eq_true rfl) fun X B => ?_
  show WX D X [[(q, .inr (13, [.int v]))]] 0 0 0 [some (.ref q)] []
  refine x_aload0 B 1 dX15_hears_0 rfl (by first | rfl | exact xisR_rf _) ?_
  refine x_callSup B 4 (m_X14_hears) [0] rfl ⟨13, _, _, (by repeat (first | with_reducible exact xr_h | refine xr_t ?_)), rfl, rfl⟩ (ci := 13) rfl rfl q1269 q2253 q1183 q1270 q125 q1271 (by decide +kernel) (by decide) ⟨by first | decide | omega, by first | decide | omega⟩ ⟨by first | decide | omega, by first | decide | omega⟩ rfl (Nat.le_of_ble_eq_true rfl) dX15_hears_1 rfl (fun _ _ _ h => h.elim) ?_
  rintro _ _ ⟨rfl, rfl⟩
  try simp only [xst, xput, xpre, List.set_cons_zero, List.set_cons_succ]
  refine x_iconst B 5 (v := 2) dX15_hears_4 (by decide) rfl ?_
  refine x_iadd B 6 dX15_hears_5 rfl ?_
  exact x_iret B rfl ⟨congrArg some (congrArg Value.int (by decide)), rfl⟩ dX15_hears_6 ⟨by first | omega | decide, by first | omega | decide⟩
theorem m_X15_gets  : XC D yX15_gets (ws_ yX15_gets cX15_gets 1 (Option.some Jvm.ClassFile.FieldType.int)) 1 40 (0) (0) [.ref q] [[(q, .inr (13, [.int v]))]] (fun r cs' => r = some (.int 0) ∧ cs' = [[(q, .inr (13, [.int v]))]]) x0 := by
  refine XC.of (by decide) (by simp [Value.category]) (Nat.le_of_ble_eq_true rfl) fun X B => ?_
  show WX D X [[(q, .inr (13, [.int v]))]] 0 0 0 [some (.ref q)] []
  refine x_aload0 B 1 dX15_gets_0 rfl (by first | rfl | exact xisR_rf _) ?_
  refine x_callSup B 4 (m_X14_hears) [0] rfl ⟨13, _, _, (by repeat (first | with_reducible exact xr_h | refine xr_t ?_)), rfl, rfl⟩ (ci := 13) rfl rfl q1269 q2253 q1183 q1270 q125 q1271 (by decide +kernel) (by decide) ⟨by first | decide | omega, by first | decide | omega⟩ ⟨by first | decide | omega, by first | decide | omega⟩ rfl (Nat.le_of_ble_eq_true rfl) dX15_gets_1 rfl (fun _ _ _ h => h.elim) ?_
  rintro _ _ ⟨rfl, rfl⟩
  try simp only [xst, xput, xpre, List.set_cons_zero, List.set_cons_succ]
  exact x_iret B rfl ⟨congrArg some (congrArg Value.int (by decide)), rfl⟩ dX15_gets_4 ⟨by first | omega | decide, by first | omega | decide⟩
theorem m_X15_loses  : XC D yX15_loses (ws_ yX15_loses cX15_loses 1 (Option.some Jvm.ClassFile.FieldType.int)) 1 40 (0) (0) [.ref q] [[(q, .inr (13, [.int v]))]] (fun r cs' => r = some (.int 0) ∧ cs' = [[(q, .inr (13, [.int v]))]]) x0 := by
  refine XC.of (by decide) (by simp [Value.category]) (Nat.le_of_ble_eq_true rfl) fun X B => ?_
  show WX D X [[(q, .inr (13, [.int v]))]] 0 0 0 [some (.ref q)] []
  refine x_aload0 B 1 dX15_loses_0 rfl (by first | rfl | exact xisR_rf _) ?_
  refine x_callSup B 4 (m_X14_hears) [0] rfl ⟨13, _, _, (by repeat (first | with_reducible exact xr_h | refine xr_t ?_)), rfl, rfl⟩ (ci := 13) rfl rfl q1269 q2253 q1183 q1270 q125 q1271 (by decide +kernel) (by decide) ⟨by first | decide | omega, by first | decide | omega⟩ ⟨by first | decide | omega, by first | decide | omega⟩ rfl (Nat.le_of_ble_eq_true rfl) dX15_loses_1 rfl (fun _ _ _ h => h.elim) ?_
  rintro _ _ ⟨rfl, rfl⟩
  try simp only [xst, xput, xpre, List.set_cons_zero, List.set_cons_succ]
  exact x_iret B rfl ⟨congrArg some (congrArg Value.int (by decide)), rfl⟩ dX15_loses_4 ⟨by first | omega | decide, by first | omega | decide⟩
end C6
