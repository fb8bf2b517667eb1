/-! THE COMPONENT, 9: birds made, on -/
section C8
variable {D : xG} {q : Nat} {v : Int32}
theorem m_X11_init_9 (x : Int32) : XC D yX11_init (ws_ yX11_init cX11_init 2 (Option.none : Option Jvm.ClassFile.FieldType)) 2 80 (0) (0) [.ref q, .int x] [[(q, .inr (9, [.int v]))]] (fun r cs' => r = none ∧ cs' = [[(q, .inr (9, [.int x]))]]) x0 := by
  refine XC.of (by decide) (by simp [Value.category]) (Nat.le_of_ble_eq_true rfl) fun X B => ?_
  show WX D X [[(q, .inr (9, [.int v]))]] 0 0 0 [some (.ref q), some (.int x)] []
  refine x_aload0 B 1 dX11_init_0 rfl (by first | rfl | exact xisR_rf _) ?_
  refine x_iload1 B 2 dX11_init_1 rfl ?_
  refine x_callI B 5 (m_X10_init_9 x) [0] rfl q1143 q1144 q121 q1145 rfl hd_X10_init (by decide) ⟨by first | decide | omega, by first | decide | omega⟩ ⟨by first | decide | omega, by first | decide | omega⟩ rfl (Nat.le_of_ble_eq_true rfl) dX11_init_2 rfl (fun _ _ _ h => h.elim) ?_
  rintro _ _ ⟨rfl, rfl⟩
  try simp only [xst, xput, xpre, List.set_cons_zero, List.set_cons_succ]
  exact x_vret B rfl ⟨rfl, rfl⟩ dX11_init_5 ⟨by first | omega | decide, by first | omega | decide⟩
theorem m_X11_init_10 (x : Int32) : XC D yX11_init (ws_ yX11_init cX11_init 2 (Option.none : Option Jvm.ClassFile.FieldType)) 2 80 (0) (0) [.ref q, .int x] [[(q, .inr (10, [.int v]))]] (fun r cs' => r = none ∧ cs' = [[(q, .inr (10, [.int x]))]]) x0 := by
  refine XC.of (by decide) (by simp [Value.category]) (Nat.le_of_ble_eq_true rfl) fun X B => ?_
  show WX D X [[(q, .inr (10, [.int v]))]] 0 0 0 [some (.ref q), some (.int x)] []
  refine x_aload0 B 1 dX11_init_0 rfl (by first | rfl | exact xisR_rf _) ?_
  refine x_iload1 B 2 dX11_init_1 rfl ?_
  refine x_callI B 5 (m_X10_init_10 x) [0] rfl q1143 q1144 q121 q1145 rfl hd_X10_init (by decide) ⟨by first | decide | omega, by first | decide | omega⟩ ⟨by first | decide | omega, by first | decide | omega⟩ rfl (Nat.le_of_ble_eq_true rfl) dX11_init_2 rfl (fun _ _ _ h => h.elim) ?_
  rintro _ _ ⟨rfl, rfl⟩
  try simp only [xst, xput, xpre, List.set_cons_zero, List.set_cons_succ]
  exact x_vret B rfl ⟨rfl, rfl⟩ dX11_init_5 ⟨by first | omega | decide, by first | omega | decide⟩
theorem m_X11_init_11 (x : Int32) : XC D yX11_init (ws_ yX11_init cX11_init 2 (Option.none : Option Jvm.ClassFile.FieldType)) 2 80 (0) (0) [.ref q, .int x] [[(q, .inr (11, [.int v]))]] (fun r cs' => r = none ∧ cs' = [[(q, .inr (11, [.int x]))]]) x0 := by
  refine XC.of (by decide) (by simp [Value.category]) (Nat.le_of_ble_eq_true rfl) fun X B => ?_
  show WX D X [[(q, .inr (11, [.int v]))]] 0 0 0 [some (.ref q), some (.int x)] []
  refine x_aload0 B 1 dX11_init_0 rfl (by first | rfl | exact xisR_rf _) ?_
  refine x_iload1 B 2 dX11_init_1 rfl ?_
  refine x_callI B 5 (m_X10_init_11 x) [0] rfl q1143 q1144 q121 q1145 rfl hd_X10_init (by decide) ⟨by first | decide | omega, by first | decide | omega⟩ ⟨by first | decide | omega, by first | decide | omega⟩ rfl (Nat.le_of_ble_eq_true rfl) dX11_init_2 rfl (fun _ _ _ h => h.elim) ?_
  rintro _ _ ⟨rfl, rfl⟩
  try simp only [xst, xput, xpre, List.set_cons_zero, List.set_cons_succ]
  exact x_vret B rfl ⟨rfl, rfl⟩ dX11_init_5 ⟨by first | omega | decide, by first | omega | decide⟩
theorem m_X14_init_12 (x : Int32) : XC D yX14_init (ws_ yX14_init cX14_init 2 (Option.none : Option Jvm.ClassFile.FieldType)) 2 80 (0) (0) [.ref q, .int x] [[(q, .inr (12, [.int v]))]] (fun r cs' => r = none ∧ cs' = [[(q, .inr (12, [.int x]))]]) x0 := by
  refine XC.of (by decide) (by simp [Value.category]) (Nat.le_of_ble_eq_true rfl) fun X B => ?_
  show WX D X [[(q, .inr (12, [.int v]))]] 0 0 0 [some (.ref q), some (.int x)] []
  refine x_aload0 B 1 dX14_init_0 rfl (by first | rfl | exact xisR_rf _) ?_
  refine x_iload1 B 2 dX14_init_1 rfl ?_
  refine x_callI B 5 (m_X10_init_12 x) [0] rfl q1173 q1144 q121 q1145 rfl hd_X10_init (by decide) ⟨by first | decide | omega, by first | decide | omega⟩ ⟨by first | decide | omega, by first | decide | omega⟩ rfl (Nat.le_of_ble_eq_true rfl) dX14_init_2 rfl (fun _ _ _ h => h.elim) ?_
  rintro _ _ ⟨rfl, rfl⟩
  try simp only [xst, xput, xpre, List.set_cons_zero, List.set_cons_succ]
  exact x_vret B rfl ⟨rfl, rfl⟩ dX14_init_5 ⟨by first | omega | decide, by first | omega | decide⟩
theorem m_X14_init_13 (x : Int32) : XC D yX14_init (ws_ yX14_init cX14_init 2 (Option.none : Option Jvm.ClassFile.FieldType)) 2 80 (0) (0) [.ref q, .int x] [[(q, .inr (13, [.int v]))]] (fun r cs' => r = none ∧ cs' = [[(q, .inr (13, [.int x]))]]) x0 := by
  refine XC.of (by decide) (by simp [Value.category]) (Nat.le_of_ble_eq_true rfl) fun X B => ?_
  show WX D X [[(q, .inr (13, [.int v]))]] 0 0 0 [some (.ref q), some (.int x)] []
  refine x_aload0 B 1 dX14_init_0 rfl (by first | rfl | exact xisR_rf _) ?_
  refine x_iload1 B 2 dX14_init_1 rfl ?_
  refine x_callI B 5 (m_X10_init_13 x) [0] rfl q1173 q1144 q121 q1145 rfl hd_X10_init (by decide) ⟨by first | decide | omega, by first | decide | omega⟩ ⟨by first | decide | omega, by first | decide | omega⟩ rfl (Nat.le_of_ble_eq_true rfl) dX14_init_2 rfl (fun _ _ _ h => h.elim) ?_
  rintro _ _ ⟨rfl, rfl⟩
  try simp only [xst, xput, xpre, List.set_cons_zero, List.set_cons_succ]
  exact x_vret B rfl ⟨rfl, rfl⟩ dX14_init_5 ⟨by first | omega | decide, by first | omega | decide⟩
theorem m_X12_init_10 (x : Int32) : XC D yX12_init (ws_ yX12_init cX12_init 2 (Option.none : Option Jvm.ClassFile.FieldType)) 3 120 (0) (0) [.ref q, .int x] [[(q, .inr (10, [.int v]))]] (fun r cs' => r = none ∧ cs' = [[(q, .inr (10, [.int x]))]]) x0 := by
  refine XC.of (by decide) (by simp [Value.category]) (Nat.le_of_ble_eq_true rfl) fun X B => ?_
  show WX D X [[(q, .inr (10, [.int v]))]] 0 0 0 [some (.ref q), some (.int x)] []
  refine x_aload0 B 1 dX12_init_0 rfl (by first | rfl | exact xisR_rf _) ?_
  refine x_iload1 B 2 dX12_init_1 rfl ?_
  refine x_callI B 5 (m_X11_init_10 x) [0] rfl q1157 q1141 q122 q1142 rfl hd_X11_init (by decide) ⟨by first | decide | omega, by first | decide | omega⟩ ⟨by first | decide | omega, by first | decide | omega⟩ rfl (Nat.le_of_ble_eq_true rfl) dX12_init_2 rfl (fun _ _ _ h => h.elim) ?_
  rintro _ _ ⟨rfl, rfl⟩
  try simp only [xst, xput, xpre, List.set_cons_zero, List.set_cons_succ]
  exact x_vret B rfl ⟨rfl, rfl⟩ dX12_init_5 ⟨by first | omega | decide, by first | omega | decide⟩
theorem m_X13_init_11 (x : Int32) : XC D yX13_init (ws_ yX13_init cX13_init 2 (Option.none : Option Jvm.ClassFile.FieldType)) 3 120 (0) (0) [.ref q, .int x] [[(q, .inr (11, [.int v]))]] (fun r cs' => r = none ∧ cs' = [[(q, .inr (11, [.int x]))]]) x0 := by
  refine XC.of (by decide) (by simp [Value.category]) (Nat.le_of_ble_eq_true rfl) fun X B => ?_
  show WX D X [[(q, .inr (11, [.int v]))]] 0 0 0 [some (.ref q), some (.int x)] []
  refine x_aload0 B 1 dX13_init_0 rfl (by first | rfl | exact xisR_rf _) ?_
  refine x_iload1 B 2 dX13_init_1 rfl ?_
  refine x_callI B 5 (m_X11_init_11 x) [0] rfl q1165 q1141 q122 q1142 rfl hd_X11_init (by decide) ⟨by first | decide | omega, by first | decide | omega⟩ ⟨by first | decide | omega, by first | decide | omega⟩ rfl (Nat.le_of_ble_eq_true rfl) dX13_init_2 rfl (fun _ _ _ h => h.elim) ?_
  rintro _ _ ⟨rfl, rfl⟩
  try simp only [xst, xput, xpre, List.set_cons_zero, List.set_cons_succ]
  exact x_vret B rfl ⟨rfl, rfl⟩ dX13_init_5 ⟨by first | omega | decide, by first | omega | decide⟩
theorem m_X15_init_13 (x : Int32) : XC D yX15_init (ws_ yX15_init cX15_init 2 (Option.none : Option Jvm.ClassFile.FieldType)) 3 120 (0) (0) [.ref q, .int x] [[(q, .inr (13, [.int v]))]] (fun r cs' => r = none ∧ cs' = [[(q, .inr (13, [.int x]))]]) x0 := by
  refine XC.of (by decide) (by simp [Value.category]) (Nat.le_of_ble_eq_true rfl) fun X B => ?_
  show WX D X [[(q, .inr (13, [.int v]))]] 0 0 0 [some (.ref q), some (.int x)] []
  refine x_aload0 B 1 dX15_init_0 rfl (by first | rfl | exact xisR_rf _) ?_
  refine x_iload1 B 2 dX15_init_1 rfl ?_
  refine x_callI B 5 (m_X14_init_13 x) [0] rfl q1181 q1171 q125 q1172 rfl hd_X14_init (by decide) ⟨by first | decide | omega, by first | decide | omega⟩ ⟨by first | decide | omega, by first | decide | omega⟩ rfl (Nat.le_of_ble_eq_true rfl) dX15_init_2 rfl (fun _ _ _ h => h.elim) ?_
  rintro _ _ ⟨rfl, rfl⟩
  try simp only [xst, xput, xpre, List.set_cons_zero, List.set_cons_succ]
  exact x_vret B rfl ⟨rfl, rfl⟩ dX15_init_5 ⟨by first | omega | decide, by first | omega | decide⟩
end C8
