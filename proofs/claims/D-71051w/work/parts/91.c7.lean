/-! THE COMPONENT, 8: birds made -/
section C7
variable {D : xG} {q : Nat} {v : Int32}
theorem m_X10_init_9 (x : Int32) : XC D yX10_init (ws_ yX10_init cX10_init 2 (Option.none : Option Jvm.ClassFile.FieldType)) 1 40 (0) (0) [.ref q, .int x] [[(q, .inr (9, [.int v]))]] (fun r cs' => r = none ∧ cs' = [[(q, .inr (9, [.int x]))]]) x0 := by
  refine XC.of (by decide) (by simp [Value.category]) (Nat.le_of_ble_eq_true rfl) fun X B => ?_
  show WX D X [[(q, .inr (9, [.int v]))]] 0 0 0 [some (.ref q), some (.int x)] []
  refine x_aload0 B 1 dX10_init_0 rfl (by first | rfl | exact xisR_rf _) ?_
  refine x_objInit B 4 q1146 (Nat.le_of_ble_eq_true rfl) (Nat.le_of_ble_eq_true rfl) dX10_init_1 rfl ?_
  refine x_aload0 B 5 dX10_init_4 rfl (by first | rfl | exact xisR_rf _) ?_
  refine x_iload1 B 6 dX10_init_5 rfl ?_
  refine s_X10_7_X11 B 9 rfl (by repeat (first | with_reducible exact xu_h | apply xu_t)) dX10_init_6 rfl ?_
  exact x_vret B rfl ⟨rfl, rfl⟩ dX10_init_9 ⟨by first | omega | decide, by first | omega | decide⟩
theorem m_X10_init_10 (x : Int32) : XC D yX10_init (ws_ yX10_init cX10_init 2 (Option.none : Option Jvm.ClassFile.FieldType)) 1 40 (0) (0) [.ref q, .int x] [[(q, .inr (10, [.int v]))]] (fun r cs' => r = none ∧ cs' = [[(q, .inr (10, [.int x]))]]) x0 := by
  refine XC.of (by decide) (by simp [Value.category]) (Nat.le_of_ble_eq_true rfl) fun X B => ?_
  show WX D X [[(q, .inr (10, [.int v]))]] 0 0 0 [some (.ref q), some (.int x)] []
  refine x_aload0 B 1 dX10_init_0 rfl (by first | rfl | exact xisR_rf _) ?_
  refine x_objInit B 4 q1146 (Nat.le_of_ble_eq_true rfl) (Nat.le_of_ble_eq_true rfl) dX10_init_1 rfl ?_
  refine x_aload0 B 5 dX10_init_4 rfl (by first | rfl | exact xisR_rf _) ?_
  refine x_iload1 B 6 dX10_init_5 rfl ?_
  refine s_X10_7_X12 B 9 rfl (by repeat (first | with_reducible exact xu_h | apply xu_t)) dX10_init_6 rfl ?_
  exact x_vret B rfl ⟨rfl, rfl⟩ dX10_init_9 ⟨by first | omega | decide, by first | omega | decide⟩
theorem m_X10_init_11 (x : Int32) : XC D yX10_init (ws_ yX10_init cX10_init 2 (Option.none : Option Jvm.ClassFile.FieldType)) 1 40 (0) (0) [.ref q, .int x] [[(q, .inr (11, [.int v]))]] (fun r cs' => r = none ∧ cs' = [[(q, .inr (11, [.int x]))]]) x0 := by
  refine XC.of (by decide) (by simp [Value.category]) (Nat.le_of_ble_eq_true rfl) fun X B => ?_
  show WX D X [[(q, .inr (11, [.int v]))]] 0 0 0 [some (.ref q), some (.int x)] []
  refine x_aload0 B 1 dX10_init_0 rfl (by first | rfl | exact xisR_rf _) ?_
  refine x_objInit B 4 q1146 (Nat.le_of_ble_eq_true rfl) (Nat.le_of_ble_eq_true rfl) dX10_init_1 rfl ?_
  refine x_aload0 B 5 dX10_init_4 rfl (by first | rfl | exact xisR_rf _) ?_
  refine x_iload1 B 6 dX10_init_5 rfl ?_
  refine s_X10_7_X13 B 9 rfl (by repeat (first | with_reducible exact xu_h | apply xu_t)) dX10_init_6 rfl ?_
  exact x_vret B rfl ⟨rfl, rfl⟩ dX10_init_9 ⟨by first | omega | decide, by first | omega | decide⟩
theorem m_X10_init_12 (x : Int32) : XC D yX10_init (ws_ yX10_init cX10_init 2 (Option.none : Option Jvm.ClassFile.FieldType)) 1 40 (0) (0) [.ref q, .int x] [[(q, .inr (12, [.int v]))]] (fun r cs' => r = none ∧ cs' = [[(q, .inr (12, [.int x]))]]) x0 := by
  refine XC.of (by decide) (by simp [Value.category]) (Nat.le_of_ble_eq_true rfl) fun X B => ?_
  show WX D X [[(q, .inr (12, [.int v]))]] 0 0 0 [some (.ref q), some (.int x)] []
  refine x_aload0 B 1 dX10_init_0 rfl (by first | rfl | exact xisR_rf _) ?_
  refine x_objInit B 4 q1146 (Nat.le_of_ble_eq_true rfl) (Nat.le_of_ble_eq_true rfl) dX10_init_1 rfl ?_
  refine x_aload0 B 5 dX10_init_4 rfl (by first | rfl | exact xisR_rf _) ?_
  refine x_iload1 B 6 dX10_init_5 rfl ?_
  refine s_X10_7_X14 B 9 rfl (by repeat (first | with_reducible exact xu_h | apply xu_t)) dX10_init_6 rfl ?_
  exact x_vret B rfl ⟨rfl, rfl⟩ dX10_init_9 ⟨by first | omega | decide, by first | omega | decide⟩
theorem m_X10_init_13 (x : Int32) : XC D yX10_init (ws_ yX10_init cX10_init 2 (Option.none : Option Jvm.ClassFile.FieldType)) 1 40 (0) (0) [.ref q, .int x] [[(q, .inr (13, [.int v]))]] (fun r cs' => r = none ∧ cs' = [[(q, .inr (13, [.int x]))]]) x0 := by
  refine XC.of (by decide) (by simp [Value.category]) (Nat.le_of_ble_eq_true rfl) fun X B => ?_
  show WX D X [[(q, .inr (13, [.int v]))]] 0 0 0 [some (.ref q), some (.int x)] []
  refine x_aload0 B 1 dX10_init_0 rfl (by first | rfl | exact xisR_rf _) ?_
  refine x_objInit B 4 q1146 (Nat.le_of_ble_eq_true rfl) (Nat.le_of_ble_eq_true rfl) dX10_init_1 rfl ?_
  refine x_aload0 B 5 dX10_init_4 rfl (by first | rfl | exact xisR_rf _) ?_
  refine x_iload1 B 6 dX10_init_5 rfl ?_
  refine s_X10_7_X15 B 9 rfl (by repeat (first | with_reducible exact xu_h | apply xu_t)) dX10_init_6 rfl ?_
  exact x_vret B rfl ⟨rfl, rfl⟩ dX10_init_9 ⟨by first | omega | decide, by first | omega | decide⟩
end C7
