/-! THE COMPONENT, 6: birds, what they say by themselves -/
section C5
variable {D : xG} {q : Nat} {w : va_W}
theorem m_X11_kind  : XC D yX11_kind (ws_ yX11_kind cX11_kind 1 (Option.some Jvm.ClassFile.FieldType.int)) 0 0 (0) (0) [.ref q] [w] (fun r cs' => r = some (.int 0) ∧ cs' = [w]) x0 := by
  refine XC.of (by decide) (by simp [Value.category]) (Nat.le_of_ble_eq_true rfl) fun X B => ?_
  show WX D X [w] 0 0 0 [some (.ref q)] []
  refine x_iconst B 1 (v := 0) dX11_kind_0 (by decide) rfl ?_
  exact x_iret B rfl ⟨rfl, rfl⟩ dX11_kind_1 ⟨by first | omega | decide, by first | omega | decide⟩
theorem m_X11_says  : XC D yX11_says (ws_ yX11_says cX11_says 1 (Option.some Jvm.ClassFile.FieldType.int)) 0 0 (0) (0) [.ref q] [w] (fun r cs' => r = some (.int 1) ∧ cs' = [w]) x0 := by
  refine XC.of (by decide) (by simp [Value.category]) (Nat.le_of_ble_eq_true rfl) fun X B => ?_
  show WX D X [w] 0 0 0 [some (.ref q)] []
  refine x_iconst B 1 (v := 1) dX11_says_0 (by decide) rfl ?_
  exact x_iret B rfl ⟨rfl, rfl⟩ dX11_says_1 ⟨by first | omega | decide, by first | omega | decide⟩
theorem m_X14_hears  : XC D yX14_hears (ws_ yX14_hears cX14_hears 1 (Option.some Jvm.ClassFile.FieldType.int)) 0 0 (0) (0) [.ref q] [w] (fun r cs' => r = some (.int 0) ∧ cs' = [w]) x0 := by
  refine XC.of (by decide) (by simp [Value.category]) (Nat.le_of_ble_eq_true rfl) fun X B => ?_
  show WX D X [w] 0 0 0 [some (.ref q)] []
  refine x_iconst B 1 (v := 0) dX14_hears_0 (by decide) rfl ?_
  exact x_iret B rfl ⟨rfl, rfl⟩ dX14_hears_1 ⟨by first | omega | decide, by first | omega | decide⟩
theorem m_X14_kind  : XC D yX14_kind (ws_ yX14_kind cX14_kind 1 (Option.some Jvm.ClassFile.FieldType.int)) 0 0 (0) (0) [.ref q] [w] (fun r cs' => r = some (.int 3) ∧ cs' = [w]) x0 := by
  refine XC.of (by decide) (by simp [Value.category]) (Nat.le_of_ble_eq_true rfl) fun X B => ?_
  show WX D X [w] 0 0 0 [some (.ref q)] []
  refine x_iconst B 1 (v := 3) dX14_kind_0 (by decide) rfl ?_
  exact x_iret B rfl ⟨rfl, rfl⟩ dX14_kind_1 ⟨by first | omega | decide, by first | omega | decide⟩
theorem m_X14_says  : XC D yX14_says (ws_ yX14_says cX14_says 1 (Option.some Jvm.ClassFile.FieldType.int)) 0 0 (0) (0) [.ref q] [w] (fun r cs' => r = some (.int 0) ∧ cs' = [w]) x0 := by
  refine XC.of (by decide) (by simp [Value.category]) (Nat.le_of_ble_eq_true rfl) fun X B => ?_
  show WX D X [w] 0 0 0 [some (.ref q)] []
  refine x_iconst B 1 (v := 0) dX14_says_0 (by decide) rfl ?_
  exact x_iret B rfl ⟨rfl, rfl⟩ dX14_says_1 ⟨by first | omega | decide, by first | omega | decide⟩
theorem m_X16_hears  : XC D yX16_hears (ws_ yX16_hears cX16_hears 1 (Option.some Jvm.ClassFile.FieldType.int)) 0 0 (0) (0) [.ref q] [w] (fun r cs' => r = some (.int 1) ∧ cs' = [w]) x0 := by
  refine XC.of (by decide) (by simp [Value.category]) (Nat.le_of_ble_eq_true rfl) fun X B => ?_
  show WX D X [w] 0 0 0 [some (.ref q)] []
  refine x_iconst B 1 (v := 1) dX16_hears_0 (by decide) rfl ?_
  exact x_iret B rfl ⟨rfl, rfl⟩ dX16_hears_1 ⟨by first | omega | decide, by first | omega | decide⟩
end C5
