/-! both classes: in, has -/
section SMALL
variable {D : xG}
theorem m_X0_in (v a b : Int64) : XC D yX0_in (ws_ yX0_in cX0_in 6 (some .boolean)) 0 0 0 0 [.long v, .long a, .long b] [] (fun r cs' => r = some (.int (x_in v a b)) ∧ cs' = []) x0 := by
  intro l sz hl
  refine vx_ofW (cc := cX0_in) (maxL := 6) (ret := some .boolean) (by decide) rfl ?_
  intro p e s m as below meth c s₁ B hml het hv
  obtain ⟨rfl, hsz, hP, hK, hD0⟩ := hv
  have hl := lv_entry ([.long v, .long a, .long b]) (n := 6) (Nat.le_of_ble_eq_true rfl)
  rw [lg_entry_eq]
  refine vx_ret ?_
  exact x_inW dX0_in_0 dX0_in_1 dX0_in_2 dX0_in_3 dX0_in_6 dX0_in_7 dX0_in_9 dX0_in_10 dX0_in_13 dX0_in_14 dX0_in_17 dX0_in_18 B.exec B.bytes B.returns B.notSynchronized hl _ (fun t ht hW => ⟨⟨_, [], rfl, ⟨rfl, rfl⟩, by intro k q h; simp [xf] at h, ⟨fun i j p q h => by simp [xf] at h, fun k q h => by simp [xf] at h⟩⟩, va_S.rf.F ht⟩)
theorem m_X0_has (s k : Int32) : XC D yX0_has (ws_ yX0_has cX0_has 2 (some .boolean)) 0 0 0 0 [.int s, .int k] [] (fun r cs' => r = some (.int (x_has s k)) ∧ cs' = []) x0 := by
  refine XC.of (by decide) (by simp [Value.category]) (Nat.le_of_ble_eq_true rfl) fun X B => ?_
  show WX D X [] 0 0 0 [some (.int s), some (.int k)] []
  refine x_iload0 B 1 dX0_has_0 rfl ?_
  refine x_iload1 B 2 dX0_has_1 rfl ?_
  refine x_ishr B 3 dX0_has_2 rfl ?_
  refine x_iconst B 4 (v := 1) dX0_has_3 (by decide) rfl ?_
  refine x_iand B 5 dX0_has_4 rfl ?_
  refine x_iconst B 6 (v := 1) dX0_has_5 (by decide) rfl ?_
  refine x_icmp_ne B 13 9 dX0_has_6 (by decide) rfl (fun hc => ?_) (fun hc => ?_)
  · refine x_iconst B 14 (v := 0) dX0_has_13 (by decide) rfl ?_
    exact x_zret B rfl ⟨by unfold x_has; rw [if_neg hc], rfl⟩ dX0_has_14 ⟨by first | omega | decide, by first | omega | decide⟩ (by first | exact Or.inl rfl | exact Or.inr rfl | exact x_in01 _ _ _ | exact x_has01 _ _ | exact bI01 _ | assumption)
  · refine x_iconst B 10 (v := 1) dX0_has_9 (by decide) rfl ?_
    refine x_goto B 14 dX0_has_10 (by decide) ?_
    exact x_zret B rfl ⟨by unfold x_has; rw [if_pos hc], rfl⟩ dX0_has_14 ⟨by first | omega | decide, by first | omega | decide⟩ (by first | exact Or.inl rfl | exact Or.inr rfl | exact x_in01 _ _ _ | exact x_has01 _ _ | exact bI01 _ | assumption)
theorem m_X2_in (v a b : Int64) : XC D yX2_in (ws_ yX2_in cX2_in 6 (some .boolean)) 0 0 0 0 [.long v, .long a, .long b] [] (fun r cs' => r = some (.int (x_in v a b)) ∧ cs' = []) x0 := by
  intro l sz hl
  refine vx_ofW (cc := cX2_in) (maxL := 6) (ret := some .boolean) (by decide) rfl ?_
  intro p e s m as below meth c s₁ B hml het hv
  obtain ⟨rfl, hsz, hP, hK, hD0⟩ := hv
  have hl := lv_entry ([.long v, .long a, .long b]) (n := 6) (Nat.le_of_ble_eq_true rfl)
  rw [lg_entry_eq]
  refine vx_ret ?_
  exact x_inW dX2_in_0 dX2_in_1 dX2_in_2 dX2_in_3 dX2_in_6 dX2_in_7 dX2_in_9 dX2_in_10 dX2_in_13 dX2_in_14 dX2_in_17 dX2_in_18 B.exec B.bytes B.returns B.notSynchronized hl _ (fun t ht hW => ⟨⟨_, [], rfl, ⟨rfl, rfl⟩, by intro k q h; simp [xf] at h, ⟨fun i j p q h => by simp [xf] at h, fun k q h => by simp [xf] at h⟩⟩, va_S.rf.F ht⟩)
theorem m_X2_has (s k : Int32) : XC D yX2_has (ws_ yX2_has cX2_has 2 (some .boolean)) 0 0 0 0 [.int s, .int k] [] (fun r cs' => r = some (.int (x_has s k)) ∧ cs' = []) x0 := by
  refine XC.of (by decide) (by simp [Value.category]) (Nat.le_of_ble_eq_true rfl) fun X B => ?_
  show WX D X [] 0 0 0 [some (.int s), some (.int k)] []
  refine x_iload0 B 1 dX2_has_0 rfl ?_
  refine x_iload1 B 2 dX2_has_1 rfl ?_
  refine x_ishr B 3 dX2_has_2 rfl ?_
  refine x_iconst B 4 (v := 1) dX2_has_3 (by decide) rfl ?_
  refine x_iand B 5 dX2_has_4 rfl ?_
  refine x_iconst B 6 (v := 1) dX2_has_5 (by decide) rfl ?_
  refine x_icmp_ne B 13 9 dX2_has_6 (by decide) rfl (fun hc => ?_) (fun hc => ?_)
  · refine x_iconst B 14 (v := 0) dX2_has_13 (by decide) rfl ?_
    exact x_zret B rfl ⟨by unfold x_has; rw [if_neg hc], rfl⟩ dX2_has_14 ⟨by first | omega | decide, by first | omega | decide⟩ (by first | exact Or.inl rfl | exact Or.inr rfl | exact x_in01 _ _ _ | exact x_has01 _ _ | exact bI01 _ | assumption)
  · refine x_iconst B 10 (v := 1) dX2_has_9 (by decide) rfl ?_
    refine x_goto B 14 dX2_has_10 (by decide) ?_
    exact x_zret B rfl ⟨by unfold x_has; rw [if_pos hc], rfl⟩ dX2_has_14 ⟨by first | omega | decide, by first | omega | decide⟩ (by first | exact Or.inl rfl | exact Or.inr rfl | exact x_in01 _ _ _ | exact x_has01 _ _ | exact bI01 _ | assumption)
end SMALL
