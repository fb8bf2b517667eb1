/-! THE COMPONENT, 5: what divides both -/
section C4
variable {D : xG}
theorem gcd_step (f a b : Nat) (ha : a < 2147483648) (hb : b < 2147483648) (hr : 0 < b → XC D yX0_gcd (ws_ yX0_gcd cX0_gcd 2 (some .int)) f (40 * f) 0 0 [.int (nI b), .int (nI (a % b))] [] (fun r cs' => r = some (.int (nI (Nat.gcd b (a % b)))) ∧ cs' = []) x0) : XC D yX0_gcd (ws_ yX0_gcd cX0_gcd 2 (Option.some Jvm.ClassFile.FieldType.int)) (f+1) (40*f+40) (0) (0) [.int (nI a), .int (nI b)] [] (fun r cs' => r = some (.int (nI (Nat.gcd a b))) ∧ cs' = []) x0 := by
  refine XC.of (by decide) (by simp [Value.category]) (Nat.le_of_ble_eq_true rfl) fun X B => ?_
  show WX D X [] 0 0 0 [some (.int (nI a)), some (.int (nI b))] []
  rcases Nat.eq_zero_or_pos b with c | c
  · subst c
    refine x_iload1 B 1 dX0_gcd_0 rfl ?_
    refine x_if_ne_f (tp := 8) B 4 dX0_gcd_1 (by decide) rfl rfl ?_
    refine x_iload0 B 5 dX0_gcd_4 rfl ?_
    refine x_goto B 15 dX0_gcd_5 (by decide) ?_
    exact x_iret B rfl ⟨by rw [Nat.gcd_zero_right], rfl⟩ dX0_gcd_15 ⟨by first | omega | decide, by first | omega | decide⟩
  · refine x_iload1 B 1 dX0_gcd_0 rfl ?_
    refine x_if_ne_t B 8 dX0_gcd_1 (by decide) (nI_ne0 (by omega) (by omega)) ?_
    refine x_iload1 B 9 dX0_gcd_8 rfl ?_
    refine x_iload0 B 10 dX0_gcd_9 rfl ?_
    refine x_iload1 B 11 dX0_gcd_10 rfl ?_
    refine x_irem B 12 dX0_gcd_11 (nI_ne0 (by omega) (by omega)) rfl ?_
    rw [pk_rem (a := a) (d := b) (by omega) (by omega) (by omega)]
    refine x_callS B 15 (hr c) [] rfl q1613 q1614 q88 q1615 hd_X0_gcd rfl ⟨by first | decide | omega, by first | decide | omega⟩ ⟨by first | decide | omega, by first | decide | omega⟩ rfl (Nat.le_of_ble_eq_true rfl) dX0_gcd_12 rfl (fun _ _ _ h => h.elim) ?_
    rintro _ _ ⟨rfl, rfl⟩
    try simp only [xst, xput, xpre, List.set_cons_zero, List.set_cons_succ]
    exact x_iret B rfl ⟨by rw [Nat.gcd_comm a b, Nat.gcd_rec b a, Nat.gcd_comm b (a % b)], rfl⟩ dX0_gcd_15 ⟨by first | omega | decide, by first | omega | decide⟩
theorem m_X0_gcd : ∀ k a b, a < 2147483648 → b < 2147483648 → b < 2 ^ k → XC D yX0_gcd (ws_ yX0_gcd cX0_gcd 2 (some .int)) (2 * k + 1) (40 * (2 * k) + 40) 0 0 [.int (nI a), .int (nI b)] [] (fun r cs' => r = some (.int (nI (Nat.gcd a b))) ∧ cs' = []) x0 := by
  intro k
  induction k with
  | zero =>
    intro a b ha hb hk
    exact gcd_step 0 a b ha hb (fun h => by have : b < 1 := hk; omega)
  | succ k ih =>
    intro a b ha hb hk
    refine gcd_step (2 * k + 2) a b ha hb (fun h => ?_)
    have h1 := Nat.mod_lt a h
    refine gcd_step (2 * k + 1) b (a % b) hb (by omega) (fun h2 => ?_)
    have h3 := Nat.mod_lt b h2
    have h4 : b % (a % b) < 2 ^ k := by
      rw [Nat.pow_succ] at hk
      rcases Nat.lt_or_ge (a % b) (2 ^ k) with q | q
      · omega
      · have h5 : b % (a % b) = b - a % b := by
          rw [Nat.mod_eq_sub_mod (by omega), Nat.mod_eq_of_lt (by omega)]
        omega
    exact ih (a % b) (b % (a % b)) (by omega) (by omega) h4
end C4
