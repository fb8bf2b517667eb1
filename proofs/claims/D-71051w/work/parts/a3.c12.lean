/-! THE COMPONENT, 14: a state is made; rows filled -/
def xSa (q q1 q2 q3 q4 : Nat) : Nat → Nat
  | 0 => q
  | 1 => q1
  | 2 => q2
  | 3 => q3
  | 4 => q4
  | b + 5 => q1 + 1 + b
theorem xSa5 (q q1 q2 q3 q4 b : Nat) : xSa q q1 q2 q3 q4 (5 + b) = q1 + 1 + b := by rw [Nat.add_comm]; rfl
section C12
variable {D : xG} {h : Nat} {ad sa : Nat → Nat} {iv : Nat → Int32} {tg : Option Nat}
theorem m_X1_init {q : Nat} : XC D yX1_init (ws_ yX1_init cX1_init 2 (Option.none : Option Jvm.ClassFile.FieldType)) 1 40 (12) (104) [.ref q, .ref h] [[(q, .inr (1, [.null, .null, .null, .null, .int 0, .int 0, .null]))]] (fun r cs' => r = none ∧ ∃ sa, sa 0 = q ∧ cs' = [cSI D sa 4 4 (fun _ => 0), cSI D sa 3 4 (fun _ => 0), cSI D sa 2 8 (fun _ => 0), cS1 D sa, cK D sa (fun _ _ => 0), cS0 h sa 0 0]) x0 := by
  refine XC.of (by decide) (by simp [Value.category]) (Nat.le_of_ble_eq_true rfl) fun X B => ?_
  show WX D X [[(q, .inr (1, [.null, .null, .null, .null, .int 0, .int 0, .null]))]] 0 0 0 [some (.ref q), some (.ref h)] []
  refine x_aload0 B 1 dX1_init_0 rfl (by first | rfl | exact xisR_rf _) ?_
  refine x_aload1 B 2 dX1_init_1 rfl (by first | rfl | exact xisR_rf _) ?_
  refine s_X1_3_X1 B 5 (by first | rfl | exact xisR_rf _) rfl (by repeat (first | with_reducible exact xu_h | apply xu_t)) dX1_init_2 rfl ?_
  refine x_aload0 B 6 dX1_init_5 rfl (by first | rfl | exact xisR_rf _) ?_
  refine x_objInit B 9 q147 (Nat.le_of_ble_eq_true rfl) (Nat.le_of_ble_eq_true rfl) dX1_init_6 rfl ?_
  refine x_aload0 B 10 dX1_init_9 rfl (by first | rfl | exact xisR_rf _) ?_
  refine x_bipush B 12 (v := 8) dX1_init_10 (by decide) rfl ?_
  refine x_bipush B 14 (v := 10) dX1_init_12 (by decide) rfl ?_
  refine x_multi B 18 (ty := .byte) (t0 := 4) (t1 := 1) (N := 8) (M := 10) q148 q149 q180 rfl rfl rfl rfl (by decide) (by first | (simp only [xlit, nI_add, pk_mul]; done) | rfl | (simp only [xlit, nI_add, pk_mul]; congr 1; omega)) (by first | (simp only [xlit, nI_add, pk_mul]; done) | rfl | (simp only [xlit, nI_add, pk_mul]; congr 1; omega)) ⟨by decide, by decide⟩ ⟨by first | decide | omega, by first | decide | omega⟩ dX1_init_14 rfl (fun q1 => ?_)
  refine s_X1_17_X1 B 21 (by first | rfl | exact xisR_rf _) rfl (by repeat (first | with_reducible exact xu_h | apply xu_t)) dX1_init_18 rfl ?_
  refine x_aload0 B 22 dX1_init_21 rfl (by first | rfl | exact xisR_rf _) ?_
  refine x_bipush B 24 (v := 8) dX1_init_22 (by decide) rfl ?_
  refine x_newa B 26 (atype := .int) (ty := .int) (t0 := 0) (N := 8) rfl q179 rfl rfl (by first | (simp only [xlit, nI_add, pk_mul]; done) | rfl | (simp only [xlit, nI_add, pk_mul]; congr 1; omega)) (by first | decide | omega) (by first | decide | (show _ * 1 ≤ _; omega) | (show _ * 4 ≤ _; omega)) ⟨by first | decide | omega, by first | decide | omega⟩ dX1_init_24 rfl (fun q2 => ?_)
  refine s_X1_20_X1 B 29 (by first | rfl | exact xisR_rf _) rfl (by repeat (first | with_reducible exact xu_h | apply xu_t)) dX1_init_26 rfl ?_
  refine x_aload0 B 30 dX1_init_29 rfl (by first | rfl | exact xisR_rf _) ?_
  refine x_iconst B 31 (v := 4) dX1_init_30 (by decide) rfl ?_
  refine x_newa B 33 (atype := .int) (ty := .int) (t0 := 0) (N := 4) rfl q179 rfl rfl (by first | (simp only [xlit, nI_add, pk_mul]; done) | rfl | (simp only [xlit, nI_add, pk_mul]; congr 1; omega)) (by first | decide | omega) (by first | decide | (show _ * 1 ≤ _; omega) | (show _ * 4 ≤ _; omega)) ⟨by first | decide | omega, by first | decide | omega⟩ dX1_init_31 rfl (fun q3 => ?_)
  refine s_X1_24_X1 B 36 (by first | rfl | exact xisR_rf _) rfl (by repeat (first | with_reducible exact xu_h | apply xu_t)) dX1_init_33 rfl ?_
  refine x_aload0 B 37 dX1_init_36 rfl (by first | rfl | exact xisR_rf _) ?_
  refine x_iconst B 38 (v := 4) dX1_init_37 (by decide) rfl ?_
  refine x_newa B 40 (atype := .int) (ty := .int) (t0 := 0) (N := 4) rfl q179 rfl rfl (by first | (simp only [xlit, nI_add, pk_mul]; done) | rfl | (simp only [xlit, nI_add, pk_mul]; congr 1; omega)) (by first | decide | omega) (by first | decide | (show _ * 1 ≤ _; omega) | (show _ * 4 ≤ _; omega)) ⟨by first | decide | omega, by first | decide | omega⟩ dX1_init_38 rfl (fun q4 => ?_)
  refine s_X1_27_X1 B 43 (by first | rfl | exact xisR_rf _) rfl (by repeat (first | with_reducible exact xu_h | apply xu_t)) dX1_init_40 rfl ?_
  refine x_vret B rfl ⟨rfl, xSa q q1 q2 q3 q4, rfl, ?_⟩ dX1_init_43 ⟨by first | omega | decide, by first | omega | decide⟩
  have e1 : cS1 D (xSa q q1 q2 q3 q4) = [(q1, aQ (D.2.1 4) 8 (fun b => some (q1 + 1 + b)))] := by
    show [(q1, aQ (D.2.1 4) 8 (fun b => some (xSa q q1 q2 q3 q4 (5 + b))))] = _
    simp only [xSa5]
  have e2 : cK D (xSa q q1 q2 q3 q4) (fun _ _ => 0) = (List.range 8).map (fun b => (q1 + 1 + b, aI (D.2.1 1) 10 (fun _ => 0))) := by
    unfold cK
    simp only [xSa5]
  rw [e1, e2]
  rfl
theorem m_fillI {f : Nat → Int32} (N : Nat) (v : Int32) (hN : N < 100000) (a : Nat) : XC D yJ0_fill (ws_ yJ0_fill cJ0_fill 4 (Option.none : Option Jvm.ClassFile.FieldType)) 0 0 (0) (0) [.ref a, .int v] [[(a, aI (D.2.1 0) N f)]] (fun r cs' => r = none ∧ cs' = [[(a, aI (D.2.1 0) N (fun _ => v))]]) x0 := by
  refine XC.of (by decide) (by simp [Value.category]) (Nat.le_of_ble_eq_true rfl) fun X B => ?_
  show WX D X [[(a, aI (D.2.1 0) N f)]] 0 0 0 [some (.ref a), some (.int v), none, none] []
  have loop : ∀ (j i : Nat), i + j = N → ∀ g, (∀ x, x < i → g x = v) → WX D X [[(a, aI (D.2.1 0) N g)]] 0 0 5 [some (.ref a), some (.int v), some (.int (nI i)), some (.int (nI N))] [] := by
    intro j
    induction j with
    | zero =>
      intro i hi g hg
      obtain rfl : i = N := by omega
      refine x_iload2 B 6 dJ0_fill_5 rfl ?_
      refine x_iload3 B 7 dJ0_fill_6 rfl ?_
      refine x_icmp_ge_t B 20 dJ0_fill_7 (by decide) (by (try simp only [xlit]); first | (rw [nI_leI (by omega) (by omega)]; omega) | (rw [nI_ltI (by omega) (by omega)]; omega) | (rw [nI_eq (by omega) (by omega)]; omega)) ?_
      refine x_altI (i := 0) (fun _ => v) rfl hg ?_
      exact x_vret B rfl ⟨rfl, rfl⟩ dJ0_fill_20 ⟨by first | omega | decide, by first | omega | decide⟩
    | succ j ih =>
      intro i hi g hg
      refine x_iload2 B 6 dJ0_fill_5 rfl ?_
      refine x_iload3 B 7 dJ0_fill_6 rfl ?_
      refine x_icmp_ge_f (tp := 20) B 10 dJ0_fill_7 (by decide) rfl (by (try simp only [xlit]); first | (rw [nI_leI (by omega) (by omega)]; omega) | (rw [nI_ltI (by omega) (by omega)]; omega) | (rw [nI_eq (by omega) (by omega)]; omega)) ?_
      refine x_aload0 B 11 dJ0_fill_10 rfl (by first | rfl | exact xisR_rf _) ?_
      refine x_iload2 B 12 dJ0_fill_11 rfl ?_
      refine x_iload1 B 13 dJ0_fill_12 rfl ?_
      refine x_iast B 14 (by repeat (first | with_reducible exact xu_h | apply xu_t)) (j := i) (by first | (simp only [xlit, nI_add, pk_mul]; done) | rfl | (simp only [xlit, nI_add, pk_mul]; congr 1; omega)) ⟨by first | omega | decide, by first | decide | omega⟩ dJ0_fill_13 rfl ?_
      refine x_iinc2 B 17 dJ0_fill_14 rfl (by first | exact xinc _ | rfl) ?_
      refine x_goto B 5 dJ0_fill_17 (by decide) ?_
      refine ih (i + 1) (by omega) _ (fun x hx => ?_)
      by_cases c : x = i
      · rw [c, pk_us]
      · rw [pk_un c]; exact hg x (by omega)
  refine x_iconst B 1 (v := 0) dJ0_fill_0 (by decide) rfl ?_
  refine x_istore2 B 2 dJ0_fill_1 rfl ?_
  refine x_aload0 B 3 dJ0_fill_2 rfl (by first | rfl | exact xisR_rf _) ?_
  refine x_alen B 4 (t0 := 0) rfl (by repeat (first | with_reducible exact xr_h | refine xr_t ?_)) dJ0_fill_3 rfl ?_
  refine x_istore3 B 5 dJ0_fill_4 rfl ?_
  exact loop N 0 (by omega) f (fun x hx => by omega)
theorem m_fillN {f : Nat → Option Nat} (t0 N : Nat) {E : String} (ht : (xTys D.2.1)[t0]? = some (D.2.1 t0, .object E)) (hN : N < 100000) (a : Nat) : XC D yJ0_fill_2 (ws_ yJ0_fill_2 cJ0_fill_2 4 (Option.none : Option Jvm.ClassFile.FieldType)) 0 0 (0) (0) [.ref a, .null] [[(a, aQ (D.2.1 t0) N f)]] (fun r cs' => r = none ∧ cs' = [[(a, aQ (D.2.1 t0) N (fun _ => none))]]) x0 := by
  refine XC.of (by decide) (by simp [Value.category]) (Nat.le_of_ble_eq_true rfl) fun X B => ?_
  show WX D X [[(a, aQ (D.2.1 t0) N f)]] 0 0 0 [some (.ref a), some (.null), none, none] []
  have loop : ∀ (j i : Nat), i + j = N → ∀ g, (∀ x, x < i → g x = none) → WX D X [[(a, aQ (D.2.1 t0) N g)]] 0 0 5 [some (.ref a), some .null, some (.int (nI i)), some (.int (nI N))] [] := by
    intro j
    induction j with
    | zero =>
      intro i hi g hg
      obtain rfl : i = N := by omega
      refine x_iload2 B 6 dJ0_fill_2_5 rfl ?_
      refine x_iload3 B 7 dJ0_fill_2_6 rfl ?_
      refine x_icmp_ge_t B 20 dJ0_fill_2_7 (by decide) (by (try simp only [xlit]); first | (rw [nI_leI (by omega) (by omega)]; omega) | (rw [nI_ltI (by omega) (by omega)]; omega) | (rw [nI_eq (by omega) (by omega)]; omega)) ?_
      refine x_altQ (i := 0) (fun _ => none) rfl hg ?_
      exact x_vret B rfl ⟨rfl, rfl⟩ dJ0_fill_2_20 ⟨by first | omega | decide, by first | omega | decide⟩
    | succ j ih =>
      intro i hi g hg
      refine x_iload2 B 6 dJ0_fill_2_5 rfl ?_
      refine x_iload3 B 7 dJ0_fill_2_6 rfl ?_
      refine x_icmp_ge_f (tp := 20) B 10 dJ0_fill_2_7 (by decide) rfl (by (try simp only [xlit]); first | (rw [nI_leI (by omega) (by omega)]; omega) | (rw [nI_ltI (by omega) (by omega)]; omega) | (rw [nI_eq (by omega) (by omega)]; omega)) ?_
      refine x_aload0 B 11 dJ0_fill_2_10 rfl (by first | rfl | exact xisR_rf _) ?_
      refine x_iload2 B 12 dJ0_fill_2_11 rfl ?_
      refine x_aload1 B 13 dJ0_fill_2_12 rfl (by first | rfl | exact xisR_rf _) ?_
      refine x_aastN B 14 (N := N) ht (j := i) rfl ⟨by omega, by omega⟩ (by first | exact xu_h) dJ0_fill_2_13 rfl ?_
      refine x_iinc2 B 17 dJ0_fill_2_14 rfl (by first | exact xinc _ | rfl) ?_
      refine x_goto B 5 dJ0_fill_2_17 (by decide) ?_
      refine ih (i + 1) (by omega) _ (fun x hx => ?_)
      unfold va_up
      by_cases c : x = i
      · rw [if_pos c]
      · rw [if_neg c]; exact hg x (by omega)
  refine x_iconst B 1 (v := 0) dJ0_fill_2_0 (by decide) rfl ?_
  refine x_istore2 B 2 dJ0_fill_2_1 rfl ?_
  refine x_aload0 B 3 dJ0_fill_2_2 rfl (by first | rfl | exact xisR_rf _) ?_
  refine x_alen B 4 (t0 := t0) ht (by repeat (first | with_reducible exact xr_h | refine xr_t ?_)) dJ0_fill_2_3 rfl ?_
  refine x_istore3 B 5 dJ0_fill_2_4 rfl ?_
  exact loop N 0 (by omega) f (fun x hx => by omega)
theorem m_fillB {f : Nat → Int32} (N : Nat) (hN : N < 100000) (a : Nat) : XC D yJ0_fill_3 (ws_ yJ0_fill_3 cJ0_fill_3 4 (Option.none : Option Jvm.ClassFile.FieldType)) 0 0 (0) (0) [.ref a, .int 0] [[(a, aI (D.2.1 1) N f)]] (fun r cs' => r = none ∧ cs' = [[(a, aI (D.2.1 1) N (fun _ => 0))]]) x0 := by
  refine XC.of (by decide) (by simp [Value.category]) (Nat.le_of_ble_eq_true rfl) fun X B => ?_
  show WX D X [[(a, aI (D.2.1 1) N f)]] 0 0 0 [some (.ref a), some (.int 0), none, none] []
  have loop : ∀ (j i : Nat), i + j = N → ∀ g, (∀ x, x < i → g x = 0) → WX D X [[(a, aI (D.2.1 1) N g)]] 0 0 5 [some (.ref a), some (.int 0), some (.int (nI i)), some (.int (nI N))] [] := by
    intro j
    induction j with
    | zero =>
      intro i hi g hg
      obtain rfl : i = N := by omega
      refine x_iload2 B 6 dJ0_fill_3_5 rfl ?_
      refine x_iload3 B 7 dJ0_fill_3_6 rfl ?_
      refine x_icmp_ge_t B 20 dJ0_fill_3_7 (by decide) (by (try simp only [xlit]); first | (rw [nI_leI (by omega) (by omega)]; omega) | (rw [nI_ltI (by omega) (by omega)]; omega) | (rw [nI_eq (by omega) (by omega)]; omega)) ?_
      refine x_altI (i := 0) (fun _ => 0) rfl hg ?_
      exact x_vret B rfl ⟨rfl, rfl⟩ dJ0_fill_3_20 ⟨by first | omega | decide, by first | omega | decide⟩
    | succ j ih =>
      intro i hi g hg
      refine x_iload2 B 6 dJ0_fill_3_5 rfl ?_
      refine x_iload3 B 7 dJ0_fill_3_6 rfl ?_
      refine x_icmp_ge_f (tp := 20) B 10 dJ0_fill_3_7 (by decide) rfl (by (try simp only [xlit]); first | (rw [nI_leI (by omega) (by omega)]; omega) | (rw [nI_ltI (by omega) (by omega)]; omega) | (rw [nI_eq (by omega) (by omega)]; omega)) ?_
      refine x_aload0 B 11 dJ0_fill_3_10 rfl (by first | rfl | exact xisR_rf _) ?_
      refine x_iload2 B 12 dJ0_fill_3_11 rfl ?_
      refine x_iload1 B 13 dJ0_fill_3_12 rfl ?_
      refine x_bast B 14 (by repeat (first | with_reducible exact xu_h | apply xu_t)) (j := i) (by first | (simp only [xlit, nI_add, pk_mul]; done) | rfl | (simp only [xlit, nI_add, pk_mul]; congr 1; omega)) ⟨by first | omega | decide, by first | decide | omega⟩ rfl dJ0_fill_3_13 rfl ?_
      refine x_iinc2 B 17 dJ0_fill_3_14 rfl (by first | exact xinc _ | rfl) ?_
      refine x_goto B 5 dJ0_fill_3_17 (by decide) ?_
      refine ih (i + 1) (by omega) _ (fun x hx => ?_)
      by_cases c : x = i
      · rw [c, pk_us]; rfl
      · rw [pk_un c]; exact hg x (by omega)
  refine x_iconst B 1 (v := 0) dJ0_fill_3_0 (by decide) rfl ?_
  refine x_istore2 B 2 dJ0_fill_3_1 rfl ?_
  refine x_aload0 B 3 dJ0_fill_3_2 rfl (by first | rfl | exact xisR_rf _) ?_
  refine x_alen B 4 (t0 := 1) rfl (by repeat (first | with_reducible exact xr_h | refine xr_t ?_)) dJ0_fill_3_3 rfl ?_
  refine x_istore3 B 5 dJ0_fill_3_4 rfl ?_
  exact loop N 0 (by omega) f (fun x hx => by omega)
end C12
