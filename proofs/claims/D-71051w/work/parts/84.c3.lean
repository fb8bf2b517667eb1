/-! THE COMPONENT, 4: a state, on -/
theorem hMan_none {Y : Nat → Option Nat} {b : Nat} : ∀ n, (∀ i, i < n → Y i ≠ some b) → hMan Y b n = none
  | 0, _ => rfl
  | n + 1, h => by unfold hMan; rw [if_neg (h n (by omega))]; exact hMan_none n (fun i hi => h i (by omega))
theorem hMan_one {Y : Nat → Option Nat} {b m : Nat} : ∀ n, m < n → Y m = some b → (∀ i, i < n → i ≠ m → Y i ≠ some b) → hMan Y b n = some m
  | n + 1, hm, e, h => by
    unfold hMan
    by_cases c : n = m
    · subst c; rw [if_pos e]
    · rw [if_neg (h n (by omega) c)]; exact hMan_one n (by omega) e (fun i hi => h i (by omega))
section C3
variable {D : xG} {h : Nat} {ad sa sb : Nat → Nat} {iv : Nat → Int32} {tg : Option Nat} {kn kno : Nat → Nat → Int32} {pf hf yf : Nat → Int32} {cov ev : Int32}
theorem m_X1_well (b : Nat) (k : Nat → Nat) (hb : b < 8) (hk : ∀ w, w < 10 → kn b w = nI (k w) ∧ k w ≤ 9) : XC D yX1_well (ws_ yX1_well cX1_well 4 (Option.some Jvm.ClassFile.FieldType.int)) 1 40 (0) (0) [.ref (sa 0), .int (nI b)] [cS0 h sa cov ev, cS1 D sa, cK D sa kn] (fun r cs' => r = some (.int (nI (hWell k 10))) ∧ cs' = [cS0 h sa cov ev, cS1 D sa, cK D sa kn]) x0 := by
  refine XC.of (by decide) (by simp [Value.category]) (Nat.le_of_ble_eq_true rfl) fun X B => ?_
  show WX D X [cS0 h sa cov ev, cS1 D sa, cK D sa kn] 0 0 0 [some (.ref (sa 0)), some (.int (nI b)), none, none] []
  have loop : ∀ (m w : Nat), w + m = 10 → WX D X [cS0 h sa cov ev, cS1 D sa, cK D sa kn] 0 0 4 [some (.ref (sa 0)), some (.int (nI b)), some (.int (nI (hWell k w))), some (.int (nI w))] [] := by
    intro m
    induction m with
    | zero =>
      intro w hw
      obtain rfl : w = 10 := by omega
      refine x_iload3 B 5 dX1_well_4 rfl ?_
      refine x_bipush B 7 (v := 10) dX1_well_5 (by decide) rfl ?_
      refine x_icmp_ge_t B 38 dX1_well_7 (by decide) (by (try simp only [xlit]); first | (rw [nI_leI (by omega) (by omega)]; omega) | (rw [nI_ltI (by omega) (by omega)]; omega) | (rw [nI_eq (by omega) (by omega)]; omega)) ?_
      refine x_iload2 B 39 dX1_well_38 rfl ?_
      exact x_iret B rfl ⟨rfl, rfl⟩ dX1_well_39 ⟨by first | omega | decide, by first | omega | decide⟩
    | succ m ih =>
      intro w hw
      obtain ⟨k1, k2⟩ := hk w (by omega)
      have e1 : hWell k (w + 1) = hWell k w ||| (if 4 < k w then 2 ^ w else 0) := rfl
      refine x_iload3 B 5 dX1_well_4 rfl ?_
      refine x_bipush B 7 (v := 10) dX1_well_5 (by decide) rfl ?_
      refine x_icmp_ge_f (tp := 38) B 10 dX1_well_7 (by decide) rfl (by (try simp only [xlit]); first | (rw [nI_leI (by omega) (by omega)]; omega) | (rw [nI_ltI (by omega) (by omega)]; omega) | (rw [nI_eq (by omega) (by omega)]; omega)) ?_
      refine x_iload2 B 11 dX1_well_10 rfl ?_
      refine x_aload0 B 12 dX1_well_11 rfl (by first | rfl | exact xisR_rf _) ?_
      refine g_X1_17_X1 B 15 (by repeat (first | with_reducible exact xr_h | refine xr_t ?_)) dX1_well_12 rfl ?_
      refine x_iload1 B 16 dX1_well_15 rfl ?_
      refine x_aalds B 17 (f := (fun b => some (sa (5 + b)))) (t0 := 4) rfl rfl (by repeat (first | with_reducible exact xr_h | refine xr_t ?_)) (j := b) (by first | (simp only [xlit, nI_add, pk_mul]; done) | rfl | (simp only [xlit, nI_add, pk_mul]; congr 1; omega)) ⟨by first | omega | decide, by first | decide | omega⟩ rfl dX1_well_16 rfl ?_
      refine x_iload3 B 18 dX1_well_17 rfl ?_
      refine x_baldv B 19 (by repeat (first | exact xr_m (cK_get hb) | apply xr_t)) (j := w) (by first | (simp only [xlit, nI_add, pk_mul]; done) | rfl | (simp only [xlit, nI_add, pk_mul]; congr 1; omega)) ⟨by first | omega | decide, by first | decide | omega⟩ k1 dX1_well_18 rfl ?_
      by_cases c : 4 < k w
      · rw [if_pos c] at e1
        refine x_iconst B 20 (v := 5) dX1_well_19 (by decide) rfl ?_
        refine x_icmp_lt_f (tp := 29) B 23 dX1_well_20 (by decide) rfl (by (try simp only [xlit]); first | (rw [nI_leI (by omega) (by omega)]; omega) | (rw [nI_ltI (by omega) (by omega)]; omega) | (rw [nI_eq (by omega) (by omega)]; omega)) ?_
        refine x_iconst B 24 (v := 1) dX1_well_23 (by decide) rfl ?_
        refine x_iload3 B 25 dX1_well_24 rfl ?_
        refine x_ishl B 26 dX1_well_25 rfl ?_
        rw [xshl1 (by omega)]
        refine x_goto B 30 dX1_well_26 (by decide) ?_
        refine x_ior B 31 dX1_well_30 rfl ?_
        rw [xor_nI, ← e1]
        refine x_istore2 B 32 dX1_well_31 rfl ?_
        refine x_iinc3 B 35 dX1_well_32 rfl (by first | exact xinc _ | rfl) ?_
        refine x_goto B 4 dX1_well_35 (by decide) ?_
        exact ih (w + 1) (by omega)
      · rw [if_neg c] at e1
        refine x_iconst B 20 (v := 5) dX1_well_19 (by decide) rfl ?_
        refine x_icmp_lt_t B 29 dX1_well_20 (by decide) (by (try simp only [xlit]); first | (rw [nI_leI (by omega) (by omega)]; omega) | (rw [nI_ltI (by omega) (by omega)]; omega) | (rw [nI_eq (by omega) (by omega)]; omega)) ?_
        refine x_iconst B 30 (v := 0) dX1_well_29 (by decide) rfl ?_
        refine x_ior B 31 dX1_well_30 rfl ?_
        rw [show nI (hWell k w) ||| 0 = nI (hWell k (w + 1)) by rw [e1]; exact xor_nI _ 0]
        refine x_istore2 B 32 dX1_well_31 rfl ?_
        refine x_iinc3 B 35 dX1_well_32 rfl (by first | exact xinc _ | rfl) ?_
        refine x_goto B 4 dX1_well_35 (by decide) ?_
        exact ih (w + 1) (by omega)
  refine x_iconst B 1 (v := 0) dX1_well_0 (by decide) rfl ?_
  refine x_istore2 B 2 dX1_well_1 rfl ?_
  refine x_iconst B 3 (v := 0) dX1_well_2 (by decide) rfl ?_
  refine x_istore3 B 4 dX1_well_3 rfl ?_
  exact loop 10 0 rfl
theorem m_X1_best (b but : Nat) (k : Nat → Nat) (hb : b < 8) (hk : ∀ w, w < 10 → kn b w = nI (k w) ∧ k w ≤ 9) (hbut : but < 1024) : XC D yX1_best (ws_ yX1_best cX1_best 6 (Option.some Jvm.ClassFile.FieldType.int)) 1 40 (0) (0) [.ref (sa 0), .ref (sa (5 + b)), .int (nI but)] [cK D sa kn] (fun r cs' => r = some (.int (oI (hBest k but 10))) ∧ cs' = [cK D sa kn]) x0 := by
  refine XC.of (by decide) (by simp [Value.category]) (Nat.le_of_ble_eq_true rfl) fun X B => ?_
  show WX D X [cK D sa kn] 0 0 0 [some (.ref (sa 0)), some (.ref (sa (5 + b))), some (.int (nI but)), none, none, none] []
  have loop : ∀ (m w : Nat), w + m = 10 → ∀ a5, WX D X [cK D sa kn] 0 0 5 [some (.ref (sa 0)), some (.ref (sa (5 + b))), some (.int (nI but)), some (.int (oI (hBest k but w))), some (.int (nI w)), a5] [] := by
    intro m
    induction m with
    | zero =>
      intro w hw a5
      obtain rfl : w = 10 := by omega
      refine x_iload4 B 7 dX1_best_5 rfl ?_
      refine x_bipush B 9 (v := 10) dX1_best_7 (by decide) rfl ?_
      refine x_icmp_ge_t B 68 dX1_best_9 (by decide) (by (try simp only [xlit]); first | (rw [nI_leI (by omega) (by omega)]; omega) | (rw [nI_ltI (by omega) (by omega)]; omega) | (rw [nI_eq (by omega) (by omega)]; omega)) ?_
      refine x_iload3 B 69 dX1_best_68 rfl ?_
      exact x_iret B rfl ⟨rfl, rfl⟩ dX1_best_69 ⟨by first | omega | decide, by first | omega | decide⟩
    | succ m ih =>
      intro w hw a5
      obtain ⟨k1, k2⟩ := hk w (by omega)
      have e1 : hBest k but (w + 1) = if 0 < k w ∧ but.testBit w = false ∧ (∀ v, hBest k but w = some v → k v < k w) then some w else hBest k but w := rfl
      have hlt : ∀ v, hBest k but w = some v → v < w := fun v e => (hBest_lt e).1
      generalize hBest k but w = best at *
      have next : ∀ (y : Option Nat) a5, y = hBest k but (w + 1) → WX D X [cK D sa kn] 0 0 61 [some (.ref (sa 0)), some (.ref (sa (5 + b))), some (.int (nI but)), some (.int (oI best)), some (.int (nI w)), a5] [.int (oI y)] := by
        intro y a5 hy
        refine x_istore3 B 62 dX1_best_61 rfl ?_
        refine x_iinc4 B 65 dX1_best_62 rfl (by first | exact xinc _ | rfl) ?_
        refine x_goto B 5 dX1_best_65 (by decide) ?_
        rw [hy]
        exact ih (w + 1) (by omega) _
      have no : ¬ (0 < k w ∧ but.testBit w = false) → WX D X [cK D sa kn] 0 0 32 [some (.ref (sa 0)), some (.ref (sa (5 + b))), some (.int (nI but)), some (.int (oI best)), some (.int (nI w)), a5] [] := by
        intro c
        rw [if_neg (fun z => c ⟨z.1, z.2.1⟩)] at e1
        refine x_iconst B 33 (v := 0) dX1_best_32 (by decide) rfl ?_
        refine x_istore5 B 35 dX1_best_33 rfl ?_
        refine x_iload5 B 37 dX1_best_35 rfl ?_
        refine x_if_eq_t B 60 dX1_best_37 (by decide) rfl ?_
        refine x_iload3 B 61 dX1_best_60 rfl ?_
        exact next best _ e1.symm
      refine x_iload4 B 7 dX1_best_5 rfl ?_
      refine x_bipush B 9 (v := 10) dX1_best_7 (by decide) rfl ?_
      refine x_icmp_ge_f (tp := 68) B 12 dX1_best_9 (by decide) rfl (by (try simp only [xlit]); first | (rw [nI_leI (by omega) (by omega)]; omega) | (rw [nI_ltI (by omega) (by omega)]; omega) | (rw [nI_eq (by omega) (by omega)]; omega)) ?_
      refine x_aload1 B 13 dX1_best_12 rfl (by first | rfl | exact xisR_rf _) ?_
      refine x_iload4 B 15 dX1_best_13 rfl ?_
      refine x_baldv B 16 (by repeat (first | exact xr_m (cK_get hb) | apply xr_t)) (j := w) (by first | (simp only [xlit, nI_add, pk_mul]; done) | rfl | (simp only [xlit, nI_add, pk_mul]; congr 1; omega)) ⟨by first | omega | decide, by first | decide | omega⟩ k1 dX1_best_15 rfl ?_
      by_cases c1 : 0 < k w
      · refine x_if_le_f (tp := 32) B 19 dX1_best_16 (by decide) rfl (by (try simp only [xlit]); rw [nI_leI (by omega) (by omega)]; omega) ?_
        refine x_iload2 B 20 dX1_best_19 rfl ?_
        refine x_iload4 B 22 dX1_best_20 rfl ?_
        refine x_callSN B 25 (m_X0_has _ _) [] rfl q1259 q1260 q88 q1261 hd_X0_has rfl ⟨by first | decide | omega, by first | decide | omega⟩ ⟨by first | decide | omega, by first | decide | omega⟩ rfl (Nat.le_of_ble_eq_true rfl) dX1_best_22 rfl (fun _ _ _ h => h.elim) ?_
        rintro _ _ ⟨rfl, rfl⟩
        try simp only [xst, xput, xpre, List.set_cons_zero, List.set_cons_succ]
        rw [xhas_bit (by omega) (by omega)]
        cases c2 : but.testBit w with
        | true =>
          rw [if_pos rfl]
          refine x_if_ne_t B 32 dX1_best_25 (by decide) (by decide) ?_
          exact no (fun z => by rw [c2] at z; exact absurd z.2 (by simp))
        | false =>
          rw [if_neg (by simp)]
          refine x_if_ne_f (tp := 32) B 28 dX1_best_25 (by decide) rfl rfl ?_
          refine x_iconst B 29 (v := 1) dX1_best_28 (by decide) rfl ?_
          refine x_goto B 33 dX1_best_29 (by decide) ?_
          refine x_istore5 B 35 dX1_best_33 rfl ?_
          refine x_iload5 B 37 dX1_best_35 rfl ?_
          refine x_if_eq_f (tp := 60) B 40 dX1_best_37 (by decide) rfl (by decide) ?_
          have yes : (∀ v, best = some v → k v < k w) → ∀ a5, WX D X [cK D sa kn] 0 0 55 [some (.ref (sa 0)), some (.ref (sa (5 + b))), some (.int (nI but)), some (.int (oI best)), some (.int (nI w)), a5] [] := by
            intro c3 a5
            rw [if_pos ⟨c1, c2, c3⟩] at e1
            refine x_iload4 B 57 dX1_best_55 rfl ?_
            refine x_goto B 61 dX1_best_57 (by decide) ?_
            exact next (some w) _ e1.symm
          cases best with
          | none =>
            refine x_iload3 B 41 dX1_best_40 rfl ?_
            refine x_iconst B 42 (v := (-1)) dX1_best_41 (by decide) rfl ?_
            refine x_icmp_eq_t B 55 dX1_best_42 (by decide) rfl ?_
            exact yes (fun v e => by cases e) _
          | some v =>
            have hv := hlt v rfl
            obtain ⟨j1, j2⟩ := hk v (by omega)
            refine x_iload3 B 41 dX1_best_40 rfl ?_
            refine x_iconst B 42 (v := (-1)) dX1_best_41 (by decide) rfl ?_
            refine x_icmp_eq_f (tp := 55) B 45 dX1_best_42 (by decide) rfl (ne_m1 (by omega)) ?_
            rw [show oI (some v) = nI v from rfl]
            refine x_aload1 B 46 dX1_best_45 rfl (by first | rfl | exact xisR_rf _) ?_
            refine x_iload4 B 48 dX1_best_46 rfl ?_
            refine x_baldv B 49 (by repeat (first | exact xr_m (cK_get hb) | apply xr_t)) (j := w) (by first | (simp only [xlit, nI_add, pk_mul]; done) | rfl | (simp only [xlit, nI_add, pk_mul]; congr 1; omega)) ⟨by first | omega | decide, by first | decide | omega⟩ k1 dX1_best_48 rfl ?_
            refine x_aload1 B 50 dX1_best_49 rfl (by first | rfl | exact xisR_rf _) ?_
            refine x_iload3 B 51 dX1_best_50 rfl ?_
            refine x_baldv B 52 (by repeat (first | exact xr_m (cK_get hb) | apply xr_t)) (j := v) (by first | (simp only [xlit, nI_add, pk_mul]; done) | rfl | (simp only [xlit, nI_add, pk_mul]; congr 1; omega)) ⟨by first | omega | decide, by first | decide | omega⟩ j1 dX1_best_51 rfl ?_
            by_cases c3 : k v < k w
            · refine x_icmp_le_f (tp := 60) B 55 dX1_best_52 (by decide) rfl (by (try simp only [xlit]); first | (rw [nI_leI (by omega) (by omega)]; omega) | (rw [nI_ltI (by omega) (by omega)]; omega) | (rw [nI_eq (by omega) (by omega)]; omega)) ?_
              exact yes (fun v' e => by cases e; exact c3) _
            · refine x_icmp_le_t B 60 dX1_best_52 (by decide) (by (try simp only [xlit]); first | (rw [nI_leI (by omega) (by omega)]; omega) | (rw [nI_ltI (by omega) (by omega)]; omega) | (rw [nI_eq (by omega) (by omega)]; omega)) ?_
              rw [if_neg (fun z => c3 (z.2.2 v rfl))] at e1
              refine x_iload3 B 61 dX1_best_60 rfl ?_
              exact next (some v) _ e1.symm
      · refine x_if_le_t B 32 dX1_best_16 (by decide) (by (try simp only [xlit]); rw [nI_leI (by omega) (by omega)]; omega) ?_
        exact no (fun z => c1 z.1)
  refine x_iconst B 1 (v := (-1)) dX1_best_0 (by decide) rfl ?_
  refine x_istore3 B 2 dX1_best_1 rfl ?_
  refine x_iconst B 3 (v := 0) dX1_best_2 (by decide) rfl ?_
  refine x_istore4 B 5 dX1_best_3 rfl ?_
  exact loop 10 0 rfl none
theorem m_X1_owner (nm b : Nat) (Y : Nat → Option Nat) (hiv : iv 2 = nI nm) (hnm : nm ≤ 4) (hy : ∀ m, m < nm → yf m = oI (Y m)) (hY : ∀ m j, m < nm → Y m = some j → j < 8) (hu : ∀ m m', m < nm → m' < nm → Y m = some b → Y m' = some b → m = m') (hb : b < 8) : XC D yX1_owner (ws_ yX1_owner cX1_owner 3 (Option.some Jvm.ClassFile.FieldType.int)) 0 0 (0) (0) [.ref (sa 0), .int (nI b)] [cS0 h sa cov ev, cSI D sa 4 4 yf, cR h ad iv tg] (fun r cs' => r = some (.int (oI (hMan Y b nm))) ∧ cs' = [cS0 h sa cov ev, cSI D sa 4 4 yf, cR h ad iv tg]) x0 := by
  refine XC.of (by decide) (by simp [Value.category]) (Nat.le_of_ble_eq_true rfl) fun X B => ?_
  show WX D X [cS0 h sa cov ev, cSI D sa 4 4 yf, cR h ad iv tg] 0 0 0 [some (.ref (sa 0)), some (.int (nI b)), none] []
  have loop : ∀ (j m : Nat), m + j = nm → (∀ i, i < m → Y i ≠ some b) → WX D X [cS0 h sa cov ev, cSI D sa 4 4 yf, cR h ad iv tg] 0 0 2 [some (.ref (sa 0)), some (.int (nI b)), some (.int (nI m))] [] := by
    intro j
    induction j with
    | zero =>
      intro m hm h1
      obtain rfl : m = nm := by omega
      refine x_iload2 B 3 dX1_owner_2 rfl ?_
      refine x_aload0 B 4 dX1_owner_3 rfl (by first | rfl | exact xisR_rf _) ?_
      refine g_X1_3_X1 B 7 (by repeat (first | with_reducible exact xr_h | refine xr_t ?_)) dX1_owner_4 rfl ?_
      refine g_X1_52_X0 B 10 (by repeat (first | with_reducible exact xr_h | refine xr_t ?_)) dX1_owner_7 rfl ?_
      rw [hiv]
      refine x_icmp_ge_t B 31 dX1_owner_10 (by decide) (by (try simp only [xlit]); first | (rw [nI_leI (by omega) (by omega)]; omega) | (rw [nI_ltI (by omega) (by omega)]; omega) | (rw [nI_eq (by omega) (by omega)]; omega)) ?_
      refine x_iconst B 32 (v := (-1)) dX1_owner_31 (by decide) rfl ?_
      exact x_iret B rfl ⟨by rw [hMan_none m h1]; rfl, rfl⟩ dX1_owner_32 ⟨by first | omega | decide, by first | omega | decide⟩
    | succ j ih =>
      intro m hm h1
      have hm' : m < nm := by omega
      refine x_iload2 B 3 dX1_owner_2 rfl ?_
      refine x_aload0 B 4 dX1_owner_3 rfl (by first | rfl | exact xisR_rf _) ?_
      refine g_X1_3_X1 B 7 (by repeat (first | with_reducible exact xr_h | refine xr_t ?_)) dX1_owner_4 rfl ?_
      refine g_X1_52_X0 B 10 (by repeat (first | with_reducible exact xr_h | refine xr_t ?_)) dX1_owner_7 rfl ?_
      rw [hiv]
      refine x_icmp_ge_f (tp := 31) B 13 dX1_owner_10 (by decide) rfl (by (try simp only [xlit]); first | (rw [nI_leI (by omega) (by omega)]; omega) | (rw [nI_ltI (by omega) (by omega)]; omega) | (rw [nI_eq (by omega) (by omega)]; omega)) ?_
      refine x_aload0 B 14 dX1_owner_13 rfl (by first | rfl | exact xisR_rf _) ?_
      refine g_X1_27_X1 B 17 (by repeat (first | with_reducible exact xr_h | refine xr_t ?_)) dX1_owner_14 rfl ?_
      refine x_iload2 B 18 dX1_owner_17 rfl ?_
      refine x_ialdv B 19 (by repeat (first | with_reducible exact xr_h | refine xr_t ?_)) (j := m) (by first | (simp only [xlit, nI_add, pk_mul]; done) | rfl | (simp only [xlit, nI_add, pk_mul]; congr 1; omega)) ⟨by first | omega | decide, by first | decide | omega⟩ (hy m hm') dX1_owner_18 rfl ?_
      have e3 : oI (Y m) = nI b ↔ Y m = some b := oI_inj (z := some b) (fun c e => by have := hY m c hm' e; omega) (fun c e => by cases e; omega)
      by_cases c : Y m = some b
      · refine x_iload1 B 20 dX1_owner_19 rfl ?_
        refine x_icmp_ne_f (tp := 25) B 23 dX1_owner_20 (by decide) rfl (e3.mpr c) ?_
        refine x_iload2 B 24 dX1_owner_23 rfl ?_
        exact x_iret B rfl ⟨by rw [hMan_one nm hm' c (fun i hi hne e => hne (hu i m hi hm' e c))]; rfl, rfl⟩ dX1_owner_24 ⟨by first | omega | decide, by first | omega | decide⟩
      · refine x_iload1 B 20 dX1_owner_19 rfl ?_
        refine x_icmp_ne_t B 25 dX1_owner_20 (by decide) (fun z => c (e3.mp z)) ?_
        refine x_iinc2 B 28 dX1_owner_25 rfl (by first | exact xinc _ | rfl) ?_
        refine x_goto B 2 dX1_owner_28 (by decide) ?_
        refine ih (m + 1) (by omega) (fun i hi => ?_)
        rcases Nat.eq_or_lt_of_le (Nat.le_of_lt_succ hi) with q | q
        · subst q; exact c
        · exact h1 i q
  refine x_iconst B 1 (v := 0) dX1_owner_0 (by decide) rfl ?_
  refine x_istore2 B 2 dX1_owner_1 rfl ?_
  exact loop nm 0 (by omega) (fun i hi => by omega)
theorem m_X1_sit (nb nm m : Nat) (y : Option Nat) (S : HS) {kd : Nat → Nat} (hO : HOk nb nm kd S) (hiv : iv 2 = nI nm) (hy : ∀ m, m < nm → yf m = oI (S.2.2.2.1 m)) (hm : m < nm) (hyb : ∀ j, y = some j → j < nb) : XC D yX1_sit (ws_ yX1_sit cX1_sit 4 (Option.none : Option Jvm.ClassFile.FieldType)) 1 40 (0) (0) [.ref (sa 0), .int (nI m), .int (oI y)] [cS0 h sa cov ev, cSI D sa 4 4 yf, cR h ad iv tg] (fun r cs' => r = none ∧ ∃ yf', (∀ k, k < nm → yf' k = oI ((hSets S nm m y).2.2.2.1 k)) ∧ cs' = [cS0 h sa cov ev, cSI D sa 4 4 yf', cR h ad iv tg]) x0 := by
  refine XC.of (by decide) (by simp [Value.category]) (Nat.le_of_ble_eq_true rfl) fun X B => ?_
  show WX D X [cS0 h sa cov ev, cSI D sa 4 4 yf, cR h ad iv tg] 0 0 0 [some (.ref (sa 0)), some (.int (nI m)), some (.int (oI y)), none] []
  have hnb := hO.1
  have hnm := hO.2.1
  have eS : ∀ k, (hSets S nm m y).2.2.2.1 k = if k = m then y else (if k < nm ∧ y ≠ none ∧ S.2.2.2.1 k = y then none else S.2.2.2.1 k) := fun k => rfl
  have fin : ∀ yf1 a3, (∀ k, k < nm → k ≠ m → yf1 k = oI (if k < nm ∧ y ≠ none ∧ S.2.2.2.1 k = y then none else S.2.2.2.1 k)) → WX D X [cS0 h sa cov ev, cSI D sa 4 4 yf1, cR h ad iv tg] 0 0 27 [some (.ref (sa 0)), some (.int (nI m)), some (.int (oI y)), a3] [] := by
    intro yf1 a3 h1
    refine x_aload0 B 28 dX1_sit_27 rfl (by first | rfl | exact xisR_rf _) ?_
    refine g_X1_27_X1 B 31 (by repeat (first | with_reducible exact xr_h | refine xr_t ?_)) dX1_sit_28 rfl ?_
    refine x_iload1 B 32 dX1_sit_31 rfl ?_
    refine x_iload2 B 33 dX1_sit_32 rfl ?_
    refine x_iast B 34 (by repeat (first | with_reducible exact xu_h | apply xu_t)) (j := m) (by first | (simp only [xlit, nI_add, pk_mul]; done) | rfl | (simp only [xlit, nI_add, pk_mul]; congr 1; omega)) ⟨by first | omega | decide, by first | decide | omega⟩ dX1_sit_33 rfl ?_
    refine x_vret B rfl ⟨rfl, _, fun k hk => ?_, rfl⟩ dX1_sit_34 ⟨by first | omega | decide, by first | omega | decide⟩
    rw [eS]
    by_cases c : k = m
    · rw [if_pos c, c, pk_us]
    · rw [if_neg c, pk_un c]; exact h1 k hk c
  cases y with
  | none =>
    refine x_iload2 B 1 dX1_sit_0 rfl ?_
    refine x_iconst B 2 (v := (-1)) dX1_sit_1 (by decide) rfl ?_
    refine x_icmp_ne_f (tp := 9) B 5 dX1_sit_2 (by decide) rfl rfl ?_
    refine x_iconst B 6 (v := (-1)) dX1_sit_5 (by decide) rfl ?_
    refine x_goto B 14 dX1_sit_6 (by decide) ?_
    refine x_istore3 B 15 dX1_sit_14 rfl ?_
    refine x_iload3 B 16 dX1_sit_15 rfl ?_
    refine x_iconst B 17 (v := (-1)) dX1_sit_16 (by decide) rfl ?_
    refine x_icmp_eq_t B 27 dX1_sit_17 (by decide) rfl ?_
    exact fin yf _ (fun k hk _ => by rw [if_neg (fun z => z.2.1 rfl)]; exact hy k hk)
  | some b =>
    have hb := hyb b rfl
    refine x_iload2 B 1 dX1_sit_0 rfl ?_
    refine x_iconst B 2 (v := (-1)) dX1_sit_1 (by decide) rfl ?_
    refine x_icmp_ne_t B 9 dX1_sit_2 (by decide) (ne_m1 (by omega)) ?_
    refine x_aload0 B 10 dX1_sit_9 rfl (by first | rfl | exact xisR_rf _) ?_
    refine x_iload2 B 11 dX1_sit_10 rfl ?_
    refine x_callV B 14 (m_X1_owner nm b S.2.2.2.1 hiv hnm hy (fun m j hm e => by have := hO.2.2.2.2.2.2.1 m j hm e; omega) (fun m m' h1 h2 => hO.2.2.2.2.2.2.2.1 m m' b h1 h2) (by omega)) [0, 1, 2] rfl ⟨_, _, _, (by repeat (first | with_reducible exact xr_h | refine xr_t ?_)), rfl, rfl⟩ q1442 q1223 q1224 q89 q1225 hd_X1_owner (by decide) ⟨by first | decide | omega, by first | decide | omega⟩ ⟨by first | decide | omega, by first | decide | omega⟩ rfl (Nat.le_of_ble_eq_true rfl) dX1_sit_11 rfl (fun _ _ _ h => h.elim) ?_
    rintro _ _ ⟨rfl, rfl⟩
    try simp only [xst, xput, xpre, List.set_cons_zero, List.set_cons_succ]
    cases eo : hMan S.2.2.2.1 b nm with
    | none =>
      refine x_istore3 B 15 dX1_sit_14 rfl ?_
      refine x_iload3 B 16 dX1_sit_15 rfl ?_
      refine x_iconst B 17 (v := (-1)) dX1_sit_16 (by decide) rfl ?_
      refine x_icmp_eq_t B 27 dX1_sit_17 (by decide) rfl ?_
      refine fin yf _ (fun k hk _ => ?_)
      rw [hy k hk]
      by_cases c : S.2.2.2.1 k = some b
      · exfalso
        rw [hMan_one nm hk c (fun i hi hne e => hne (hO.2.2.2.2.2.2.2.1 i k b hi hk e c))] at eo
        cases eo
      · rw [if_neg (fun z => c z.2.2)]
    | some i =>
      have hi := hMan_lt eo
      have hYi : S.2.2.2.1 i = some b := by
        by_cases c : ∃ k, k < nm ∧ S.2.2.2.1 k = some b
        · obtain ⟨k, k1, k2⟩ := c
          rw [hMan_one nm k1 k2 (fun i hi hne e => hne (hO.2.2.2.2.2.2.2.1 i k b hi k1 e k2))] at eo
          cases eo; exact k2
        · rw [hMan_none nm (fun k hk e => c ⟨k, hk, e⟩)] at eo
          cases eo
      refine x_istore3 B 15 dX1_sit_14 rfl ?_
      refine x_iload3 B 16 dX1_sit_15 rfl ?_
      refine x_iconst B 17 (v := (-1)) dX1_sit_16 (by decide) rfl ?_
      refine x_icmp_eq_f (tp := 27) B 20 dX1_sit_17 (by decide) rfl (ne_m1 (by omega)) ?_
      refine x_aload0 B 21 dX1_sit_20 rfl (by first | rfl | exact xisR_rf _) ?_
      refine g_X1_27_X1 B 24 (by repeat (first | with_reducible exact xr_h | refine xr_t ?_)) dX1_sit_21 rfl ?_
      refine x_iload3 B 25 dX1_sit_24 rfl ?_
      refine x_iconst B 26 (v := (-1)) dX1_sit_25 (by decide) rfl ?_
      refine x_iast B 27 (by repeat (first | with_reducible exact xu_h | apply xu_t)) (j := i) (by first | (simp only [xlit, nI_add, pk_mul]; done) | rfl | (simp only [xlit, nI_add, pk_mul]; congr 1; omega)) ⟨by first | omega | decide, by first | decide | omega⟩ dX1_sit_26 rfl ?_
      refine fin _ _ (fun k hk hne => ?_)
      by_cases c : k = i
      · rw [c, pk_us, if_pos ⟨hi, by simp, hYi⟩]; rfl
      · rw [pk_un c, hy k hk, if_neg (fun z => c (hO.2.2.2.2.2.2.2.1 k i b hk hi z.2.2 hYi))]
end C3
