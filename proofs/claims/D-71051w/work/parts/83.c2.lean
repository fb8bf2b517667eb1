/-! THE COMPONENT, 3: a state, its small methods -/
section C2
variable {D : xG} {h : Nat} {ad sa sb : Nat → Nat} {iv : Nat → Int32} {tg : Option Nat} {kn kno : Nat → Nat → Int32} {pf hf yf pfo hfo yfo : Nat → Int32} {cov ev covo evo : Int32}
theorem m_X1_set (hf9 : CFit kno) : XC D yX1_set (ws_ yX1_set cX1_set 3 (Option.some (Jvm.ClassFile.FieldType.object "ParrotSpeech$State"))) 1 40 (0) (0) [.ref (sa 0), .ref (sb 0)] [cS0 h sa cov ev, cS1 D sa, cK D sa kn, cSI D sa 2 8 pf, cSI D sa 3 4 hf, cSI D sa 4 4 yf, cS0 h sb covo evo, cS1 D sb, cK D sb kno, cSI D sb 2 8 pfo, cSI D sb 3 4 hfo, cSI D sb 4 4 yfo] (fun r cs' => r = some (.ref (sa 0)) ∧ ∃ kn' pf' hf' yf', (∀ b w, b < 8 → w < 10 → kn' b w = kno b w) ∧ (∀ j, j < 8 → pf' j = pfo j) ∧ (∀ j, j < 4 → hf' j = hfo j) ∧ (∀ j, j < 4 → yf' j = yfo j) ∧ cs' = [cS0 h sa covo evo, cS1 D sa, cK D sa kn', cSI D sa 2 8 pf', cSI D sa 3 4 hf', cSI D sa 4 4 yf', cS0 h sb covo evo, cS1 D sb, cK D sb kno, cSI D sb 2 8 pfo, cSI D sb 3 4 hfo, cSI D sb 4 4 yfo]) x0 := by
  refine XC.of (by decide) (by simp [Value.category]) (Nat.le_of_ble_eq_true rfl) fun X B => ?_
  show WX D X [cS0 h sa cov ev, cS1 D sa, cK D sa kn, cSI D sa 2 8 pf, cSI D sa 3 4 hf, cSI D sa 4 4 yf, cS0 h sb covo evo, cS1 D sb, cK D sb kno, cSI D sb 2 8 pfo, cSI D sb 3 4 hfo, cSI D sb 4 4 yfo] 0 0 0 [some (.ref (sa 0)), some (.ref (sb 0)), none] []
  have cp : ∀ (f g : Nat → Int32) (n j : Nat), j < n → va_cpy f g 0 0 n j = f j := by
    intro f g n j hj
    rw [pk_cpy_in (Nat.zero_le _) (by omega)]
    congr 1; omega
  have loop : ∀ (m b : Nat), b + m = 8 → ∀ kn1, (∀ b' w, b' < b → w < 10 → kn1 b' w = kno b' w) → WX D X [cS0 h sa cov ev, cS1 D sa, cK D sa kn1, cSI D sa 2 8 pf, cSI D sa 3 4 hf, cSI D sa 4 4 yf, cS0 h sb covo evo, cS1 D sb, cK D sb kno, cSI D sb 2 8 pfo, cSI D sb 3 4 hfo, cSI D sb 4 4 yfo] 0 0 2 [some (.ref (sa 0)), some (.ref (sb 0)), some (.int (nI b))] [] := by
    intro m
    induction m with
    | zero =>
      intro b hb kn1 h1
      obtain rfl : b = 8 := by omega
      refine x_iload2 B 3 dX1_set_2 rfl ?_
      refine x_bipush B 5 (v := 8) dX1_set_3 (by decide) rfl ?_
      refine x_icmp_ge_t B 33 dX1_set_5 (by decide) (by (try simp only [xlit]); first | (rw [nI_leI (by omega) (by omega)]; omega) | (rw [nI_ltI (by omega) (by omega)]; omega) | (rw [nI_eq (by omega) (by omega)]; omega)) ?_
      refine x_aload1 B 34 dX1_set_33 rfl (by first | rfl | exact xisR_rf _) ?_
      refine g_X1_20_X1 B 37 (by repeat (first | with_reducible exact xr_h | refine xr_t ?_)) dX1_set_34 rfl ?_
      refine x_iconst B 38 (v := 0) dX1_set_37 (by decide) rfl ?_
      refine x_aload0 B 39 dX1_set_38 rfl (by first | rfl | exact xisR_rf _) ?_
      refine g_X1_20_X1 B 42 (by repeat (first | with_reducible exact xr_h | refine xr_t ?_)) dX1_set_39 rfl ?_
      refine x_iconst B 43 (v := 0) dX1_set_42 (by decide) rfl ?_
      refine x_bipush B 45 (v := 8) dX1_set_43 (by decide) rfl ?_
      refine x_acopy B 48 (t := 0) (n0 := 8) (n1 := 8) (i := 0) (j := 0) (m0 := 8) (f := pfo) rfl rfl (by repeat (first | with_reducible exact xm_h | apply xm_t)) (by repeat (first | with_reducible exact xu_h | apply xu_t)) rfl rfl rfl (by decide) (fun x _ => rfl) q200 (by decide) (Nat.le_of_ble_eq_true rfl) dX1_set_45 rfl ?_
      refine x_aload1 B 49 dX1_set_48 rfl (by first | rfl | exact xisR_rf _) ?_
      refine g_X1_24_X1 B 52 (by repeat (first | with_reducible exact xr_h | refine xr_t ?_)) dX1_set_49 rfl ?_
      refine x_iconst B 53 (v := 0) dX1_set_52 (by decide) rfl ?_
      refine x_aload0 B 54 dX1_set_53 rfl (by first | rfl | exact xisR_rf _) ?_
      refine g_X1_24_X1 B 57 (by repeat (first | with_reducible exact xr_h | refine xr_t ?_)) dX1_set_54 rfl ?_
      refine x_iconst B 58 (v := 0) dX1_set_57 (by decide) rfl ?_
      refine x_iconst B 59 (v := 4) dX1_set_58 (by decide) rfl ?_
      refine x_acopy B 62 (t := 0) (n0 := 4) (n1 := 4) (i := 0) (j := 0) (m0 := 4) (f := hfo) rfl rfl (by repeat (first | with_reducible exact xm_h | apply xm_t)) (by repeat (first | with_reducible exact xu_h | apply xu_t)) rfl rfl rfl (by decide) (fun x _ => rfl) q200 (by decide) (Nat.le_of_ble_eq_true rfl) dX1_set_59 rfl ?_
      refine x_aload1 B 63 dX1_set_62 rfl (by first | rfl | exact xisR_rf _) ?_
      refine g_X1_27_X1 B 66 (by repeat (first | with_reducible exact xr_h | refine xr_t ?_)) dX1_set_63 rfl ?_
      refine x_iconst B 67 (v := 0) dX1_set_66 (by decide) rfl ?_
      refine x_aload0 B 68 dX1_set_67 rfl (by first | rfl | exact xisR_rf _) ?_
      refine g_X1_27_X1 B 71 (by repeat (first | with_reducible exact xr_h | refine xr_t ?_)) dX1_set_68 rfl ?_
      refine x_iconst B 72 (v := 0) dX1_set_71 (by decide) rfl ?_
      refine x_iconst B 73 (v := 4) dX1_set_72 (by decide) rfl ?_
      refine x_acopy B 76 (t := 0) (n0 := 4) (n1 := 4) (i := 0) (j := 0) (m0 := 4) (f := yfo) rfl rfl (by repeat (first | with_reducible exact xm_h | apply xm_t)) (by repeat (first | with_reducible exact xu_h | apply xu_t)) rfl rfl rfl (by decide) (fun x _ => rfl) q200 (by decide) (Nat.le_of_ble_eq_true rfl) dX1_set_73 rfl ?_
      refine x_aload0 B 77 dX1_set_76 rfl (by first | rfl | exact xisR_rf _) ?_
      refine x_aload1 B 78 dX1_set_77 rfl (by first | rfl | exact xisR_rf _) ?_
      refine g_X1_36_X1 B 81 (by repeat (first | with_reducible exact xr_h | refine xr_t ?_)) dX1_set_78 rfl ?_
      refine s_X1_36_X1 B 84 (by repeat (first | with_reducible exact xu_h | apply xu_t)) dX1_set_81 rfl ?_
      refine x_aload0 B 85 dX1_set_84 rfl (by first | rfl | exact xisR_rf _) ?_
      refine x_aload1 B 86 dX1_set_85 rfl (by first | rfl | exact xisR_rf _) ?_
      refine g_X1_40_X1 B 89 (by repeat (first | with_reducible exact xr_h | refine xr_t ?_)) dX1_set_86 rfl ?_
      refine s_X1_40_X1 B 92 (by repeat (first | with_reducible exact xu_h | apply xu_t)) dX1_set_89 rfl ?_
      refine x_aload0 B 93 dX1_set_92 rfl (by first | rfl | exact xisR_rf _) ?_
      exact x_aret B rfl rfl (by first | rfl | exact xisR_rf _) ⟨rfl, kn1, _, _, _, h1, fun j hj => cp pfo pf 8 j hj, fun j hj => cp hfo hf 4 j hj, fun j hj => cp yfo yf 4 j hj, rfl⟩ dX1_set_93 ⟨by first | omega | decide, by first | omega | decide⟩
    | succ m ih =>
      intro b hb kn1 h1
      have hb8 : b < 8 := by omega
      refine x_iload2 B 3 dX1_set_2 rfl ?_
      refine x_bipush B 5 (v := 8) dX1_set_3 (by decide) rfl ?_
      refine x_icmp_ge_f (tp := 33) B 8 dX1_set_5 (by decide) rfl (by (try simp only [xlit]); first | (rw [nI_leI (by omega) (by omega)]; omega) | (rw [nI_ltI (by omega) (by omega)]; omega) | (rw [nI_eq (by omega) (by omega)]; omega)) ?_
      refine x_aload1 B 9 dX1_set_8 rfl (by first | rfl | exact xisR_rf _) ?_
      refine g_X1_17_X1 B 12 (by repeat (first | with_reducible exact xr_h | refine xr_t ?_)) dX1_set_9 rfl ?_
      refine x_iload2 B 13 dX1_set_12 rfl ?_
      refine x_aalds B 14 (f := (fun b => some (sb (5 + b)))) (t0 := 4) rfl rfl (by repeat (first | with_reducible exact xr_h | refine xr_t ?_)) (j := b) (by first | (simp only [xlit, nI_add, pk_mul]; done) | rfl | (simp only [xlit, nI_add, pk_mul]; congr 1; omega)) ⟨by first | omega | decide, by first | decide | omega⟩ rfl dX1_set_13 rfl ?_
      refine x_iconst B 15 (v := 0) dX1_set_14 (by decide) rfl ?_
      refine x_aload0 B 16 dX1_set_15 rfl (by first | rfl | exact xisR_rf _) ?_
      refine g_X1_17_X1 B 19 (by repeat (first | with_reducible exact xr_h | refine xr_t ?_)) dX1_set_16 rfl ?_
      refine x_iload2 B 20 dX1_set_19 rfl ?_
      refine x_aalds B 21 (f := (fun b => some (sa (5 + b)))) (t0 := 4) rfl rfl (by repeat (first | with_reducible exact xr_h | refine xr_t ?_)) (j := b) (by first | (simp only [xlit, nI_add, pk_mul]; done) | rfl | (simp only [xlit, nI_add, pk_mul]; congr 1; omega)) ⟨by first | omega | decide, by first | decide | omega⟩ rfl dX1_set_20 rfl ?_
      refine x_iconst B 22 (v := 0) dX1_set_21 (by decide) rfl ?_
      refine x_bipush B 24 (v := 10) dX1_set_22 (by decide) rfl ?_
      refine x_acopy B 27 (t := 1) (n0 := 10) (n1 := 10) (i := 0) (j := 0) (m0 := 10) (f := kno b) rfl rfl (by repeat (first | exact xm_m (cK_get hb8) | apply xm_t)) (by repeat (first | exact xu_m (cK_set hb8 _) | apply xu_t)) rfl rfl rfl (by decide) (fun x hx => by obtain ⟨v, v1, v2⟩ := hf9 b (0 + x) hb8 (by omega); rw [v2]; exact fit9 v v1) q200 (by decide) (Nat.le_of_ble_eq_true rfl) dX1_set_24 rfl ?_
      refine x_iinc2 B 30 dX1_set_27 rfl (by first | exact xinc _ | rfl) ?_
      refine x_goto B 2 dX1_set_30 (by decide) ?_
      refine ih (b + 1) (by omega) _ (fun b' w hb' hw => ?_)
      unfold fUp
      by_cases c : b' = b
      · rw [if_pos c, c, cp _ _ 10 w hw]
      · rw [if_neg c]; exact h1 b' w (by omega) hw
  refine x_iconst B 1 (v := 0) dX1_set_0 (by decide) rfl ?_
  refine x_istore2 B 2 dX1_set_1 rfl ?_
  exact loop 8 0 rfl kn (fun b' w hb' => by omega)
theorem m_X1_gains (b w v m : Nat) (hb : b < 8) (hw : w < 10) (hk : kn b w = nI v) (hv : v ≤ 9) (hm : m ≤ 9) : XC D yX1_gains (ws_ yX1_gains cX1_gains 4 (Option.none : Option Jvm.ClassFile.FieldType)) 1 40 (0) (0) [.ref (sa 0), .int (nI b), .int (nI w), .int (nI m)] [cS0 h sa cov ev, cS1 D sa, cK D sa kn] (fun r cs' => r = none ∧ cs' = [cS0 h sa cov ev, cS1 D sa, cK D sa (fUp kn b (upd (kn b) w (nI (if 9 < v + m then 9 else v + m))))]) x0 := by
  refine XC.of (by decide) (by simp [Value.category]) (Nat.le_of_ble_eq_true rfl) fun X B => ?_
  show WX D X [cS0 h sa cov ev, cS1 D sa, cK D sa kn] 0 0 0 [some (.ref (sa 0)), some (.int (nI b)), some (.int (nI w)), some (.int (nI m))] []
  have hz : (if 9 < v + m then 9 else v + m) ≤ 9 := by split <;> omega
  refine x_aload0 B 1 dX1_gains_0 rfl (by first | rfl | exact xisR_rf _) ?_
  refine g_X1_17_X1 B 4 (by repeat (first | with_reducible exact xr_h | refine xr_t ?_)) dX1_gains_1 rfl ?_
  refine x_iload1 B 5 dX1_gains_4 rfl ?_
  refine x_aalds B 6 (f := (fun b => some (sa (5 + b)))) (t0 := 4) rfl rfl (by repeat (first | with_reducible exact xr_h | refine xr_t ?_)) (j := b) (by first | (simp only [xlit, nI_add, pk_mul]; done) | rfl | (simp only [xlit, nI_add, pk_mul]; congr 1; omega)) ⟨by first | omega | decide, by first | decide | omega⟩ rfl dX1_gains_5 rfl ?_
  refine x_iload2 B 7 dX1_gains_6 rfl ?_
  refine x_bipush B 9 (v := 9) dX1_gains_7 (by decide) rfl ?_
  refine x_aload0 B 10 dX1_gains_9 rfl (by first | rfl | exact xisR_rf _) ?_
  refine g_X1_17_X1 B 13 (by repeat (first | with_reducible exact xr_h | refine xr_t ?_)) dX1_gains_10 rfl ?_
  refine x_iload1 B 14 dX1_gains_13 rfl ?_
  refine x_aalds B 15 (f := (fun b => some (sa (5 + b)))) (t0 := 4) rfl rfl (by repeat (first | with_reducible exact xr_h | refine xr_t ?_)) (j := b) (by first | (simp only [xlit, nI_add, pk_mul]; done) | rfl | (simp only [xlit, nI_add, pk_mul]; congr 1; omega)) ⟨by first | omega | decide, by first | decide | omega⟩ rfl dX1_gains_14 rfl ?_
  refine x_iload2 B 16 dX1_gains_15 rfl ?_
  refine x_baldv B 17 (by repeat (first | exact xr_m (cK_get hb) | apply xr_t)) (j := w) (by first | (simp only [xlit, nI_add, pk_mul]; done) | rfl | (simp only [xlit, nI_add, pk_mul]; congr 1; omega)) ⟨by first | omega | decide, by first | decide | omega⟩ hk dX1_gains_16 rfl ?_
  refine x_iload3 B 18 dX1_gains_17 rfl ?_
  refine x_iadd B 19 dX1_gains_18 rfl ?_
  rw [nI_add]
  refine x_mmin B 22 q1308 (by decide) (Nat.le_of_ble_eq_true rfl) (by decide) dX1_gains_19 rfl ?_
  rw [show (if nI (v + m) < 9 then nI (v + m) else 9) = nI (if 9 < v + m then 9 else v + m) by
    by_cases c : 9 < v + m
    · rw [if_pos c, if_neg (by rw [show (9 : Int32) = nI 9 from rfl, nI_ltI (by omega) (by omega)]; omega)]; rfl
    · rw [if_neg c]
      by_cases c2 : v + m = 9
      · rw [if_neg (by rw [show (9 : Int32) = nI 9 from rfl, nI_ltI (by omega) (by omega)]; omega), c2]; rfl
      · rw [if_pos (by rw [show (9 : Int32) = nI 9 from rfl, nI_ltI (by omega) (by omega)]; omega)]]
  refine x_i2b B 23 dX1_gains_22 rfl ?_
  rw [cut9 _ hz]
  refine x_bast B 24 (by repeat (first | exact xu_m (cK_set hb _) | apply xu_t)) (j := w) (by first | (simp only [xlit, nI_add, pk_mul]; done) | rfl | (simp only [xlit, nI_add, pk_mul]; congr 1; omega)) ⟨by first | omega | decide, by first | decide | omega⟩ (nar9 _ hz) dX1_gains_23 rfl ?_
  exact x_vret B rfl ⟨rfl, rfl⟩ dX1_gains_24 ⟨by first | omega | decide, by first | omega | decide⟩
theorem m_X1_isUp (b p C P : Nat) (hb : b < 8) (hp : p < 4) (hP : P < 4) (hC : C < 256) (h1 : pf b = nI P) (h2 : cov = nI C) : XC D yX1_isUp (ws_ yX1_isUp cX1_isUp 3 (Option.some Jvm.ClassFile.FieldType.boolean)) 1 40 (0) (0) [.ref (sa 0), .int (nI b), .int (nI p)] [cS0 h sa cov ev, cSI D sa 2 8 pf] (fun r cs' => r = some (.int (bI (decide (P = p) && !C.testBit b))) ∧ cs' = [cS0 h sa cov ev, cSI D sa 2 8 pf]) x0 := by
  refine XC.of (by decide) (by simp [Value.category]) (Nat.le_of_ble_eq_true rfl) fun X B => ?_
  show WX D X [cS0 h sa cov ev, cSI D sa 2 8 pf] 0 0 0 [some (.ref (sa 0)), some (.int (nI b)), some (.int (nI p))] []
  subst h2
  refine x_aload0 B 1 dX1_isUp_0 rfl (by first | rfl | exact xisR_rf _) ?_
  refine g_X1_20_X1 B 4 (by repeat (first | with_reducible exact xr_h | refine xr_t ?_)) dX1_isUp_1 rfl ?_
  refine x_iload1 B 5 dX1_isUp_4 rfl ?_
  refine x_ialdv B 6 (by repeat (first | with_reducible exact xr_h | refine xr_t ?_)) (j := b) (by first | (simp only [xlit, nI_add, pk_mul]; done) | rfl | (simp only [xlit, nI_add, pk_mul]; congr 1; omega)) ⟨by first | omega | decide, by first | decide | omega⟩ h1 dX1_isUp_5 rfl ?_
  by_cases c : P = p
  · refine x_iload2 B 7 dX1_isUp_6 rfl ?_
    refine x_icmp_ne_f (tp := 25) B 10 dX1_isUp_7 (by decide) rfl (by (try simp only [xlit]); first | (rw [nI_leI (by omega) (by omega)]; omega) | (rw [nI_ltI (by omega) (by omega)]; omega) | (rw [nI_eq (by omega) (by omega)]; omega)) ?_
    refine x_aload0 B 11 dX1_isUp_10 rfl (by first | rfl | exact xisR_rf _) ?_
    refine g_X1_36_X1 B 14 (by repeat (first | with_reducible exact xr_h | refine xr_t ?_)) dX1_isUp_11 rfl ?_
    refine x_iload1 B 15 dX1_isUp_14 rfl ?_
    refine x_callSN B 18 (m_X0_has _ _) [] rfl q1259 q1260 q88 q1261 hd_X0_has rfl ⟨by first | decide | omega, by first | decide | omega⟩ ⟨by first | decide | omega, by first | decide | omega⟩ rfl (Nat.le_of_ble_eq_true rfl) dX1_isUp_15 rfl (fun _ _ _ h => h.elim) ?_
    rintro _ _ ⟨rfl, rfl⟩
    try simp only [xst, xput, xpre, List.set_cons_zero, List.set_cons_succ]
    rw [xhas_bit (by omega) (by omega)]
    cases c2 : C.testBit b with
    | true =>
      rw [if_pos rfl]
      refine x_if_ne_t B 25 dX1_isUp_18 (by decide) (by decide) ?_
      refine x_iconst B 26 (v := 0) dX1_isUp_25 (by decide) rfl ?_
      exact x_zret B rfl ⟨by rw [c2]; simp [bI], rfl⟩ dX1_isUp_26 ⟨by first | omega | decide, by first | omega | decide⟩ (by first | exact Or.inl rfl | exact Or.inr rfl | exact x_in01 _ _ _ | exact x_has01 _ _ | exact bI01 _ | assumption)
    | false =>
      rw [if_neg (by simp)]
      refine x_if_ne_f (tp := 25) B 21 dX1_isUp_18 (by decide) rfl rfl ?_
      refine x_iconst B 22 (v := 1) dX1_isUp_21 (by decide) rfl ?_
      refine x_goto B 26 dX1_isUp_22 (by decide) ?_
      exact x_zret B rfl ⟨by rw [c2, decide_eq_true c]; rfl, rfl⟩ dX1_isUp_26 ⟨by first | omega | decide, by first | omega | decide⟩ (by first | exact Or.inl rfl | exact Or.inr rfl | exact x_in01 _ _ _ | exact x_has01 _ _ | exact bI01 _ | assumption)
  · refine x_iload2 B 7 dX1_isUp_6 rfl ?_
    refine x_icmp_ne_t B 25 dX1_isUp_7 (by decide) (by (try simp only [xlit]); first | (rw [nI_leI (by omega) (by omega)]; omega) | (rw [nI_ltI (by omega) (by omega)]; omega) | (rw [nI_eq (by omega) (by omega)]; omega)) ?_
    refine x_iconst B 26 (v := 0) dX1_isUp_25 (by decide) rfl ?_
    exact x_zret B rfl ⟨by rw [decide_eq_false c]; rfl, rfl⟩ dX1_isUp_26 ⟨by first | omega | decide, by first | omega | decide⟩ (by first | exact Or.inl rfl | exact Or.inr rfl | exact x_in01 _ _ _ | exact x_has01 _ _ | exact bI01 _ | assumption)
end C2
