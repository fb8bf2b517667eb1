/-! the twin, 14: clauses -/
section T14
variable {D : xG} {h : Nat} {ad : Nat → Nat} {iv row zk tx rb : Nat → Int32} {T : List Nat} {tk : Nat × Nat} {X0 : HT} {d : Bool}
theorem m_X2_readsBird (hT : TTx tx iv T) (hk : TTok iv T tk) (hX : HXk X0) (hR : TRs iv rb X0 d) (hD : d = true → TTo row X0) (k : Nat) (hk4 : k ≤ 4) : XC D yX2_readsBird (ws_ yX2_readsBird cX2_readsBird 3 (Option.some Jvm.ClassFile.FieldType.boolean)) 4 160 (0) (0) [.ref h, .int (nI k)] [tR D h ad iv, tI D ad 3 200 tx, tI D ad 0 1404 row, tI D ad 20 4 rb] (fun r cs' => ∃ iv' row' rb', I4 P4 iv iv' ∧ TS 108 216 row row' ∧ (d = false → row' = row) ∧ TOut (hcBird T tk X0 k) T X0 d r iv' row' rb' ∧ cs' = [tR D h ad iv', tI D ad 3 200 tx, tI D ad 0 1404 row', tI D ad 20 4 rb']) x0 := by
  refine XC.of (by decide) (by simp [Value.category]) (Nat.le_of_ble_eq_true rfl) fun X B => ?_
  show WX D X [tR D h ad iv, tI D ad 3 200 tx, tI D ad 0 1404 row, tI D ad 20 4 rb] 0 0 0 [some (.ref h), some (.int (nI k)), none] []
  have hnb := hX.1.1
  have hnm := hX.1.2.1
  generalize ho : hcBird T tk X0 k = o at B
  unfold hcBird at ho
  refine x_aload0 B 1 dX2_readsBird_0 rfl (by first | rfl | exact xisR_rf _) ?_
  refine g_X2_149_X2 B 4 (by repeat (first | with_reducible exact xr_h | refine xr_t ?_)) dX2_readsBird_1 rfl ?_
  rw [hR.1]
  by_cases c : X0.1 = 8
  · rw [if_pos c] at ho; subst ho
    refine x_bipush B 6 (v := 8) dX2_readsBird_4 (by decide) rfl ?_
    refine x_icmp_ne_f (tp := 11) B 9 dX2_readsBird_6 (by decide) rfl (by (try simp only [xlit]); first | (rw [nI_leI (by omega) (by omega)]; omega) | (rw [nI_ltI (by omega) (by omega)]; omega) | (rw [nI_eq (by omega) (by omega)]; omega)) ?_
    refine x_iconst B 10 (v := 0) dX2_readsBird_9 (by decide) rfl ?_
    exact x_zret B rfl ⟨iv, row, rb, I4.rf, TS.rf, fun _ => rfl, ⟨rfl, hk.1⟩, rfl⟩ dX2_readsBird_10 ⟨by first | omega | decide, by first | omega | decide⟩ (by first | exact Or.inl rfl | exact Or.inr rfl | exact x_in01 _ _ _ | exact x_has01 _ _ | exact bI01 _ | assumption)
  rw [if_neg c] at ho
  refine x_bipush B 6 (v := 8) dX2_readsBird_4 (by decide) rfl ?_
  refine x_icmp_ne_t B 11 dX2_readsBird_6 (by decide) (by (try simp only [xlit]); first | (rw [nI_leI (by omega) (by omega)]; omega) | (rw [nI_ltI (by omega) (by omega)]; omega) | (rw [nI_eq (by omega) (by omega)]; omega)) ?_
  refine x_aload0 B 12 dX2_readsBird_11 rfl (by first | rfl | exact xisR_rf _) ?_
  refine x_callV B 15 (m_X2_nextToken hT tk.2 hk.2.2.2.1 hk.2.1) [0, 1] rfl ⟨_, _, _, (by repeat (first | with_reducible exact xr_h | refine xr_t ?_)), rfl, rfl⟩ q1884 q1886 qs41 q92 q1887 hd_X2_nextToken (by decide) ⟨by first | decide | omega, by first | decide | omega⟩ ⟨by first | decide | omega, by first | decide | omega⟩ rfl (Nat.le_of_ble_eq_true rfl) dX2_readsBird_12 rfl (fun _ _ _ h => h.elim) ?_
  rintro _ _ ⟨rfl, iv2, k2, I2, rfl⟩
  try simp only [xst, xput, xpre, List.set_cons_zero, List.set_cons_succ]
  refine x_aload0 B 16 dX2_readsBird_15 rfl (by first | rfl | exact xisR_rf _) ?_
  refine x_iconst B 17 (v := 4) dX2_readsBird_16 (by decide) rfl ?_
  refine x_callV B 20 (m_X2_number (hT.i4 I2.p4) k2 4 (by omega)) [0, 1] rfl ⟨_, _, _, (by repeat (first | with_reducible exact xr_h | refine xr_t ?_)), rfl, rfl⟩ q1914 q1916 qs46 q92 q1917 hd_X2_number (by decide) ⟨by first | decide | omega, by first | decide | omega⟩ ⟨by first | decide | omega, by first | decide | omega⟩ rfl (Nat.le_of_ble_eq_true rfl) dX2_readsBird_17 rfl (fun _ _ _ h => h.elim) ?_
  rintro _ _ ⟨rfl, iv3, k3, I3, rfl⟩
  try simp only [xst, xput, xpre, List.set_cons_zero, List.set_cons_succ]
  have hR3 := (hR.i4 I2).i4 I3
  have I23 := I2.trans I3
  cases e : hNum T (hTok T tk.2) 4 with
  | none =>
    rw [if_pos e] at k3
    rw [e] at ho; dsimp only at ho; subst ho
    refine x_istore2 B 21 dX2_readsBird_20 rfl ?_
    refine x_iload2 B 22 dX2_readsBird_21 rfl ?_
    refine x_iconst B 23 (v := (-1)) dX2_readsBird_22 (by decide) rfl ?_
    refine x_icmp_ne_f (tp := 28) B 26 dX2_readsBird_23 (by decide) rfl rfl ?_
    refine x_iconst B 27 (v := 0) dX2_readsBird_26 (by decide) rfl ?_
    exact x_zret B rfl ⟨iv3, row, rb, I23.p4, TS.rf, fun _ => rfl, ⟨rfl, k3.1⟩, rfl⟩ dX2_readsBird_27 ⟨by first | omega | decide, by first | omega | decide⟩ (by first | exact Or.inl rfl | exact Or.inr rfl | exact x_in01 _ _ _ | exact x_has01 _ _ | exact bI01 _ | assumption)
  | some p =>
    have hp := hNum_lt e
    rw [if_neg (by rw [e]; simp)] at k3
    rw [e] at ho; dsimp only at ho; subst ho
    rw [show oI (some p) = nI p from rfl]
    have hck : HCk X0 (k, p, 0, 0) := Or.inl ⟨hk4, by omega, hp.1⟩
    have et : tellC X0 (k, p, 0, 0) = (X0.1 + 1, X0.2.1, fUp X0.2.2.1 X0.1 k, (fun b w => if b = X0.1 then 0 else X0.2.2.2.1 b w), fUp X0.2.2.2.2.1 X0.1 p, X0.2.2.2.2.2) := by
      unfold tellC; dsimp only; rw [if_neg (by omega), if_neg (by omega), if_neg (by omega), if_neg (by omega), if_neg (by omega)]
    have fin : ∀ row', TS 108 216 row row' → (d = false → row' = row) → (d = true → TTo row' (tellC X0 (k, p, 0, 0))) → WX D X [tR D h ad iv3, tI D ad 3 200 tx, tI D ad 0 1404 row', tI D ad 20 4 rb] 0 0 72 [some (.ref h), some (.int (nI k)), some (.int (nI p))] [] := by
      intro row' h1 h2 h3
      refine x_aload0 B 73 dX2_readsBird_72 rfl (by first | rfl | exact xisR_rf _) ?_
      refine x_dup B 74 dX2_readsBird_73 rfl rfl ?_
      refine g_X2_149_X2 B 77 (by repeat (first | with_reducible exact xr_h | refine xr_t ?_)) dX2_readsBird_74 rfl ?_
      rw [hR3.1]
      refine x_iconst B 78 (v := 1) dX2_readsBird_77 (by decide) rfl ?_
      refine x_iadd B 79 dX2_readsBird_78 rfl ?_
      rw [show nI X0.1 + 1 = nI (X0.1 + 1) from nI_1 _]
      refine s_X2_149_X2 B 82 (by repeat (first | with_reducible exact xu_h | apply xu_t)) dX2_readsBird_79 rfl ?_
      refine x_iconst B 83 (v := 1) dX2_readsBird_82 (by decide) rfl ?_
      exact x_zret B rfl ⟨_, row', rb, I23.p4.upd (Or.inr (Or.inr (Or.inl rfl))), h1, h2, ⟨rfl, ⟨by rw [pk_un (by omega)]; exact k3.1, by rw [pk_un (by omega)]; exact k3.2.1, k3.2.2⟩, by rw [et]; exact ⟨pk_us, by rw [pk_un (by omega)]; exact hR3.2.1, hR3.2.2.1, by rw [pk_un (by omega)]; exact hR3.2.2.2⟩, h3, hck⟩, rfl⟩ dX2_readsBird_83 ⟨by first | omega | decide, by first | omega | decide⟩ (by first | exact Or.inl rfl | exact Or.inr rfl | exact x_in01 _ _ _ | exact x_has01 _ _ | exact bI01 _ | assumption)
    refine x_istore2 B 21 dX2_readsBird_20 rfl ?_
    refine x_iload2 B 22 dX2_readsBird_21 rfl ?_
    refine x_iconst B 23 (v := (-1)) dX2_readsBird_22 (by decide) rfl ?_
    refine x_icmp_ne_t B 28 dX2_readsBird_23 (by decide) (ne_m1 (by omega)) ?_
    refine x_aload0 B 29 dX2_readsBird_28 rfl (by first | rfl | exact xisR_rf _) ?_
    refine g_X2_155_X2 B 32 (by repeat (first | with_reducible exact xr_h | refine xr_t ?_)) dX2_readsBird_29 rfl ?_
    rw [hR3.2.2.2]
    cases hd : d with
    | false =>
      refine x_if_eq_t B 72 dX2_readsBird_32 (by decide) rfl ?_
      exact fin row TS.rf (fun _ => rfl) (fun z => by rw [hd] at z; cases z)
    | true =>
      have hTo := hD hd
      refine x_if_eq_f (tp := 72) B 35 dX2_readsBird_32 (by decide) rfl (by decide) ?_
      refine x_aload0 B 36 dX2_readsBird_35 rfl (by first | rfl | exact xisR_rf _) ?_
      refine g_X2_7_X2 B 39 (by repeat (first | with_reducible exact xr_h | refine xr_t ?_)) dX2_readsBird_36 rfl ?_
      refine x_bipush B 41 (v := 112) dX2_readsBird_39 (by decide) rfl ?_
      refine x_aload0 B 42 dX2_readsBird_41 rfl (by first | rfl | exact xisR_rf _) ?_
      refine g_X2_149_X2 B 45 (by repeat (first | with_reducible exact xr_h | refine xr_t ?_)) dX2_readsBird_42 rfl ?_
      rw [hR3.1]
      refine x_iadd B 46 dX2_readsBird_45 rfl ?_
      refine x_iload1 B 47 dX2_readsBird_46 rfl ?_
      refine x_iast B 48 (by repeat (first | with_reducible exact xu_h | apply xu_t)) (j := 108 + 4 + X0.1) (by first | (simp only [xlit, nI_add, pk_mul]; done) | rfl | (simp only [xlit, nI_add, pk_mul]; congr 1; omega)) ⟨by first | omega | decide, by first | decide | omega⟩ dX2_readsBird_47 rfl ?_
      refine x_aload0 B 49 dX2_readsBird_48 rfl (by first | rfl | exact xisR_rf _) ?_
      refine g_X2_7_X2 B 52 (by repeat (first | with_reducible exact xr_h | refine xr_t ?_)) dX2_readsBird_49 rfl ?_
      refine x_bipush B 54 (v := 120) dX2_readsBird_52 (by decide) rfl ?_
      refine x_aload0 B 55 dX2_readsBird_54 rfl (by first | rfl | exact xisR_rf _) ?_
      refine g_X2_149_X2 B 58 (by repeat (first | with_reducible exact xr_h | refine xr_t ?_)) dX2_readsBird_55 rfl ?_
      rw [hR3.1]
      refine x_iadd B 59 dX2_readsBird_58 rfl ?_
      refine x_iload2 B 60 dX2_readsBird_59 rfl ?_
      refine x_iast B 61 (by repeat (first | with_reducible exact xu_h | apply xu_t)) (j := 108 + 12 + X0.1) (by first | (simp only [xlit, nI_add, pk_mul]; done) | rfl | (simp only [xlit, nI_add, pk_mul]; congr 1; omega)) ⟨by first | omega | decide, by first | decide | omega⟩ dX2_readsBird_60 rfl ?_
      refine x_aload0 B 62 dX2_readsBird_61 rfl (by first | rfl | exact xisR_rf _) ?_
      refine g_X2_7_X2 B 65 (by repeat (first | with_reducible exact xr_h | refine xr_t ?_)) dX2_readsBird_62 rfl ?_
      refine x_bipush B 67 (v := 108) dX2_readsBird_65 (by decide) rfl ?_
      refine x_dup2 B 68 dX2_readsBird_67 rfl rfl rfl ?_
      refine x_ialdv B 69 (by repeat (first | with_reducible exact xr_h | refine xr_t ?_)) (j := 108) (by first | (simp only [xlit, nI_add, pk_mul]; done) | rfl | (simp only [xlit, nI_add, pk_mul]; congr 1; omega)) ⟨by first | omega | decide, by first | decide | omega⟩ (show upd (upd row (108 + 4 + X0.1) (nI k)) (108 + 12 + X0.1) (nI p) 108 = nI X0.1 from by rw [pk_un (by omega), pk_un (by omega)]; exact hTo.1.1) dX2_readsBird_68 rfl ?_
      refine x_iconst B 70 (v := 1) dX2_readsBird_69 (by decide) rfl ?_
      refine x_iadd B 71 dX2_readsBird_70 rfl ?_
      rw [show nI X0.1 + 1 = nI (X0.1 + 1) from nI_1 _]
      refine x_iast B 72 (by repeat (first | with_reducible exact xu_h | apply xu_t)) (j := 108) (by first | (simp only [xlit, nI_add, pk_mul]; done) | rfl | (simp only [xlit, nI_add, pk_mul]; congr 1; omega)) ⟨by first | omega | decide, by first | decide | omega⟩ dX2_readsBird_71 rfl ?_
      refine fin _ (((TS.rf.upd (by omega) (by omega)).upd (by omega) (by omega)).upd (by omega) (by omega)) (fun z => by rw [hd] at z; cases z) (fun _ => ?_)
      rw [et]
      obtain ⟨⟨g1, g2, g3, g4, g5, g6, g7, g8, g9⟩, gz⟩ := hTo
      refine ⟨⟨pk_us, by rw [pk_un (by omega), pk_un (by omega), pk_un (by omega)]; exact g2, by rw [pk_un (by omega), pk_un (by omega), pk_un (by omega)]; exact g3, by rw [pk_un (by omega), pk_un (by omega), pk_un (by omega)]; exact g4, fun b hb => ?_, fun b hb => ?_, fun b w hb hw => ?_, fun m hm => by rw [pk_un (by omega), pk_un (by omega), pk_un (by omega)]; exact g8 m hm, fun m hm => by rw [pk_un (by omega), pk_un (by omega), pk_un (by omega)]; exact g9 m hm⟩, fun b w h1 h2 h3 => ?_⟩
      · have hb : b < X0.1 + 1 := hb
        show _ = nI (fUp X0.2.2.1 X0.1 k b)
        unfold fUp
        rw [pk_un (by omega), pk_un (by omega)]
        by_cases q : b = X0.1
        · subst q; rw [pk_us, if_pos rfl]
        · rw [pk_un (by omega), if_neg q]; exact g5 b (by omega)
      · have hb : b < X0.1 + 1 := hb
        show _ = nI (fUp X0.2.2.2.2.1 X0.1 p b)
        unfold fUp
        rw [pk_un (by omega)]
        by_cases q : b = X0.1
        · subst q; rw [pk_us, if_pos rfl]
        · rw [pk_un (by omega), pk_un (by omega), if_neg q]; exact g6 b (by omega)
      · have hb : b < X0.1 + 1 := hb
        show _ = nI (if b = X0.1 then 0 else X0.2.2.2.1 b w)
        rw [pk_un (by omega), pk_un (by omega), pk_un (by omega)]
        by_cases q : b = X0.1
        · rw [if_pos q]; exact gz b w (by omega) (by omega) hw
        · rw [if_neg q]; exact g7 b w (by omega) hw
      · have h1 : X0.1 + 1 ≤ b := h1
        rw [pk_un (by omega), pk_un (by omega), pk_un (by omega)]
        exact gz b w (by omega) h2 h3
theorem m_X2_readsMan (hT : TTx tx iv T) (hk : TTok iv T tk) (hX : HXk X0) (hR : TRs iv rb X0 d) (hD : d = true → TTo row X0) : XC D yX2_readsMan (ws_ yX2_readsMan cX2_readsMan 2 (Option.some Jvm.ClassFile.FieldType.boolean)) 4 160 (0) (0) [.ref h] [tR D h ad iv, tI D ad 3 200 tx, tI D ad 0 1404 row, tI D ad 20 4 rb] (fun r cs' => ∃ iv' row' rb', I4 P4 iv iv' ∧ TS 108 216 row row' ∧ (d = false → row' = row) ∧ TOut (hcMan T tk X0) T X0 d r iv' row' rb' ∧ cs' = [tR D h ad iv', tI D ad 3 200 tx, tI D ad 0 1404 row', tI D ad 20 4 rb']) x0 := by
  refine XC.of (by decide) (by simp [Value.category]) (Nat.le_of_ble_eq_true rfl) fun X B => ?_
  show WX D X [tR D h ad iv, tI D ad 3 200 tx, tI D ad 0 1404 row, tI D ad 20 4 rb] 0 0 0 [some (.ref h), none] []
  have hnb := hX.1.1
  have hnm := hX.1.2.1
  generalize ho : hcMan T tk X0 = o at B
  unfold hcMan at ho
  refine x_aload0 B 1 dX2_readsMan_0 rfl (by first | rfl | exact xisR_rf _) ?_
  refine g_X2_159_X2 B 4 (by repeat (first | with_reducible exact xr_h | refine xr_t ?_)) dX2_readsMan_1 rfl ?_
  rw [hR.2.1]
  by_cases c : X0.2.1 = 4
  · rw [if_pos c] at ho; subst ho
    refine x_iconst B 5 (v := 4) dX2_readsMan_4 (by decide) rfl ?_
    refine x_icmp_ne_f (tp := 10) B 8 dX2_readsMan_5 (by decide) rfl (by (try simp only [xlit]); first | (rw [nI_leI (by omega) (by omega)]; omega) | (rw [nI_ltI (by omega) (by omega)]; omega) | (rw [nI_eq (by omega) (by omega)]; omega)) ?_
    refine x_iconst B 9 (v := 0) dX2_readsMan_8 (by decide) rfl ?_
    exact x_zret B rfl ⟨iv, row, rb, I4.rf, TS.rf, fun _ => rfl, ⟨rfl, hk.1⟩, rfl⟩ dX2_readsMan_9 ⟨by first | omega | decide, by first | omega | decide⟩ (by first | exact Or.inl rfl | exact Or.inr rfl | exact x_in01 _ _ _ | exact x_has01 _ _ | exact bI01 _ | assumption)
  rw [if_neg c] at ho
  refine x_iconst B 5 (v := 4) dX2_readsMan_4 (by decide) rfl ?_
  refine x_icmp_ne_t B 10 dX2_readsMan_5 (by decide) (by (try simp only [xlit]); first | (rw [nI_leI (by omega) (by omega)]; omega) | (rw [nI_ltI (by omega) (by omega)]; omega) | (rw [nI_eq (by omega) (by omega)]; omega)) ?_
  refine x_aload0 B 11 dX2_readsMan_10 rfl (by first | rfl | exact xisR_rf _) ?_
  refine x_callV B 14 (m_X2_nextToken hT tk.2 hk.2.2.2.1 hk.2.1) [0, 1] rfl ⟨_, _, _, (by repeat (first | with_reducible exact xr_h | refine xr_t ?_)), rfl, rfl⟩ q1884 q1886 qs41 q92 q1887 hd_X2_nextToken (by decide) ⟨by first | decide | omega, by first | decide | omega⟩ ⟨by first | decide | omega, by first | decide | omega⟩ rfl (Nat.le_of_ble_eq_true rfl) dX2_readsMan_11 rfl (fun _ _ _ h => h.elim) ?_
  rintro _ _ ⟨rfl, iv2, k2, I2, rfl⟩
  try simp only [xst, xput, xpre, List.set_cons_zero, List.set_cons_succ]
  refine x_aload0 B 15 dX2_readsMan_14 rfl (by first | rfl | exact xisR_rf _) ?_
  refine x_bipush B 17 (v := 10) dX2_readsMan_15 (by decide) rfl ?_
  refine x_callV B 20 (m_X2_words (hT.i4 I2.p4) k2 10 (by omega)) [0, 1] rfl ⟨_, _, _, (by repeat (first | with_reducible exact xr_h | refine xr_t ?_)), rfl, rfl⟩ q1926 q1928 qs49 q92 q1929 hd_X2_words (by decide) ⟨by first | decide | omega, by first | decide | omega⟩ ⟨by first | decide | omega, by first | decide | omega⟩ rfl (Nat.le_of_ble_eq_true rfl) dX2_readsMan_17 rfl (fun _ _ _ h => h.elim) ?_
  rintro _ _ ⟨rfl, iv3, k3, I3, rfl⟩
  try simp only [xst, xput, xpre, List.set_cons_zero, List.set_cons_succ]
  have hR3 := (hR.i4 I2).i4 I3
  have I23 := I2.trans I3
  cases e : hWords T (hTok T tk.2) 10 with
  | none =>
    rw [if_pos e] at k3
    rw [e] at ho; dsimp only at ho; subst ho
    refine x_istore1 B 21 dX2_readsMan_20 rfl ?_
    refine x_iload1 B 22 dX2_readsMan_21 rfl ?_
    refine x_if_ne_f (tp := 27) B 25 dX2_readsMan_22 (by decide) rfl rfl ?_
    refine x_iconst B 26 (v := 0) dX2_readsMan_25 (by decide) rfl ?_
    exact x_zret B rfl ⟨iv3, row, rb, I23.p4, TS.rf, fun _ => rfl, ⟨rfl, k3.1⟩, rfl⟩ dX2_readsMan_26 ⟨by first | omega | decide, by first | omega | decide⟩ (by first | exact Or.inl rfl | exact Or.inr rfl | exact x_in01 _ _ _ | exact x_has01 _ _ | exact bI01 _ | assumption)
  | some s =>
    have hp := hWords_lt k2.2.2.2.2 e
    rw [if_neg (by rw [e]; simp)] at k3
    rw [e] at ho; dsimp only at ho; subst ho
    rw [show nI ((some s).getD 0) = nI s from rfl]
    have hck : HCk X0 (6, s, 0, 0) := Or.inr (Or.inr (Or.inl ⟨rfl, by omega, hp.1⟩))
    have et : tellC X0 (6, s, 0, 0) = (X0.1, X0.2.1 + 1, X0.2.2.1, X0.2.2.2.1, X0.2.2.2.2.1, fUp X0.2.2.2.2.2.1 X0.2.1 s, fUp X0.2.2.2.2.2.2.1 X0.2.1 none, X0.2.2.2.2.2.2.2) := rfl
    have fin : ∀ row', TS 108 216 row row' → (d = false → row' = row) → (d = true → TTo row' (tellC X0 (6, s, 0, 0))) → WX D X [tR D h ad iv3, tI D ad 3 200 tx, tI D ad 0 1404 row', tI D ad 20 4 rb] 0 0 73 [some (.ref h), some (.int (nI s))] [] := by
      intro row' h1 h2 h3
      have hRm : ∀ m, m < X0.2.1 + 1 → upd rb X0.2.1 (-1) m = oI (fUp X0.2.2.2.2.2.2.1 X0.2.1 none m) := by
        intro m hm
        unfold fUp
        by_cases q : m = X0.2.1
        · rw [q, pk_us, if_pos rfl]; rfl
        · rw [pk_un (by omega), if_neg q]; exact hR3.2.2.1 m (by omega)
      refine x_aload0 B 74 dX2_readsMan_73 rfl (by first | rfl | exact xisR_rf _) ?_
      refine g_X2_47_X2 B 77 (by repeat (first | with_reducible exact xr_h | refine xr_t ?_)) dX2_readsMan_74 rfl ?_
      refine x_aload0 B 78 dX2_readsMan_77 rfl (by first | rfl | exact xisR_rf _) ?_
      refine g_X2_159_X2 B 81 (by repeat (first | with_reducible exact xr_h | refine xr_t ?_)) dX2_readsMan_78 rfl ?_
      rw [hR3.2.1]
      refine x_iconst B 82 (v := (-1)) dX2_readsMan_81 (by decide) rfl ?_
      refine x_iast B 83 (by repeat (first | with_reducible exact xu_h | apply xu_t)) (j := X0.2.1) (by first | (simp only [xlit, nI_add, pk_mul]; done) | rfl | (simp only [xlit, nI_add, pk_mul]; congr 1; omega)) ⟨by first | omega | decide, by first | decide | omega⟩ dX2_readsMan_82 rfl ?_
      refine x_aload0 B 84 dX2_readsMan_83 rfl (by first | rfl | exact xisR_rf _) ?_
      refine x_dup B 85 dX2_readsMan_84 rfl rfl ?_
      refine g_X2_159_X2 B 88 (by repeat (first | with_reducible exact xr_h | refine xr_t ?_)) dX2_readsMan_85 rfl ?_
      rw [hR3.2.1]
      refine x_iconst B 89 (v := 1) dX2_readsMan_88 (by decide) rfl ?_
      refine x_iadd B 90 dX2_readsMan_89 rfl ?_
      rw [show nI X0.2.1 + 1 = nI (X0.2.1 + 1) from nI_1 _]
      refine s_X2_159_X2 B 93 (by repeat (first | with_reducible exact xu_h | apply xu_t)) dX2_readsMan_90 rfl ?_
      refine x_iconst B 94 (v := 1) dX2_readsMan_93 (by decide) rfl ?_
      exact x_zret B rfl ⟨_, row', _, I23.p4.upd (Or.inr (Or.inr (Or.inr rfl))), h1, h2, ⟨rfl, ⟨by rw [pk_un (by omega)]; exact k3.1, by rw [pk_un (by omega)]; exact k3.2.1, k3.2.2⟩, by rw [et]; exact ⟨by rw [pk_un (by omega)]; exact hR3.1, pk_us, hRm, by rw [pk_un (by omega)]; exact hR3.2.2.2⟩, h3, hck⟩, rfl⟩ dX2_readsMan_94 ⟨by first | omega | decide, by first | omega | decide⟩ (by first | exact Or.inl rfl | exact Or.inr rfl | exact x_in01 _ _ _ | exact x_has01 _ _ | exact bI01 _ | assumption)
    refine x_istore1 B 21 dX2_readsMan_20 rfl ?_
    refine x_iload1 B 22 dX2_readsMan_21 rfl ?_
    refine x_if_ne_t B 27 dX2_readsMan_22 (by decide) (nI_ne0 (by omega) (by omega)) ?_
    refine x_aload0 B 28 dX2_readsMan_27 rfl (by first | rfl | exact xisR_rf _) ?_
    refine g_X2_155_X2 B 31 (by repeat (first | with_reducible exact xr_h | refine xr_t ?_)) dX2_readsMan_28 rfl ?_
    rw [hR3.2.2.2]
    cases hd : d with
    | false =>
      refine x_if_eq_t B 73 dX2_readsMan_31 (by decide) rfl ?_
      exact fin row TS.rf (fun _ => rfl) (fun z => by rw [hd] at z; cases z)
    | true =>
      have hTo := hD hd
      refine x_if_eq_f (tp := 73) B 34 dX2_readsMan_31 (by decide) rfl (by decide) ?_
      refine x_aload0 B 35 dX2_readsMan_34 rfl (by first | rfl | exact xisR_rf _) ?_
      refine g_X2_7_X2 B 38 (by repeat (first | with_reducible exact xr_h | refine xr_t ?_)) dX2_readsMan_35 rfl ?_
      refine x_sipush B 41 (v := 208) dX2_readsMan_38 (by decide) rfl ?_
      refine x_aload0 B 42 dX2_readsMan_41 rfl (by first | rfl | exact xisR_rf _) ?_
      refine g_X2_159_X2 B 45 (by repeat (first | with_reducible exact xr_h | refine xr_t ?_)) dX2_readsMan_42 rfl ?_
      rw [hR3.2.1]
      refine x_iadd B 46 dX2_readsMan_45 rfl ?_
      refine x_iload1 B 47 dX2_readsMan_46 rfl ?_
      refine x_iast B 48 (by repeat (first | with_reducible exact xu_h | apply xu_t)) (j := 108 + 100 + X0.2.1) (by first | (simp only [xlit, nI_add, pk_mul]; done) | rfl | (simp only [xlit, nI_add, pk_mul]; congr 1; omega)) ⟨by first | omega | decide, by first | decide | omega⟩ dX2_readsMan_47 rfl ?_
      refine x_aload0 B 49 dX2_readsMan_48 rfl (by first | rfl | exact xisR_rf _) ?_
      refine g_X2_7_X2 B 52 (by repeat (first | with_reducible exact xr_h | refine xr_t ?_)) dX2_readsMan_49 rfl ?_
      refine x_sipush B 55 (v := 212) dX2_readsMan_52 (by decide) rfl ?_
      refine x_aload0 B 56 dX2_readsMan_55 rfl (by first | rfl | exact xisR_rf _) ?_
      refine g_X2_159_X2 B 59 (by repeat (first | with_reducible exact xr_h | refine xr_t ?_)) dX2_readsMan_56 rfl ?_
      rw [hR3.2.1]
      refine x_iadd B 60 dX2_readsMan_59 rfl ?_
      refine x_iconst B 61 (v := (-1)) dX2_readsMan_60 (by decide) rfl ?_
      refine x_iast B 62 (by repeat (first | with_reducible exact xu_h | apply xu_t)) (j := 108 + 104 + X0.2.1) (by first | (simp only [xlit, nI_add, pk_mul]; done) | rfl | (simp only [xlit, nI_add, pk_mul]; congr 1; omega)) ⟨by first | omega | decide, by first | decide | omega⟩ dX2_readsMan_61 rfl ?_
      refine x_aload0 B 63 dX2_readsMan_62 rfl (by first | rfl | exact xisR_rf _) ?_
      refine g_X2_7_X2 B 66 (by repeat (first | with_reducible exact xr_h | refine xr_t ?_)) dX2_readsMan_63 rfl ?_
      refine x_bipush B 68 (v := 109) dX2_readsMan_66 (by decide) rfl ?_
      refine x_dup2 B 69 dX2_readsMan_68 rfl rfl rfl ?_
      refine x_ialdv B 70 (by repeat (first | with_reducible exact xr_h | refine xr_t ?_)) (j := 109) (by first | (simp only [xlit, nI_add, pk_mul]; done) | rfl | (simp only [xlit, nI_add, pk_mul]; congr 1; omega)) ⟨by first | omega | decide, by first | decide | omega⟩ (show upd (upd row (108 + 100 + X0.2.1) (nI s)) (108 + 104 + X0.2.1) (-1) 109 = nI X0.2.1 from by rw [pk_un (by omega), pk_un (by omega)]; exact hTo.1.2.1) dX2_readsMan_69 rfl ?_
      refine x_iconst B 71 (v := 1) dX2_readsMan_70 (by decide) rfl ?_
      refine x_iadd B 72 dX2_readsMan_71 rfl ?_
      rw [show nI X0.2.1 + 1 = nI (X0.2.1 + 1) from nI_1 _]
      refine x_iast B 73 (by repeat (first | with_reducible exact xu_h | apply xu_t)) (j := 109) (by first | (simp only [xlit, nI_add, pk_mul]; done) | rfl | (simp only [xlit, nI_add, pk_mul]; congr 1; omega)) ⟨by first | omega | decide, by first | decide | omega⟩ dX2_readsMan_72 rfl ?_
      refine fin _ (((TS.rf.upd (by omega) (by omega)).upd (by omega) (by omega)).upd (by omega) (by omega)) (fun z => by rw [hd] at z; cases z) (fun _ => ?_)
      rw [et]
      obtain ⟨⟨g1, g2, g3, g4, g5, g6, g7, g8, g9⟩, gz⟩ := hTo
      refine ⟨⟨by rw [pk_un (by omega), pk_un (by omega), pk_un (by omega)]; exact g1, pk_us, by rw [pk_un (by omega), pk_un (by omega), pk_un (by omega)]; exact g3, by rw [pk_un (by omega), pk_un (by omega), pk_un (by omega)]; exact g4, fun b hb => by have hb : b < X0.1 := hb; rw [pk_un (by omega), pk_un (by omega), pk_un (by omega)]; exact g5 b hb, fun b hb => by have hb : b < X0.1 := hb; rw [pk_un (by omega), pk_un (by omega), pk_un (by omega)]; exact g6 b hb, fun b w hb hw => by have hb : b < X0.1 := hb; rw [pk_un (by omega), pk_un (by omega), pk_un (by omega)]; exact g7 b w hb hw, fun m hm => ?_, fun m hm => ?_⟩, fun b w h1 h2 h3 => by rw [pk_un (by omega), pk_un (by omega), pk_un (by omega)]; exact gz b w h1 h2 h3⟩
      · have hm : m < X0.2.1 + 1 := hm
        show _ = nI (fUp X0.2.2.2.2.2.1 X0.2.1 s m)
        unfold fUp
        rw [pk_un (by omega), pk_un (by omega)]
        by_cases q : m = X0.2.1
        · subst q; rw [pk_us, if_pos rfl]
        · rw [pk_un (by omega), if_neg q]; exact g8 m (by omega)
      · have hm : m < X0.2.1 + 1 := hm
        show _ = oI (fUp X0.2.2.2.2.2.2.1 X0.2.1 none m)
        unfold fUp
        rw [pk_un (by omega)]
        by_cases q : m = X0.2.1
        · subst q; rw [pk_us, if_pos rfl]; rfl
        · rw [pk_un (by omega), pk_un (by omega), if_neg q]; exact g9 m (by omega)
theorem m_X2_readsCover (hT : TTx tx iv T) (hk : TTok iv T tk) (hX : HXk X0) (hR : TRs iv rb X0 d) (hD : d = true → TTo row X0) : XC D yX2_readsCover (ws_ yX2_readsCover cX2_readsCover 2 (Option.some Jvm.ClassFile.FieldType.boolean)) 4 160 (0) (0) [.ref h] [tR D h ad iv, tI D ad 3 200 tx, tI D ad 0 1404 row, tI D ad 20 4 rb] (fun r cs' => ∃ iv' row' rb', I4 P4 iv iv' ∧ TS 108 216 row row' ∧ (d = false → row' = row) ∧ TOut (hcCover T tk X0) T X0 d r iv' row' rb' ∧ cs' = [tR D h ad iv', tI D ad 3 200 tx, tI D ad 0 1404 row', tI D ad 20 4 rb']) x0 := by
  refine XC.of (by decide) (by simp [Value.category]) (Nat.le_of_ble_eq_true rfl) fun X B => ?_
  show WX D X [tR D h ad iv, tI D ad 3 200 tx, tI D ad 0 1404 row, tI D ad 20 4 rb] 0 0 0 [some (.ref h), none] []
  have hnb := hX.1.1
  have hnm := hX.1.2.1
  generalize ho : hcCover T tk X0 = o at B
  unfold hcCover at ho
  refine x_aload0 B 1 dX2_readsCover_0 rfl (by first | rfl | exact xisR_rf _) ?_
  refine x_callV B 4 (m_X2_nextToken hT tk.2 hk.2.2.2.1 hk.2.1) [0, 1] rfl ⟨_, _, _, (by repeat (first | with_reducible exact xr_h | refine xr_t ?_)), rfl, rfl⟩ q1884 q1886 qs41 q92 q1887 hd_X2_nextToken (by decide) ⟨by first | decide | omega, by first | decide | omega⟩ ⟨by first | decide | omega, by first | decide | omega⟩ rfl (Nat.le_of_ble_eq_true rfl) dX2_readsCover_1 rfl (fun _ _ _ h => h.elim) ?_
  rintro _ _ ⟨rfl, iv2, k2, I2, rfl⟩
  try simp only [xst, xput, xpre, List.set_cons_zero, List.set_cons_succ]
  have hR2 := hR.i4 I2
  refine x_aload0 B 5 dX2_readsCover_4 rfl (by first | rfl | exact xisR_rf _) ?_
  refine x_aload0 B 6 dX2_readsCover_5 rfl (by first | rfl | exact xisR_rf _) ?_
  refine g_X2_149_X2 B 9 (by repeat (first | with_reducible exact xr_h | refine xr_t ?_)) dX2_readsCover_6 rfl ?_
  rw [hR2.1]
  refine x_callV B 12 (m_X2_number (hT.i4 I2.p4) k2 X0.1 (by omega)) [0, 1] rfl ⟨_, _, _, (by repeat (first | with_reducible exact xr_h | refine xr_t ?_)), rfl, rfl⟩ q1914 q1916 qs46 q92 q1917 hd_X2_number (by decide) ⟨by first | decide | omega, by first | decide | omega⟩ ⟨by first | decide | omega, by first | decide | omega⟩ rfl (Nat.le_of_ble_eq_true rfl) dX2_readsCover_9 rfl (fun _ _ _ h => h.elim) ?_
  rintro _ _ ⟨rfl, iv3, k3, I3, rfl⟩
  try simp only [xst, xput, xpre, List.set_cons_zero, List.set_cons_succ]
  have hR3 := hR2.i4 I3
  have I23 := I2.trans I3
  have same : ∀ x : Int32, upd row 111 (row 111 ||| 0) = row := by
    intro x
    funext j
    by_cases q : j = 111
    · subst q; rw [pk_us]; exact Int32.or_zero
    · rw [pk_un q]
  cases e : hNum T (hTok T tk.2) X0.1 with
  | none =>
    rw [if_pos e] at k3
    rw [e] at ho; dsimp only at ho; subst ho
    have fin : WX D X [tR D h ad iv3, tI D ad 3 200 tx, tI D ad 0 1404 row, tI D ad 20 4 rb] 0 0 39 [some (.ref h), some (.int (-1))] [.int (row 111), .int (nI 111), .ref (ad 0)] := by
      refine x_iconst B 40 (v := 0) dX2_readsCover_39 (by decide) rfl ?_
      refine x_ior B 41 dX2_readsCover_40 rfl ?_
      refine x_iast B 42 (by repeat (first | with_reducible exact xu_h | apply xu_t)) (j := 111) (by first | (simp only [xlit, nI_add, pk_mul]; done) | rfl | (simp only [xlit, nI_add, pk_mul]; congr 1; omega)) ⟨by first | omega | decide, by first | decide | omega⟩ dX2_readsCover_41 rfl ?_
      rw [same 0]
      refine x_iload1 B 43 dX2_readsCover_42 rfl ?_
      refine x_iconst B 44 (v := (-1)) dX2_readsCover_43 (by decide) rfl ?_
      refine x_icmp_eq_t B 51 dX2_readsCover_44 (by decide) rfl ?_
      refine x_iconst B 52 (v := 0) dX2_readsCover_51 (by decide) rfl ?_
      exact x_zret B rfl ⟨iv3, row, rb, I23.p4, TS.rf, fun _ => rfl, ⟨rfl, k3.1⟩, rfl⟩ dX2_readsCover_52 ⟨by first | omega | decide, by first | omega | decide⟩ (by first | exact Or.inl rfl | exact Or.inr rfl | exact x_in01 _ _ _ | exact x_has01 _ _ | exact bI01 _ | assumption)
    rw [show oI none = -1 from rfl]
    refine x_istore1 B 13 dX2_readsCover_12 rfl ?_
    refine x_aload0 B 14 dX2_readsCover_13 rfl (by first | rfl | exact xisR_rf _) ?_
    refine g_X2_7_X2 B 17 (by repeat (first | with_reducible exact xr_h | refine xr_t ?_)) dX2_readsCover_14 rfl ?_
    refine x_bipush B 19 (v := 111) dX2_readsCover_17 (by decide) rfl ?_
    refine x_dup2 B 20 dX2_readsCover_19 rfl rfl rfl ?_
    refine x_iald B 21 (by repeat (first | with_reducible exact xr_h | refine xr_t ?_)) (j := 111) (by first | (simp only [xlit, nI_add, pk_mul]; done) | rfl | (simp only [xlit, nI_add, pk_mul]; congr 1; omega)) ⟨by first | omega | decide, by first | decide | omega⟩ dX2_readsCover_20 rfl ?_
    refine x_aload0 B 22 dX2_readsCover_21 rfl (by first | rfl | exact xisR_rf _) ?_
    refine g_X2_155_X2 B 25 (by repeat (first | with_reducible exact xr_h | refine xr_t ?_)) dX2_readsCover_22 rfl ?_
    rw [hR3.2.2.2]
    cases hd : d with
    | false =>
      refine x_if_eq_t B 39 dX2_readsCover_25 (by decide) rfl ?_
      exact fin
    | true =>
      refine x_if_eq_f (tp := 39) B 28 dX2_readsCover_25 (by decide) rfl (by decide) ?_
      refine x_iload1 B 29 dX2_readsCover_28 rfl ?_
      refine x_iconst B 30 (v := (-1)) dX2_readsCover_29 (by decide) rfl ?_
      refine x_icmp_eq_t B 39 dX2_readsCover_30 (by decide) rfl ?_
      exact fin
  | some p =>
    have hp := hNum_lt e
    rw [if_neg (by rw [e]; simp)] at k3
    rw [e] at ho; dsimp only at ho; subst ho
    rw [show oI (some p) = nI p from rfl]
    have hck : HCk X0 (9, p, 0, 0) := Or.inr (Or.inr (Or.inr (Or.inr (Or.inr ⟨rfl, hp.1⟩))))
    have et : tellC X0 (9, p, 0, 0) = (X0.1, X0.2.1, X0.2.2.1, X0.2.2.2.1, X0.2.2.2.2.1, X0.2.2.2.2.2.1, X0.2.2.2.2.2.2.1, X0.2.2.2.2.2.2.2.1 ||| 2 ^ p, X0.2.2.2.2.2.2.2.2) := rfl
    have fin : ∀ row', TS 108 216 row row' → (d = false → row' = row) → (d = true → TTo row' (tellC X0 (9, p, 0, 0))) → WX D X [tR D h ad iv3, tI D ad 3 200 tx, tI D ad 0 1404 row', tI D ad 20 4 rb] 0 0 42 [some (.ref h), some (.int (nI p))] [] := by
      intro row' h1 h2 h3
      refine x_iload1 B 43 dX2_readsCover_42 rfl ?_
      refine x_iconst B 44 (v := (-1)) dX2_readsCover_43 (by decide) rfl ?_
      refine x_icmp_eq_f (tp := 51) B 47 dX2_readsCover_44 (by decide) rfl (ne_m1 (by omega)) ?_
      refine x_iconst B 48 (v := 1) dX2_readsCover_47 (by decide) rfl ?_
      refine x_goto B 52 dX2_readsCover_48 (by decide) ?_
      exact x_zret B rfl ⟨_, row', rb, I23.p4, h1, h2, ⟨rfl, k3, by rw [et]; exact hR3, h3, hck⟩, rfl⟩ dX2_readsCover_52 ⟨by first | omega | decide, by first | omega | decide⟩ (by first | exact Or.inl rfl | exact Or.inr rfl | exact x_in01 _ _ _ | exact x_has01 _ _ | exact bI01 _ | assumption)
    refine x_istore1 B 13 dX2_readsCover_12 rfl ?_
    refine x_aload0 B 14 dX2_readsCover_13 rfl (by first | rfl | exact xisR_rf _) ?_
    refine g_X2_7_X2 B 17 (by repeat (first | with_reducible exact xr_h | refine xr_t ?_)) dX2_readsCover_14 rfl ?_
    refine x_bipush B 19 (v := 111) dX2_readsCover_17 (by decide) rfl ?_
    refine x_dup2 B 20 dX2_readsCover_19 rfl rfl rfl ?_
    refine x_iald B 21 (by repeat (first | with_reducible exact xr_h | refine xr_t ?_)) (j := 111) (by first | (simp only [xlit, nI_add, pk_mul]; done) | rfl | (simp only [xlit, nI_add, pk_mul]; congr 1; omega)) ⟨by first | omega | decide, by first | decide | omega⟩ dX2_readsCover_20 rfl ?_
    refine x_aload0 B 22 dX2_readsCover_21 rfl (by first | rfl | exact xisR_rf _) ?_
    refine g_X2_155_X2 B 25 (by repeat (first | with_reducible exact xr_h | refine xr_t ?_)) dX2_readsCover_22 rfl ?_
    rw [hR3.2.2.2]
    cases hd : d with
    | false =>
      refine x_if_eq_t B 39 dX2_readsCover_25 (by decide) rfl ?_
      refine x_iconst B 40 (v := 0) dX2_readsCover_39 (by decide) rfl ?_
      refine x_ior B 41 dX2_readsCover_40 rfl ?_
      refine x_iast B 42 (by repeat (first | with_reducible exact xu_h | apply xu_t)) (j := 111) (by first | (simp only [xlit, nI_add, pk_mul]; done) | rfl | (simp only [xlit, nI_add, pk_mul]; congr 1; omega)) ⟨by first | omega | decide, by first | decide | omega⟩ dX2_readsCover_41 rfl ?_
      rw [same 0]
      exact fin row TS.rf (fun _ => rfl) (fun z => by rw [hd] at z; cases z)
    | true =>
      have hTo := hD hd
      refine x_if_eq_f (tp := 39) B 28 dX2_readsCover_25 (by decide) rfl (by decide) ?_
      refine x_iload1 B 29 dX2_readsCover_28 rfl ?_
      refine x_iconst B 30 (v := (-1)) dX2_readsCover_29 (by decide) rfl ?_
      refine x_icmp_eq_f (tp := 39) B 33 dX2_readsCover_30 (by decide) rfl (ne_m1 (by omega)) ?_
      refine x_iconst B 34 (v := 1) dX2_readsCover_33 (by decide) rfl ?_
      refine x_iload1 B 35 dX2_readsCover_34 rfl ?_
      refine x_ishl B 36 dX2_readsCover_35 rfl ?_
      rw [xshl1 (by omega), show row 111 = nI X0.2.2.2.2.2.2.2.1 from hTo.1.2.2.2.1]
      refine x_goto B 40 dX2_readsCover_36 (by decide) ?_
      refine x_ior B 41 dX2_readsCover_40 rfl ?_
      rw [show nI X0.2.2.2.2.2.2.2.1 ||| nI (2 ^ p) = nI (X0.2.2.2.2.2.2.2.1 ||| 2 ^ p) from xor_nI _ _]
      refine x_iast B 42 (by repeat (first | with_reducible exact xu_h | apply xu_t)) (j := 108 + 3) (by first | (simp only [xlit, nI_add, pk_mul]; done) | rfl | (simp only [xlit, nI_add, pk_mul]; congr 1; omega)) ⟨by first | omega | decide, by first | decide | omega⟩ dX2_readsCover_41 rfl ?_
      refine fin _ (TS.rf.upd (by omega) (by omega)) (fun z => by rw [hd] at z; cases z) (fun _ => ?_)
      rw [et]
      exact ⟨hTo.1.setC hnb hnm _, fun b w h1 h2 h3 => by rw [pk_un (by omega)]; exact hTo.2 b w h1 h2 h3⟩
theorem m_X2_readsHarbour (hT : TTx tx iv T) (hk : TTok iv T tk) (hX : HXk X0) (hR : TRs iv rb X0 d) (hD : d = true → TTo row X0) : XC D yX2_readsHarbour (ws_ yX2_readsHarbour cX2_readsHarbour 2 (Option.some Jvm.ClassFile.FieldType.boolean)) 4 160 (0) (0) [.ref h] [tR D h ad iv, tI D ad 3 200 tx, tI D ad 0 1404 row, tI D ad 20 4 rb] (fun r cs' => ∃ iv' row' rb', I4 P4 iv iv' ∧ TS 108 216 row row' ∧ (d = false → row' = row) ∧ TOut (.inr ((5, 0, 0, 0), hTok T tk.2)) T X0 d r iv' row' rb' ∧ cs' = [tR D h ad iv', tI D ad 3 200 tx, tI D ad 0 1404 row', tI D ad 20 4 rb']) x0 := by
  refine XC.of (by decide) (by simp [Value.category]) (Nat.le_of_ble_eq_true rfl) fun X B => ?_
  show WX D X [tR D h ad iv, tI D ad 3 200 tx, tI D ad 0 1404 row, tI D ad 20 4 rb] 0 0 0 [some (.ref h), none] []
  refine x_aload0 B 1 dX2_readsHarbour_0 rfl (by first | rfl | exact xisR_rf _) ?_
  refine x_callV B 4 (m_X2_nextToken hT tk.2 hk.2.2.2.1 hk.2.1) [0, 1] rfl ⟨_, _, _, (by repeat (first | with_reducible exact xr_h | refine xr_t ?_)), rfl, rfl⟩ q1884 q1886 qs41 q92 q1887 hd_X2_nextToken (by decide) ⟨by first | decide | omega, by first | decide | omega⟩ ⟨by first | decide | omega, by first | decide | omega⟩ rfl (Nat.le_of_ble_eq_true rfl) dX2_readsHarbour_1 rfl (fun _ _ _ h => h.elim) ?_
  rintro _ _ ⟨rfl, iv2, k2, I2, rfl⟩
  try simp only [xst, xput, xpre, List.set_cons_zero, List.set_cons_succ]
  have hR2 := hR.i4 I2
  refine x_aload0 B 5 dX2_readsHarbour_4 rfl (by first | rfl | exact xisR_rf _) ?_
  refine x_iconst B 6 (v := 0) dX2_readsHarbour_5 (by decide) rfl ?_
  refine s_X2_149_X2 B 9 (by repeat (first | with_reducible exact xu_h | apply xu_t)) dX2_readsHarbour_6 rfl ?_
  refine x_aload0 B 10 dX2_readsHarbour_9 rfl (by first | rfl | exact xisR_rf _) ?_
  refine x_iconst B 11 (v := 0) dX2_readsHarbour_10 (by decide) rfl ?_
  refine s_X2_159_X2 B 14 (by repeat (first | with_reducible exact xu_h | apply xu_t)) dX2_readsHarbour_11 rfl ?_
  have g22 : upd (upd iv2 18 0) 19 0 22 = bI d := by rw [pk_un (by omega), pk_un (by omega)]; exact hR2.2.2.2
  have gI : I4 P4 iv (upd (upd iv2 18 0) 19 0) := (I2.p4.upd (Or.inr (Or.inr (Or.inl rfl)))).upd (Or.inr (Or.inr (Or.inr rfl)))
  have gk : TTok (upd (upd iv2 18 0) 19 0) T (hTok T tk.2) := ⟨by rw [pk_un (by omega), pk_un (by omega)]; exact k2.1, by rw [pk_un (by omega), pk_un (by omega)]; exact k2.2.1, k2.2.2⟩
  have gR : TRs (upd (upd iv2 18 0) 19 0) rb (tellC X0 (5, 0, 0, 0)) d := ⟨by rw [pk_un (by omega), pk_us]; rfl, by rw [pk_us]; rfl, fun m hm => absurd hm (Nat.not_lt_zero _), g22⟩
  generalize upd (upd iv2 18 0) 19 0 = iv3 at *
  have fin : ∀ row' a1, TS 108 216 row row' → (d = false → row' = row) → (d = true → TTo row' (tellC X0 (5, 0, 0, 0))) → WX D X [tR D h ad iv3, tI D ad 3 200 tx, tI D ad 0 1404 row', tI D ad 20 4 rb] 0 0 45 [some (.ref h), a1] [] := by
    intro row' a1 h1 h2 h3
    refine x_iconst B 46 (v := 1) dX2_readsHarbour_45 (by decide) rfl ?_
    exact x_zret B rfl ⟨_, row', rb, gI, h1, h2, ⟨rfl, gk, gR, h3, Or.inr (Or.inl rfl)⟩, rfl⟩ dX2_readsHarbour_46 ⟨by first | omega | decide, by first | omega | decide⟩ (by first | exact Or.inl rfl | exact Or.inr rfl | exact x_in01 _ _ _ | exact x_has01 _ _ | exact bI01 _ | assumption)
  cases hd : d with
  | false =>
    refine x_iconst B 15 (v := 0) dX2_readsHarbour_14 (by decide) rfl ?_
    refine x_istore1 B 16 dX2_readsHarbour_15 rfl ?_
    refine x_iload1 B 17 dX2_readsHarbour_16 rfl ?_
    refine x_bipush B 19 (v := 108) dX2_readsHarbour_17 (by decide) rfl ?_
    refine x_icmp_ge_f (tp := 45) B 22 dX2_readsHarbour_19 (by decide) rfl (by decide) ?_
    refine x_aload0 B 23 dX2_readsHarbour_22 rfl (by first | rfl | exact xisR_rf _) ?_
    refine g_X2_155_X2 B 26 (by repeat (first | with_reducible exact xr_h | refine xr_t ?_)) dX2_readsHarbour_23 rfl ?_
    rw [g22, hd]
    refine x_if_eq_t B 45 dX2_readsHarbour_26 (by decide) rfl ?_
    exact fin row _ TS.rf (fun _ => rfl) (fun z => by rw [hd] at z; cases z)
  | true =>
    have loop : ∀ (m k : Nat), k + m = 108 → ∀ row', (∀ j, j < k → row' (108 + j) = 0) → TS 108 216 row row' → WX D X [tR D h ad iv3, tI D ad 3 200 tx, tI D ad 0 1404 row', tI D ad 20 4 rb] 0 0 16 [some (.ref h), some (.int (nI k))] [] := by
      intro m
      induction m with
      | zero =>
        intro k hk row' h1 h2
        obtain rfl : k = 108 := by omega
        refine x_iload1 B 17 dX2_readsHarbour_16 rfl ?_
        refine x_bipush B 19 (v := 108) dX2_readsHarbour_17 (by decide) rfl ?_
        refine x_icmp_ge_t B 45 dX2_readsHarbour_19 (by decide) (by (try simp only [xlit]); first | (rw [nI_leI (by omega) (by omega)]; omega) | (rw [nI_ltI (by omega) (by omega)]; omega) | (rw [nI_eq (by omega) (by omega)]; omega)) ?_
        refine fin row' _ h2 (fun z => by rw [hd] at z; cases z) (fun _ => ?_)
        refine ⟨⟨h1 0 (by omega), h1 1 (by omega), ?_, h1 3 (by omega), fun b hb => absurd hb (Nat.not_lt_zero _), fun b hb => absurd hb (Nat.not_lt_zero _), fun b w hb => absurd hb (Nat.not_lt_zero _), fun b hb => absurd hb (Nat.not_lt_zero _), fun b hb => absurd hb (Nat.not_lt_zero _)⟩, fun b w q1 q2 q3 => ?_⟩
        · rw [show (tellC X0 (5, 0, 0, 0)).2.2.2.2.2.2.2.2 = 0 from hX.2]; exact h1 2 (by omega)
        · have := h1 (20 + 10 * b + w) (by omega)
          rw [show 108 + (20 + 10 * b + w) = 108 + 20 + 10 * b + w by omega] at this
          exact this
      | succ m ih =>
        intro k hk row' h1 h2
        refine x_iload1 B 17 dX2_readsHarbour_16 rfl ?_
        refine x_bipush B 19 (v := 108) dX2_readsHarbour_17 (by decide) rfl ?_
        refine x_icmp_ge_f (tp := 45) B 22 dX2_readsHarbour_19 (by decide) rfl (by (try simp only [xlit]); first | (rw [nI_leI (by omega) (by omega)]; omega) | (rw [nI_ltI (by omega) (by omega)]; omega) | (rw [nI_eq (by omega) (by omega)]; omega)) ?_
        refine x_aload0 B 23 dX2_readsHarbour_22 rfl (by first | rfl | exact xisR_rf _) ?_
        refine g_X2_155_X2 B 26 (by repeat (first | with_reducible exact xr_h | refine xr_t ?_)) dX2_readsHarbour_23 rfl ?_
        rw [g22, hd]
        refine x_if_eq_f (tp := 45) B 29 dX2_readsHarbour_26 (by decide) rfl (by decide) ?_
        refine x_aload0 B 30 dX2_readsHarbour_29 rfl (by first | rfl | exact xisR_rf _) ?_
        refine g_X2_7_X2 B 33 (by repeat (first | with_reducible exact xr_h | refine xr_t ?_)) dX2_readsHarbour_30 rfl ?_
        refine x_bipush B 35 (v := 108) dX2_readsHarbour_33 (by decide) rfl ?_
        refine x_iload1 B 36 dX2_readsHarbour_35 rfl ?_
        refine x_iadd B 37 dX2_readsHarbour_36 rfl ?_
        refine x_iconst B 38 (v := 0) dX2_readsHarbour_37 (by decide) rfl ?_
        refine x_iast B 39 (by repeat (first | with_reducible exact xu_h | apply xu_t)) (j := 108 + k) (by first | (simp only [xlit, nI_add, pk_mul]; done) | rfl | (simp only [xlit, nI_add, pk_mul]; congr 1; omega)) ⟨by first | omega | decide, by first | decide | omega⟩ dX2_readsHarbour_38 rfl ?_
        refine x_iinc1 B 42 dX2_readsHarbour_39 rfl (by first | exact xinc _ | rfl) ?_
        refine x_goto B 16 dX2_readsHarbour_42 (by decide) ?_
        refine ih (k + 1) (by omega) _ (fun j hj => ?_) (h2.upd (by omega) (by omega))
        by_cases c : j = k
        · subst c; rw [pk_us]
        · rw [pk_un (by omega)]; exact h1 j (by omega)
    refine x_iconst B 15 (v := 0) dX2_readsHarbour_14 (by decide) rfl ?_
    refine x_istore1 B 16 dX2_readsHarbour_15 rfl ?_
    exact loop 108 0 rfl row (fun j hj => by omega) TS.rf
end T14
