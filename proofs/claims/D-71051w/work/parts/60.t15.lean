/-! the twin, 15: clauses, on -/
def wOf (i : Nat) : List Nat := if i = 23 then wHarbour else if i = 24 then wParrot else if i = 25 then wGrey else if i = 26 then wCockatoo else if i = 27 then wHawk else if i = 28 then wGreen else if i = 29 then wMan else if i = 30 then wKnows else if i = 31 then wSits else wCover
def TWd (wf : Nat → Nat → Int32) : Prop := ∀ i, 23 ≤ i → i ≤ 32 → ∀ k c, (wOf i)[k]? = some c → wf i k = nI c ∧ c < 256
section T15
variable {D : xG} {h : Nat} {ad : Nat → Nat} {iv row zk tx rb : Nat → Int32} {T : List Nat} {tk : Nat × Nat} {X0 : HT} {d : Bool} {wf : Nat → Nat → Int32}
theorem m_X2_kindHere (hT : TTx tx iv T) (hk : TTok iv T tk) (hw : TWd wf) : XC D yX2_kindHere (ws_ yX2_kindHere cX2_kindHere 1 (Option.some Jvm.ClassFile.FieldType.int)) 1 40 (0) (0) [.ref h] [tR D h ad iv, tI D ad 3 200 tx, tI D ad 24 6 (wf 24), tI D ad 25 4 (wf 25), tI D ad 26 8 (wf 26), tI D ad 27 4 (wf 27), tI D ad 28 5 (wf 28)] (fun r cs' => r = some (.int (oI (hKind T tk))) ∧ cs' = [tR D h ad iv, tI D ad 3 200 tx, tI D ad 24 6 (wf 24), tI D ad 25 4 (wf 25), tI D ad 26 8 (wf 26), tI D ad 27 4 (wf 27), tI D ad 28 5 (wf 28)]) x0 := by
  refine XC.of (by decide) (by simp [Value.category]) (Nat.le_of_ble_eq_true rfl) fun X B => ?_
  show WX D X [tR D h ad iv, tI D ad 3 200 tx, tI D ad 24 6 (wf 24), tI D ad 25 4 (wf 25), tI D ad 26 8 (wf 26), tI D ad 27 4 (wf 27), tI D ad 28 5 (wf 28)] 0 0 0 [some (.ref h)] []
  have e0 : hKind T tk = if hIs T tk wParrot = true then some 0 else if hIs T tk wGrey = true then some 1 else if hIs T tk wCockatoo = true then some 2 else if hIs T tk wHawk = true then some 3 else if hIs T tk wGreen = true then some 4 else none := rfl
  have fin : ∀ v : Int32, v = oI (hKind T tk) → WX D X [tR D h ad iv, tI D ad 3 200 tx, tI D ad 24 6 (wf 24), tI D ad 25 4 (wf 25), tI D ad 26 8 (wf 26), tI D ad 27 4 (wf 27), tI D ad 28 5 (wf 28)] 0 0 76 [some (.ref h)] [.int v] := by
    intro v e
    exact x_iret B rfl ⟨by rw [e], rfl⟩ dX2_kindHere_76 ⟨by first | omega | decide, by first | omega | decide⟩
  refine x_aload0 B 1 dX2_kindHere_0 rfl (by first | rfl | exact xisR_rf _) ?_
  refine x_aload0 B 2 dX2_kindHere_1 rfl (by first | rfl | exact xisR_rf _) ?_
  refine g_X2_53_X2 B 5 (by repeat (first | with_reducible exact xr_h | refine xr_t ?_)) dX2_kindHere_2 rfl ?_
  refine x_callV B 8 (m_X2_isWord hT hk (ad 24) wParrot (wf 24) (hw 24 (by omega) (by omega)) (by decide)) [0, 1, 2] rfl ⟨_, _, _, (by repeat (first | with_reducible exact xr_h | refine xr_t ?_)), rfl, rfl⟩ q1906 q1908 qs44 q92 q1909 hd_X2_isWord (by decide) ⟨by first | decide | omega, by first | decide | omega⟩ ⟨by first | decide | omega, by first | decide | omega⟩ rfl (Nat.le_of_ble_eq_true rfl) dX2_kindHere_5 rfl (fun _ _ _ h => h.elim) ?_
  rintro _ _ ⟨rfl, rfl⟩
  try simp only [xst, xput, xpre, List.set_cons_zero, List.set_cons_succ]
  by_cases c0 : hIs T tk wParrot = true
  · rw [if_pos c0] at e0
    refine x_if_eq_f (tp := 15) B 11 dX2_kindHere_8 (by decide) rfl (by rw [c0]; decide) ?_
    refine x_iconst B 12 (v := 0) dX2_kindHere_11 (by decide) rfl ?_
    refine x_goto B 76 dX2_kindHere_12 (by decide) ?_
    exact fin _ (by rw [e0]; rfl)
  rw [if_neg c0] at e0
  rw [Bool.not_eq_true] at c0
  refine x_if_eq_t B 15 dX2_kindHere_8 (by decide) (by rw [c0]; rfl) ?_
  refine x_aload0 B 16 dX2_kindHere_15 rfl (by first | rfl | exact xisR_rf _) ?_
  refine x_aload0 B 17 dX2_kindHere_16 rfl (by first | rfl | exact xisR_rf _) ?_
  refine g_X2_56_X2 B 20 (by repeat (first | with_reducible exact xr_h | refine xr_t ?_)) dX2_kindHere_17 rfl ?_
  refine x_callV B 23 (m_X2_isWord hT hk (ad 25) wGrey (wf 25) (hw 25 (by omega) (by omega)) (by decide)) [0, 1, 3] rfl ⟨_, _, _, (by repeat (first | with_reducible exact xr_h | refine xr_t ?_)), rfl, rfl⟩ q1906 q1908 qs44 q92 q1909 hd_X2_isWord (by decide) ⟨by first | decide | omega, by first | decide | omega⟩ ⟨by first | decide | omega, by first | decide | omega⟩ rfl (Nat.le_of_ble_eq_true rfl) dX2_kindHere_20 rfl (fun _ _ _ h => h.elim) ?_
  rintro _ _ ⟨rfl, rfl⟩
  try simp only [xst, xput, xpre, List.set_cons_zero, List.set_cons_succ]
  by_cases c1 : hIs T tk wGrey = true
  · rw [if_pos c1] at e0
    refine x_if_eq_f (tp := 30) B 26 dX2_kindHere_23 (by decide) rfl (by rw [c1]; decide) ?_
    refine x_iconst B 27 (v := 1) dX2_kindHere_26 (by decide) rfl ?_
    refine x_goto B 76 dX2_kindHere_27 (by decide) ?_
    exact fin _ (by rw [e0]; rfl)
  rw [if_neg c1] at e0
  rw [Bool.not_eq_true] at c1
  refine x_if_eq_t B 30 dX2_kindHere_23 (by decide) (by rw [c1]; rfl) ?_
  refine x_aload0 B 31 dX2_kindHere_30 rfl (by first | rfl | exact xisR_rf _) ?_
  refine x_aload0 B 32 dX2_kindHere_31 rfl (by first | rfl | exact xisR_rf _) ?_
  refine g_X2_59_X2 B 35 (by repeat (first | with_reducible exact xr_h | refine xr_t ?_)) dX2_kindHere_32 rfl ?_
  refine x_callV B 38 (m_X2_isWord hT hk (ad 26) wCockatoo (wf 26) (hw 26 (by omega) (by omega)) (by decide)) [0, 1, 4] rfl ⟨_, _, _, (by repeat (first | with_reducible exact xr_h | refine xr_t ?_)), rfl, rfl⟩ q1906 q1908 qs44 q92 q1909 hd_X2_isWord (by decide) ⟨by first | decide | omega, by first | decide | omega⟩ ⟨by first | decide | omega, by first | decide | omega⟩ rfl (Nat.le_of_ble_eq_true rfl) dX2_kindHere_35 rfl (fun _ _ _ h => h.elim) ?_
  rintro _ _ ⟨rfl, rfl⟩
  try simp only [xst, xput, xpre, List.set_cons_zero, List.set_cons_succ]
  by_cases c2 : hIs T tk wCockatoo = true
  · rw [if_pos c2] at e0
    refine x_if_eq_f (tp := 45) B 41 dX2_kindHere_38 (by decide) rfl (by rw [c2]; decide) ?_
    refine x_iconst B 42 (v := 2) dX2_kindHere_41 (by decide) rfl ?_
    refine x_goto B 76 dX2_kindHere_42 (by decide) ?_
    exact fin _ (by rw [e0]; rfl)
  rw [if_neg c2] at e0
  rw [Bool.not_eq_true] at c2
  refine x_if_eq_t B 45 dX2_kindHere_38 (by decide) (by rw [c2]; rfl) ?_
  refine x_aload0 B 46 dX2_kindHere_45 rfl (by first | rfl | exact xisR_rf _) ?_
  refine x_aload0 B 47 dX2_kindHere_46 rfl (by first | rfl | exact xisR_rf _) ?_
  refine g_X2_62_X2 B 50 (by repeat (first | with_reducible exact xr_h | refine xr_t ?_)) dX2_kindHere_47 rfl ?_
  refine x_callV B 53 (m_X2_isWord hT hk (ad 27) wHawk (wf 27) (hw 27 (by omega) (by omega)) (by decide)) [0, 1, 5] rfl ⟨_, _, _, (by repeat (first | with_reducible exact xr_h | refine xr_t ?_)), rfl, rfl⟩ q1906 q1908 qs44 q92 q1909 hd_X2_isWord (by decide) ⟨by first | decide | omega, by first | decide | omega⟩ ⟨by first | decide | omega, by first | decide | omega⟩ rfl (Nat.le_of_ble_eq_true rfl) dX2_kindHere_50 rfl (fun _ _ _ h => h.elim) ?_
  rintro _ _ ⟨rfl, rfl⟩
  try simp only [xst, xput, xpre, List.set_cons_zero, List.set_cons_succ]
  by_cases c3 : hIs T tk wHawk = true
  · rw [if_pos c3] at e0
    refine x_if_eq_f (tp := 60) B 56 dX2_kindHere_53 (by decide) rfl (by rw [c3]; decide) ?_
    refine x_iconst B 57 (v := 3) dX2_kindHere_56 (by decide) rfl ?_
    refine x_goto B 76 dX2_kindHere_57 (by decide) ?_
    exact fin _ (by rw [e0]; rfl)
  rw [if_neg c3] at e0
  rw [Bool.not_eq_true] at c3
  refine x_if_eq_t B 60 dX2_kindHere_53 (by decide) (by rw [c3]; rfl) ?_
  refine x_aload0 B 61 dX2_kindHere_60 rfl (by first | rfl | exact xisR_rf _) ?_
  refine x_aload0 B 62 dX2_kindHere_61 rfl (by first | rfl | exact xisR_rf _) ?_
  refine g_X2_65_X2 B 65 (by repeat (first | with_reducible exact xr_h | refine xr_t ?_)) dX2_kindHere_62 rfl ?_
  refine x_callV B 68 (m_X2_isWord hT hk (ad 28) wGreen (wf 28) (hw 28 (by omega) (by omega)) (by decide)) [0, 1, 6] rfl ⟨_, _, _, (by repeat (first | with_reducible exact xr_h | refine xr_t ?_)), rfl, rfl⟩ q1906 q1908 qs44 q92 q1909 hd_X2_isWord (by decide) ⟨by first | decide | omega, by first | decide | omega⟩ ⟨by first | decide | omega, by first | decide | omega⟩ rfl (Nat.le_of_ble_eq_true rfl) dX2_kindHere_65 rfl (fun _ _ _ h => h.elim) ?_
  rintro _ _ ⟨rfl, rfl⟩
  try simp only [xst, xput, xpre, List.set_cons_zero, List.set_cons_succ]
  by_cases c4 : hIs T tk wGreen = true
  · rw [if_pos c4] at e0
    refine x_if_eq_f (tp := 75) B 71 dX2_kindHere_68 (by decide) rfl (by rw [c4]; decide) ?_
    refine x_iconst B 72 (v := 4) dX2_kindHere_71 (by decide) rfl ?_
    refine x_goto B 76 dX2_kindHere_72 (by decide) ?_
    exact fin _ (by rw [e0]; rfl)
  rw [if_neg c4] at e0
  rw [Bool.not_eq_true] at c4
  refine x_if_eq_t B 75 dX2_kindHere_68 (by decide) (by rw [c4]; rfl) ?_
  refine x_iconst B 76 (v := (-1)) dX2_kindHere_75 (by decide) rfl ?_
  exact fin _ (by rw [e0]; rfl)
theorem m_X2_readsKnows (hT : TTx tx iv T) (hk : TTok iv T tk) (hX : HXk X0) (hR : TRs iv rb X0 d) (hD : d = true → TTo row X0) : XC D yX2_readsKnows (ws_ yX2_readsKnows cX2_readsKnows 5 (Option.some Jvm.ClassFile.FieldType.boolean)) 4 160 (0) (0) [.ref h] [tR D h ad iv, tI D ad 3 200 tx, tI D ad 0 1404 row, tI D ad 20 4 rb] (fun r cs' => ∃ iv' row' rb', I4 P4 iv iv' ∧ TS 108 216 row row' ∧ (d = false → row' = row) ∧ TOut (hcKnows T tk X0) T X0 d r iv' row' rb' ∧ cs' = [tR D h ad iv', tI D ad 3 200 tx, tI D ad 0 1404 row', tI D ad 20 4 rb']) x0 := by
  refine XC.of (by decide) (by simp [Value.category]) (Nat.le_of_ble_eq_true rfl) fun X B => ?_
  show WX D X [tR D h ad iv, tI D ad 3 200 tx, tI D ad 0 1404 row, tI D ad 20 4 rb] 0 0 0 [some (.ref h), none, none, none, none] []
  have hnb := hX.1.1
  have hnm := hX.1.2.1
  generalize ho : hcKnows T tk X0 = o at B
  unfold hcKnows at ho
  refine x_aload0 B 1 dX2_readsKnows_0 rfl (by first | rfl | exact xisR_rf _) ?_
  refine x_callV B 4 (m_X2_nextToken hT tk.2 hk.2.2.2.1 hk.2.1) [0, 1] rfl ⟨_, _, _, (by repeat (first | with_reducible exact xr_h | refine xr_t ?_)), rfl, rfl⟩ q1884 q1886 qs41 q92 q1887 hd_X2_nextToken (by decide) ⟨by first | decide | omega, by first | decide | omega⟩ ⟨by first | decide | omega, by first | decide | omega⟩ rfl (Nat.le_of_ble_eq_true rfl) dX2_readsKnows_1 rfl (fun _ _ _ h => h.elim) ?_
  rintro _ _ ⟨rfl, iv2, k2, I2, rfl⟩
  try simp only [xst, xput, xpre, List.set_cons_zero, List.set_cons_succ]
  have hR2 := hR.i4 I2
  refine x_aload0 B 5 dX2_readsKnows_4 rfl (by first | rfl | exact xisR_rf _) ?_
  refine x_aload0 B 6 dX2_readsKnows_5 rfl (by first | rfl | exact xisR_rf _) ?_
  refine g_X2_149_X2 B 9 (by repeat (first | with_reducible exact xr_h | refine xr_t ?_)) dX2_readsKnows_6 rfl ?_
  rw [hR2.1]
  refine x_callV B 12 (m_X2_number (hT.i4 I2.p4) k2 X0.1 (by omega)) [0, 1] rfl ⟨_, _, _, (by repeat (first | with_reducible exact xr_h | refine xr_t ?_)), rfl, rfl⟩ q1914 q1916 qs46 q92 q1917 hd_X2_number (by decide) ⟨by first | decide | omega, by first | decide | omega⟩ ⟨by first | decide | omega, by first | decide | omega⟩ rfl (Nat.le_of_ble_eq_true rfl) dX2_readsKnows_9 rfl (fun _ _ _ h => h.elim) ?_
  rintro _ _ ⟨rfl, iv3, k3, I3, rfl⟩
  try simp only [xst, xput, xpre, List.set_cons_zero, List.set_cons_succ]
  have hR3 := hR2.i4 I3
  have I23 := I2.trans I3
  cases e : hNum T (hTok T tk.2) X0.1 with
  | none =>
    rw [if_pos e] at k3
    rw [e] at ho; dsimp only at ho; subst ho
    refine x_istore1 B 13 dX2_readsKnows_12 rfl ?_
    refine x_iload1 B 14 dX2_readsKnows_13 rfl ?_
    refine x_iconst B 15 (v := (-1)) dX2_readsKnows_14 (by decide) rfl ?_
    refine x_icmp_ne_f (tp := 22) B 18 dX2_readsKnows_15 (by decide) rfl rfl ?_
    refine x_iconst B 19 (v := 0) dX2_readsKnows_18 (by decide) rfl ?_
    refine x_goto B 27 dX2_readsKnows_19 (by decide) ?_
    refine x_istore2 B 28 dX2_readsKnows_27 rfl ?_
    refine x_iload2 B 29 dX2_readsKnows_28 rfl ?_
    refine x_if_ne_f (tp := 36) B 32 dX2_readsKnows_29 (by decide) rfl rfl ?_
    refine x_iconst B 33 (v := (-1)) dX2_readsKnows_32 (by decide) rfl ?_
    refine x_goto B 42 dX2_readsKnows_33 (by decide) ?_
    refine x_istore3 B 43 dX2_readsKnows_42 rfl ?_
    refine x_iload3 B 44 dX2_readsKnows_43 rfl ?_
    refine x_iconst B 45 (v := (-1)) dX2_readsKnows_44 (by decide) rfl ?_
    refine x_icmp_ne_f (tp := 50) B 48 dX2_readsKnows_45 (by decide) rfl rfl ?_
    refine x_iconst B 49 (v := 0) dX2_readsKnows_48 (by decide) rfl ?_
    exact x_zret B rfl ⟨iv3, row, rb, I23.p4, TS.rf, fun _ => rfl, ⟨rfl, k3.1⟩, rfl⟩ dX2_readsKnows_49 ⟨by first | omega | decide, by first | omega | decide⟩ (by first | exact Or.inl rfl | exact Or.inr rfl | exact x_in01 _ _ _ | exact x_has01 _ _ | exact bI01 _ | assumption)
  | some b =>
    have hb := hNum_lt e
    rw [if_neg (by rw [e]; simp)] at k3
    rw [e] at ho; dsimp only at ho
    rw [show oI (some b) = nI b from rfl]
    refine x_istore1 B 13 dX2_readsKnows_12 rfl ?_
    refine x_iload1 B 14 dX2_readsKnows_13 rfl ?_
    refine x_iconst B 15 (v := (-1)) dX2_readsKnows_14 (by decide) rfl ?_
    refine x_icmp_ne_t B 22 dX2_readsKnows_15 (by decide) (ne_m1 (by omega)) ?_
    refine x_aload0 B 23 dX2_readsKnows_22 rfl (by first | rfl | exact xisR_rf _) ?_
    refine x_iconst B 24 (v := 1) dX2_readsKnows_23 (by decide) rfl ?_
    refine x_callV B 27 (m_X2_words (hT.i4 I23.p4) k3 1 (by omega)) [0, 1] rfl ⟨_, _, _, (by repeat (first | with_reducible exact xr_h | refine xr_t ?_)), rfl, rfl⟩ q1926 q1928 qs49 q92 q1929 hd_X2_words (by decide) ⟨by first | decide | omega, by first | decide | omega⟩ ⟨by first | decide | omega, by first | decide | omega⟩ rfl (Nat.le_of_ble_eq_true rfl) dX2_readsKnows_24 rfl (fun _ _ _ h => h.elim) ?_
    rintro _ _ ⟨rfl, iv4, k4, I4', rfl⟩
    try simp only [xst, xput, xpre, List.set_cons_zero, List.set_cons_succ]
    have hR4 := hR3.i4 I4'
    have I24 := I23.trans I4'
    cases e2 : hWords T (hTok T (hTok T tk.2).2) 1 with
    | none =>
      rw [if_pos e2] at k4
      rw [e2] at ho; dsimp only at ho; subst ho
      refine x_istore2 B 28 dX2_readsKnows_27 rfl ?_
      refine x_iload2 B 29 dX2_readsKnows_28 rfl ?_
      refine x_if_ne_f (tp := 36) B 32 dX2_readsKnows_29 (by decide) rfl rfl ?_
      refine x_iconst B 33 (v := (-1)) dX2_readsKnows_32 (by decide) rfl ?_
      refine x_goto B 42 dX2_readsKnows_33 (by decide) ?_
      refine x_istore3 B 43 dX2_readsKnows_42 rfl ?_
      refine x_iload3 B 44 dX2_readsKnows_43 rfl ?_
      refine x_iconst B 45 (v := (-1)) dX2_readsKnows_44 (by decide) rfl ?_
      refine x_icmp_ne_f (tp := 50) B 48 dX2_readsKnows_45 (by decide) rfl rfl ?_
      refine x_iconst B 49 (v := 0) dX2_readsKnows_48 (by decide) rfl ?_
      exact x_zret B rfl ⟨iv4, row, rb, I24.p4, TS.rf, fun _ => rfl, ⟨rfl, k4.1⟩, rfl⟩ dX2_readsKnows_49 ⟨by first | omega | decide, by first | omega | decide⟩ (by first | exact Or.inl rfl | exact Or.inr rfl | exact x_in01 _ _ _ | exact x_has01 _ _ | exact bI01 _ | assumption)
    | some s =>
      have hs := hWords_lt k3.2.2.2.2 e2
      obtain ⟨v, hv, rfl⟩ := hWords_1 k3.2.2.2.2 e2
      rw [if_neg (by rw [e2]; simp)] at k4
      rw [e2] at ho; dsimp only at ho
      rw [show nI ((some (2 ^ v)).getD 0) = nI (2 ^ v) from rfl]
      have hv2 : 0 < 2 ^ v := Nat.two_pow_pos v
      refine x_istore2 B 28 dX2_readsKnows_27 rfl ?_
      refine x_iload2 B 29 dX2_readsKnows_28 rfl ?_
      refine x_if_ne_t B 36 dX2_readsKnows_29 (by decide) (nI_ne0 (by omega) (by omega)) ?_
      refine x_aload0 B 37 dX2_readsKnows_36 rfl (by first | rfl | exact xisR_rf _) ?_
      refine x_bipush B 39 (v := 10) dX2_readsKnows_37 (by decide) rfl ?_
      refine x_callV B 42 (m_X2_number (hT.i4 I24.p4) k4 10 (by omega)) [0, 1] rfl ⟨_, _, _, (by repeat (first | with_reducible exact xr_h | refine xr_t ?_)), rfl, rfl⟩ q1914 q1916 qs46 q92 q1917 hd_X2_number (by decide) ⟨by first | decide | omega, by first | decide | omega⟩ ⟨by first | decide | omega, by first | decide | omega⟩ rfl (Nat.le_of_ble_eq_true rfl) dX2_readsKnows_39 rfl (fun _ _ _ h => h.elim) ?_
      rintro _ _ ⟨rfl, iv5, k5, I5, rfl⟩
      try simp only [xst, xput, xpre, List.set_cons_zero, List.set_cons_succ]
      have hR5 := hR4.i4 I5
      have I25 := I24.trans I5
      cases e3 : hNum T (hTok T (hTok T (hTok T tk.2).2).2) 10 with
      | none =>
        rw [if_pos e3] at k5
        rw [e3] at ho; dsimp only at ho; subst ho
        refine x_istore3 B 43 dX2_readsKnows_42 rfl ?_
        refine x_iload3 B 44 dX2_readsKnows_43 rfl ?_
        refine x_iconst B 45 (v := (-1)) dX2_readsKnows_44 (by decide) rfl ?_
        refine x_icmp_ne_f (tp := 50) B 48 dX2_readsKnows_45 (by decide) rfl rfl ?_
        refine x_iconst B 49 (v := 0) dX2_readsKnows_48 (by decide) rfl ?_
        exact x_zret B rfl ⟨iv5, row, rb, I25.p4, TS.rf, fun _ => rfl, ⟨rfl, k5.1⟩, rfl⟩ dX2_readsKnows_49 ⟨by first | omega | decide, by first | omega | decide⟩ (by first | exact Or.inl rfl | exact Or.inr rfl | exact x_in01 _ _ _ | exact x_has01 _ _ | exact bI01 _ | assumption)
      | some n =>
        have hn := hNum_lt e3
        rw [if_neg (by rw [e3]; simp)] at k5
        rw [e3] at ho; dsimp only at ho; subst ho
        rw [show oI (some n) = nI n from rfl]
        rw [lo_two v hv] at B
        have hck : HCk X0 (7, b, v, n) := Or.inr (Or.inr (Or.inr (Or.inl ⟨rfl, hb.1, hv, hn.1⟩)))
        have et : tellC X0 (7, b, v, n) = (X0.1, X0.2.1, X0.2.2.1, kUp X0.2.2.2.1 b v n, X0.2.2.2.2) := rfl
        have fin : ∀ row' a4, TS 108 216 row row' → (d = false → row' = row) → (d = true → TTo row' (tellC X0 (7, b, v, n))) → WX D X [tR D h ad iv5, tI D ad 3 200 tx, tI D ad 0 1404 row', tI D ad 20 4 rb] 0 0 118 [some (.ref h), some (.int (nI b)), some (.int (nI (2 ^ v))), some (.int (nI n)), a4] [] := by
          intro row' a4 h1 h2 h3
          refine x_iconst B 119 (v := 1) dX2_readsKnows_118 (by decide) rfl ?_
          exact x_zret B rfl ⟨_, row', rb, I25.p4, h1, h2, ⟨rfl, k5, by rw [et]; exact hR5, h3, hck⟩, rfl⟩ dX2_readsKnows_119 ⟨by first | omega | decide, by first | omega | decide⟩ (by first | exact Or.inl rfl | exact Or.inr rfl | exact x_in01 _ _ _ | exact x_has01 _ _ | exact bI01 _ | assumption)
        refine x_istore3 B 43 dX2_readsKnows_42 rfl ?_
        refine x_iload3 B 44 dX2_readsKnows_43 rfl ?_
        refine x_iconst B 45 (v := (-1)) dX2_readsKnows_44 (by decide) rfl ?_
        refine x_icmp_ne_t B 50 dX2_readsKnows_45 (by decide) (ne_m1 (by omega)) ?_
        cases hd : d with
        | false =>
          refine x_iconst B 51 (v := 0) dX2_readsKnows_50 (by decide) rfl ?_
          refine x_istore4 B 53 dX2_readsKnows_51 rfl ?_
          refine x_iload4 B 55 dX2_readsKnows_53 rfl ?_
          refine x_bipush B 57 (v := 10) dX2_readsKnows_55 (by decide) rfl ?_
          refine x_icmp_ge_f (tp := 118) B 60 dX2_readsKnows_57 (by decide) rfl (by decide) ?_
          refine x_aload0 B 61 dX2_readsKnows_60 rfl (by first | rfl | exact xisR_rf _) ?_
          refine g_X2_155_X2 B 64 (by repeat (first | with_reducible exact xr_h | refine xr_t ?_)) dX2_readsKnows_61 rfl ?_
          rw [hR5.2.2.2, hd]
          refine x_if_eq_t B 118 dX2_readsKnows_64 (by decide) rfl ?_
          exact fin row _ TS.rf (fun _ => rfl) (fun z => by rw [hd] at z; cases z)
        | true =>
          have hTo := hD hd
          have loop : ∀ (m w : Nat), w + m = 10 → ∀ row', TTo row' (X0.1, X0.2.1, X0.2.2.1, (fun b' w' => if b' = b ∧ w' = v ∧ w' < w then n else X0.2.2.2.1 b' w'), X0.2.2.2.2) → TS 108 216 row row' → WX D X [tR D h ad iv5, tI D ad 3 200 tx, tI D ad 0 1404 row', tI D ad 20 4 rb] 0 0 53 [some (.ref h), some (.int (nI b)), some (.int (nI (2 ^ v))), some (.int (nI n)), some (.int (nI w))] [] := by
            intro m
            induction m with
            | zero =>
              intro w hw row' h1 h2
              obtain rfl : w = 10 := by omega
              refine x_iload4 B 55 dX2_readsKnows_53 rfl ?_
              refine x_bipush B 57 (v := 10) dX2_readsKnows_55 (by decide) rfl ?_
              refine x_icmp_ge_t B 118 dX2_readsKnows_57 (by decide) (by (try simp only [xlit]); first | (rw [nI_leI (by omega) (by omega)]; omega) | (rw [nI_ltI (by omega) (by omega)]; omega) | (rw [nI_eq (by omega) (by omega)]; omega)) ?_
              refine fin row' _ h2 (fun z => by rw [hd] at z; cases z) (fun _ => ?_)
              rw [et]
              obtain ⟨⟨g1, g2, g3, g4, g5, g6, g7, g8, g9⟩, gz⟩ := h1
              refine ⟨⟨g1, g2, g3, g4, g5, g6, fun b' w' hb' hw' => ?_, g8, g9⟩, gz⟩
              rw [g7 b' w' hb' hw']
              show nI (if b' = b ∧ w' = v ∧ w' < 10 then n else X0.2.2.2.1 b' w') = nI (kUp X0.2.2.2.1 b v n b' w')
              unfold kUp
              by_cases q : b' = b ∧ w' = v
              · rw [if_pos q, if_pos ⟨q.1, q.2, hw'⟩]
              · rw [if_neg q, if_neg (fun z => q ⟨z.1, z.2.1⟩)]
            | succ m ih =>
              intro w hw row' h1 h2
              refine x_iload4 B 55 dX2_readsKnows_53 rfl ?_
              refine x_bipush B 57 (v := 10) dX2_readsKnows_55 (by decide) rfl ?_
              refine x_icmp_ge_f (tp := 118) B 60 dX2_readsKnows_57 (by decide) rfl (by (try simp only [xlit]); first | (rw [nI_leI (by omega) (by omega)]; omega) | (rw [nI_ltI (by omega) (by omega)]; omega) | (rw [nI_eq (by omega) (by omega)]; omega)) ?_
              refine x_aload0 B 61 dX2_readsKnows_60 rfl (by first | rfl | exact xisR_rf _) ?_
              refine g_X2_155_X2 B 64 (by repeat (first | with_reducible exact xr_h | refine xr_t ?_)) dX2_readsKnows_61 rfl ?_
              rw [hR5.2.2.2, hd]
              refine x_if_eq_f (tp := 118) B 67 dX2_readsKnows_64 (by decide) rfl (by decide) ?_
              have go : ∀ x : Nat, x = (if w = v then n else X0.2.2.2.1 b w) → WX D X [tR D h ad iv5, tI D ad 3 200 tx, tI D ad 0 1404 (upd row' (108 + 20 + 10 * b + w) (nI x)), tI D ad 20 4 rb] 0 0 112 [some (.ref h), some (.int (nI b)), some (.int (nI (2 ^ v))), some (.int (nI n)), some (.int (nI w))] [] := by
                intro x hx
                refine x_iinc4 B 115 dX2_readsKnows_112 rfl (by first | exact xinc _ | rfl) ?_
                refine x_goto B 53 dX2_readsKnows_115 (by decide) ?_
                refine ih (w + 1) (by omega) _ ?_ (h2.upd (by omega) (by omega))
                have h3 := h1.1.setK hnb hnm hb.1 (show w < 10 by omega) x
                obtain ⟨g1, g2, g3, g4, g5, g6, g7, g8, g9⟩ := h3
                refine ⟨⟨g1, g2, g3, g4, g5, g6, fun b' w' hb' hw' => ?_, g8, g9⟩, fun b' w' q1 q2 q3 => by have q1 : X0.1 ≤ b' := q1; rw [pk_un (by omega)]; exact h1.2 b' w' q1 q2 q3⟩
                rw [g7 b' w' hb' hw']
                show nI (kUp (fun b' w' => if b' = b ∧ w' = v ∧ w' < w then n else X0.2.2.2.1 b' w') b w x b' w') = nI (if b' = b ∧ w' = v ∧ w' < w + 1 then n else X0.2.2.2.1 b' w')
                unfold kUp
                by_cases q : b' = b ∧ w' = w
                · obtain ⟨rfl, rfl⟩ := q
                  rw [if_pos ⟨rfl, rfl⟩, hx]
                  by_cases q2 : w' = v
                  · rw [if_pos q2, if_pos ⟨rfl, q2, by omega⟩]
                  · rw [if_neg q2, if_neg (fun z => q2 z.2.1)]
                · rw [if_neg q]
                  dsimp only
                  by_cases q2 : b' = b ∧ w' = v ∧ w' < w
                  · rw [if_pos q2, if_pos ⟨q2.1, q2.2.1, by omega⟩]
                  · rw [if_neg q2, if_neg (fun z => q2 ⟨z.1, z.2.1, by rcases Nat.eq_or_lt_of_le (Nat.le_of_lt_succ z.2.2) with q3 | q3; exact absurd ⟨z.1, q3⟩ q; exact q3⟩)]
              refine x_aload0 B 68 dX2_readsKnows_67 rfl (by first | rfl | exact xisR_rf _) ?_
              refine g_X2_7_X2 B 71 (by repeat (first | with_reducible exact xr_h | refine xr_t ?_)) dX2_readsKnows_68 rfl ?_
              refine x_sipush B 74 (v := 128) dX2_readsKnows_71 (by decide) rfl ?_
              refine x_bipush B 76 (v := 10) dX2_readsKnows_74 (by decide) rfl ?_
              refine x_iload1 B 77 dX2_readsKnows_76 rfl ?_
              refine x_imul B 78 dX2_readsKnows_77 rfl ?_
              refine x_iadd B 79 dX2_readsKnows_78 rfl ?_
              refine x_iload4 B 81 dX2_readsKnows_79 rfl ?_
              refine x_iadd B 82 dX2_readsKnows_81 rfl ?_
              refine x_iload2 B 83 dX2_readsKnows_82 rfl ?_
              refine x_iload4 B 85 dX2_readsKnows_83 rfl ?_
              refine x_callS B 88 (m_X2_has _ _) [] rfl q1938 q1939 q92 q1940 hd_X2_has rfl ⟨by first | decide | omega, by first | decide | omega⟩ ⟨by first | decide | omega, by first | decide | omega⟩ rfl (Nat.le_of_ble_eq_true rfl) dX2_readsKnows_85 rfl (fun _ _ _ h => h.elim) ?_
              rintro _ _ ⟨rfl, rfl⟩
              try simp only [xst, xput, xpre, List.set_cons_zero, List.set_cons_succ]
              rw [xhas_bit (by omega) (by omega)]
              by_cases q : w = v
              · rw [if_pos (by rw [q]; exact Nat.testBit_two_pow_self)]
                refine x_if_eq_f (tp := 95) B 91 dX2_readsKnows_88 (by decide) rfl (by decide) ?_
                refine x_iload3 B 92 dX2_readsKnows_91 rfl ?_
                refine x_goto B 111 dX2_readsKnows_92 (by decide) ?_
                refine x_iast B 112 (by repeat (first | with_reducible exact xu_h | apply xu_t)) (j := 108 + 20 + 10 * b + w) (by first | (simp only [xlit, nI_add, pk_mul]; done) | rfl | (simp only [xlit, nI_add, pk_mul]; congr 1; omega)) ⟨by first | omega | decide, by first | decide | omega⟩ dX2_readsKnows_111 rfl ?_
                exact go n (by rw [if_pos q])
              · rw [if_neg (by rw [Nat.testBit_two_pow_of_ne (Ne.symm q)]; simp)]
                refine x_if_eq_t B 95 dX2_readsKnows_88 (by decide) rfl ?_
                refine x_aload0 B 96 dX2_readsKnows_95 rfl (by first | rfl | exact xisR_rf _) ?_
                refine g_X2_7_X2 B 99 (by repeat (first | with_reducible exact xr_h | refine xr_t ?_)) dX2_readsKnows_96 rfl ?_
                refine x_sipush B 102 (v := 128) dX2_readsKnows_99 (by decide) rfl ?_
                refine x_bipush B 104 (v := 10) dX2_readsKnows_102 (by decide) rfl ?_
                refine x_iload1 B 105 dX2_readsKnows_104 rfl ?_
                refine x_imul B 106 dX2_readsKnows_105 rfl ?_
                refine x_iadd B 107 dX2_readsKnows_106 rfl ?_
                refine x_iload4 B 109 dX2_readsKnows_107 rfl ?_
                refine x_iadd B 110 dX2_readsKnows_109 rfl ?_
                refine x_ialdv B 111 (by repeat (first | with_reducible exact xr_h | refine xr_t ?_)) (j := 108 + 20 + 10 * b + w) (by first | (simp only [xlit, nI_add, pk_mul]; done) | rfl | (simp only [xlit, nI_add, pk_mul]; congr 1; omega)) ⟨by first | omega | decide, by first | decide | omega⟩ ((h1.1.2.2.2.2.2.2.1 b w hb.1 (by omega)).trans (congrArg nI (show (if b = b ∧ w = v ∧ w < w then n else X0.2.2.2.1 b w) = X0.2.2.2.1 b w from if_neg (by omega)))) dX2_readsKnows_110 rfl ?_
                refine x_iast B 112 (by repeat (first | with_reducible exact xu_h | apply xu_t)) (j := 108 + 20 + 10 * b + w) (by first | (simp only [xlit, nI_add, pk_mul]; done) | rfl | (simp only [xlit, nI_add, pk_mul]; congr 1; omega)) ⟨by first | omega | decide, by first | decide | omega⟩ dX2_readsKnows_111 rfl ?_
                exact go _ (by rw [if_neg q])
          refine x_iconst B 51 (v := 0) dX2_readsKnows_50 (by decide) rfl ?_
          refine x_istore4 B 53 dX2_readsKnows_51 rfl ?_
          exact loop 10 0 rfl row ⟨⟨hTo.1.1, hTo.1.2.1, hTo.1.2.2.1, hTo.1.2.2.2.1, hTo.1.2.2.2.2.1, hTo.1.2.2.2.2.2.1, fun b' w' hb' hw' => by rw [hTo.1.2.2.2.2.2.2.1 b' w' hb' hw']; exact congrArg nI (if_neg (by omega)).symm, hTo.1.2.2.2.2.2.2.2.1, hTo.1.2.2.2.2.2.2.2.2⟩, hTo.2⟩ TS.rf
theorem m_X2_readsSits (hT : TTx tx iv T) (hk : TTok iv T tk) (hX : HXk X0) (hR : TRs iv rb X0 d) (hD : d = true → TTo row X0) : XC D yX2_readsSits (ws_ yX2_readsSits cX2_readsSits 5 (Option.some Jvm.ClassFile.FieldType.boolean)) 4 160 (0) (0) [.ref h] [tR D h ad iv, tI D ad 3 200 tx, tI D ad 0 1404 row, tI D ad 20 4 rb] (fun r cs' => ∃ iv' row' rb', I4 P4 iv iv' ∧ TS 108 216 row row' ∧ (d = false → row' = row) ∧ TOut (hcSits T tk X0) T X0 d r iv' row' rb' ∧ cs' = [tR D h ad iv', tI D ad 3 200 tx, tI D ad 0 1404 row', tI D ad 20 4 rb']) x0 := by
  refine XC.of (by decide) (by simp [Value.category]) (Nat.le_of_ble_eq_true rfl) fun X B => ?_
  show WX D X [tR D h ad iv, tI D ad 3 200 tx, tI D ad 0 1404 row, tI D ad 20 4 rb] 0 0 0 [some (.ref h), none, none, none, none] []
  have hnb := hX.1.1
  have hnm := hX.1.2.1
  generalize ho : hcSits T tk X0 = o at B
  unfold hcSits at ho
  refine x_aload0 B 1 dX2_readsSits_0 rfl (by first | rfl | exact xisR_rf _) ?_
  refine x_callV B 4 (m_X2_nextToken hT tk.2 hk.2.2.2.1 hk.2.1) [0, 1] rfl ⟨_, _, _, (by repeat (first | with_reducible exact xr_h | refine xr_t ?_)), rfl, rfl⟩ q1884 q1886 qs41 q92 q1887 hd_X2_nextToken (by decide) ⟨by first | decide | omega, by first | decide | omega⟩ ⟨by first | decide | omega, by first | decide | omega⟩ rfl (Nat.le_of_ble_eq_true rfl) dX2_readsSits_1 rfl (fun _ _ _ h => h.elim) ?_
  rintro _ _ ⟨rfl, iv2, k2, I2, rfl⟩
  try simp only [xst, xput, xpre, List.set_cons_zero, List.set_cons_succ]
  have hR2 := hR.i4 I2
  refine x_aload0 B 5 dX2_readsSits_4 rfl (by first | rfl | exact xisR_rf _) ?_
  refine x_aload0 B 6 dX2_readsSits_5 rfl (by first | rfl | exact xisR_rf _) ?_
  refine g_X2_159_X2 B 9 (by repeat (first | with_reducible exact xr_h | refine xr_t ?_)) dX2_readsSits_6 rfl ?_
  rw [hR2.2.1]
  refine x_callV B 12 (m_X2_number (hT.i4 I2.p4) k2 X0.2.1 (by omega)) [0, 1] rfl ⟨_, _, _, (by repeat (first | with_reducible exact xr_h | refine xr_t ?_)), rfl, rfl⟩ q1914 q1916 qs46 q92 q1917 hd_X2_number (by decide) ⟨by first | decide | omega, by first | decide | omega⟩ ⟨by first | decide | omega, by first | decide | omega⟩ rfl (Nat.le_of_ble_eq_true rfl) dX2_readsSits_9 rfl (fun _ _ _ h => h.elim) ?_
  rintro _ _ ⟨rfl, iv3, k3, I3, rfl⟩
  try simp only [xst, xput, xpre, List.set_cons_zero, List.set_cons_succ]
  have hR3 := hR2.i4 I3
  have I23 := I2.trans I3
  have no : ∀ (f : Nat) (a1 a2 : Int32) (k : Nat), k ≤ X0.2.1 → iv3 16 = nI f → .inl f = o → WX D X [tR D h ad iv3, tI D ad 3 200 tx, tI D ad 0 1404 row, tI D ad 20 4 rb] 0 0 45 [some (.ref h), some (.int a1), some (.int a2), some (.int 0), some (.int (nI k))] [] := by
    intro f a1 a2 k hk2 h1 h2
    subst h2
    refine x_iload4 B 47 dX2_readsSits_45 rfl ?_
    refine x_aload0 B 48 dX2_readsSits_47 rfl (by first | rfl | exact xisR_rf _) ?_
    refine g_X2_159_X2 B 51 (by repeat (first | with_reducible exact xr_h | refine xr_t ?_)) dX2_readsSits_48 rfl ?_
    rw [hR3.2.1]
    rcases Nat.eq_or_lt_of_le hk2 with c | c
    · refine x_icmp_ge_t B 87 dX2_readsSits_51 (by decide) (by (try simp only [xlit]); first | (rw [nI_leI (by omega) (by omega)]; omega) | (rw [nI_ltI (by omega) (by omega)]; omega) | (rw [nI_eq (by omega) (by omega)]; omega)) ?_
      refine x_iload3 B 88 dX2_readsSits_87 rfl ?_
      refine x_if_ne_f (tp := 93) B 91 dX2_readsSits_88 (by decide) rfl rfl ?_
      refine x_iconst B 92 (v := 0) dX2_readsSits_91 (by decide) rfl ?_
      exact x_zret B rfl ⟨iv3, row, rb, I23.p4, TS.rf, fun _ => rfl, ⟨rfl, h1⟩, rfl⟩ dX2_readsSits_92 ⟨by first | omega | decide, by first | omega | decide⟩ (by first | exact Or.inl rfl | exact Or.inr rfl | exact x_in01 _ _ _ | exact x_has01 _ _ | exact bI01 _ | assumption)
    · refine x_icmp_ge_f (tp := 87) B 54 dX2_readsSits_51 (by decide) rfl (by (try simp only [xlit]); first | (rw [nI_leI (by omega) (by omega)]; omega) | (rw [nI_ltI (by omega) (by omega)]; omega) | (rw [nI_eq (by omega) (by omega)]; omega)) ?_
      refine x_iload3 B 55 dX2_readsSits_54 rfl ?_
      refine x_if_eq_t B 87 dX2_readsSits_55 (by decide) rfl ?_
      refine x_iload3 B 88 dX2_readsSits_87 rfl ?_
      refine x_if_ne_f (tp := 93) B 91 dX2_readsSits_88 (by decide) rfl rfl ?_
      refine x_iconst B 92 (v := 0) dX2_readsSits_91 (by decide) rfl ?_
      exact x_zret B rfl ⟨iv3, row, rb, I23.p4, TS.rf, fun _ => rfl, ⟨rfl, h1⟩, rfl⟩ dX2_readsSits_92 ⟨by first | omega | decide, by first | omega | decide⟩ (by first | exact Or.inl rfl | exact Or.inr rfl | exact x_in01 _ _ _ | exact x_has01 _ _ | exact bI01 _ | assumption)
  cases e : hNum T (hTok T tk.2) X0.2.1 with
  | none =>
    rw [if_pos e] at k3
    rw [e] at ho; dsimp only at ho
    refine x_istore1 B 13 dX2_readsSits_12 rfl ?_
    refine x_iload1 B 14 dX2_readsSits_13 rfl ?_
    refine x_iconst B 15 (v := (-1)) dX2_readsSits_14 (by decide) rfl ?_
    refine x_icmp_ne_f (tp := 22) B 18 dX2_readsSits_15 (by decide) rfl rfl ?_
    refine x_iconst B 19 (v := (-1)) dX2_readsSits_18 (by decide) rfl ?_
    refine x_goto B 30 dX2_readsSits_19 (by decide) ?_
    refine x_istore2 B 31 dX2_readsSits_30 rfl ?_
    refine x_iload2 B 32 dX2_readsSits_31 rfl ?_
    refine x_iconst B 33 (v := (-1)) dX2_readsSits_32 (by decide) rfl ?_
    refine x_icmp_eq_t B 40 dX2_readsSits_33 (by decide) rfl ?_
    refine x_iconst B 41 (v := 0) dX2_readsSits_40 (by decide) rfl ?_
    refine x_istore3 B 42 dX2_readsSits_41 rfl ?_
    refine x_iconst B 43 (v := 0) dX2_readsSits_42 (by decide) rfl ?_
    refine x_istore4 B 45 dX2_readsSits_43 rfl ?_
    exact no _ _ _ 0 (Nat.zero_le _) k3.1 ho
  | some m =>
    have hm := hNum_lt e
    rw [if_neg (by rw [e]; simp)] at k3
    rw [e] at ho; dsimp only at ho
    rw [show oI (some m) = nI m from rfl]
    refine x_istore1 B 13 dX2_readsSits_12 rfl ?_
    refine x_iload1 B 14 dX2_readsSits_13 rfl ?_
    refine x_iconst B 15 (v := (-1)) dX2_readsSits_14 (by decide) rfl ?_
    refine x_icmp_ne_t B 22 dX2_readsSits_15 (by decide) (ne_m1 (by omega)) ?_
    refine x_aload0 B 23 dX2_readsSits_22 rfl (by first | rfl | exact xisR_rf _) ?_
    refine x_aload0 B 24 dX2_readsSits_23 rfl (by first | rfl | exact xisR_rf _) ?_
    refine g_X2_149_X2 B 27 (by repeat (first | with_reducible exact xr_h | refine xr_t ?_)) dX2_readsSits_24 rfl ?_
    rw [hR3.1]
    refine x_callV B 30 (m_X2_numberHere (hT.i4 I23.p4) k3 X0.1 (by omega)) [0, 1] rfl ⟨_, _, _, (by repeat (first | with_reducible exact xr_h | refine xr_t ?_)), rfl, rfl⟩ q1918 q1920 qs47 q92 q1921 hd_X2_numberHere (by decide) ⟨by first | decide | omega, by first | decide | omega⟩ ⟨by first | decide | omega, by first | decide | omega⟩ rfl (Nat.le_of_ble_eq_true rfl) dX2_readsSits_27 rfl (fun _ _ _ h => h.elim) ?_
    rintro _ _ ⟨rfl, rfl⟩
    try simp only [xst, xput, xpre, List.set_cons_zero, List.set_cons_succ]
    cases e2 : hNum T (hTok T (hTok T tk.2).2) X0.1 with
    | none =>
      rw [e2] at ho; dsimp only at ho
      refine x_istore2 B 31 dX2_readsSits_30 rfl ?_
      refine x_iload2 B 32 dX2_readsSits_31 rfl ?_
      refine x_iconst B 33 (v := (-1)) dX2_readsSits_32 (by decide) rfl ?_
      refine x_icmp_eq_t B 40 dX2_readsSits_33 (by decide) rfl ?_
      refine x_iconst B 41 (v := 0) dX2_readsSits_40 (by decide) rfl ?_
      refine x_istore3 B 42 dX2_readsSits_41 rfl ?_
      refine x_iconst B 43 (v := 0) dX2_readsSits_42 (by decide) rfl ?_
      refine x_istore4 B 45 dX2_readsSits_43 rfl ?_
      exact no _ _ _ 0 (Nat.zero_le _) k3.1 ho
    | some b =>
      have hb := hNum_lt e2
      rw [e2] at ho; dsimp only at ho
      rw [show oI (some b) = nI b from rfl]
      have mono : ∀ k j, hOther X0.2.2.2.2.2.2.1 m b k = true → hOther X0.2.2.2.2.2.2.1 m b (k + j) = true := by
        intro k j hh
        induction j with
        | zero => exact hh
        | succ j ih => show (hOther X0.2.2.2.2.2.2.1 m b (k + j) || _) = true; rw [ih]; rfl
      have loop : ∀ (j k : Nat), k + j = X0.2.1 → hOther X0.2.2.2.2.2.2.1 m b k = false → WX D X [tR D h ad iv3, tI D ad 3 200 tx, tI D ad 0 1404 row, tI D ad 20 4 rb] 0 0 45 [some (.ref h), some (.int (nI m)), some (.int (nI b)), some (.int 1), some (.int (nI k))] [] := by
        intro j
        induction j with
        | zero =>
          intro k hk2 h1
          obtain rfl : k = X0.2.1 := by omega
          rw [if_neg (by rw [h1]; simp)] at ho; subst ho
          have hck : HCk X0 (8, m, b, 0) := Or.inr (Or.inr (Or.inr (Or.inr (Or.inl ⟨rfl, hm.1, hb.1, h1⟩))))
          have et : tellC X0 (8, m, b, 0) = (X0.1, X0.2.1, X0.2.2.1, X0.2.2.2.1, X0.2.2.2.2.1, X0.2.2.2.2.2.1, fUp X0.2.2.2.2.2.2.1 m (some b), X0.2.2.2.2.2.2.2) := rfl
          refine x_iload4 B 47 dX2_readsSits_45 rfl ?_
          refine x_aload0 B 48 dX2_readsSits_47 rfl (by first | rfl | exact xisR_rf _) ?_
          refine g_X2_159_X2 B 51 (by repeat (first | with_reducible exact xr_h | refine xr_t ?_)) dX2_readsSits_48 rfl ?_
          rw [hR3.2.1]
          refine x_icmp_ge_t B 87 dX2_readsSits_51 (by decide) (by (try simp only [xlit]); first | (rw [nI_leI (by omega) (by omega)]; omega) | (rw [nI_ltI (by omega) (by omega)]; omega) | (rw [nI_eq (by omega) (by omega)]; omega)) ?_
          refine x_iload3 B 88 dX2_readsSits_87 rfl ?_
          refine x_if_ne_t B 93 dX2_readsSits_88 (by decide) (by decide) ?_
          refine x_aload0 B 94 dX2_readsSits_93 rfl (by first | rfl | exact xisR_rf _) ?_
          refine x_callV B 97 (m_X2_nextToken (hT.i4 I23.p4) _ k3.2.2.2.1 k3.2.1) [0, 1] rfl ⟨_, _, _, (by repeat (first | with_reducible exact xr_h | refine xr_t ?_)), rfl, rfl⟩ q1884 q1886 qs41 q92 q1887 hd_X2_nextToken (by decide) ⟨by first | decide | omega, by first | decide | omega⟩ ⟨by first | decide | omega, by first | decide | omega⟩ rfl (Nat.le_of_ble_eq_true rfl) dX2_readsSits_94 rfl (fun _ _ _ h => h.elim) ?_
          rintro _ _ ⟨rfl, iv4, k4, I4', rfl⟩
          try simp only [xst, xput, xpre, List.set_cons_zero, List.set_cons_succ]
          have hR4 := hR3.i4 I4'
          have I24 := I23.trans I4'
          have hRm : ∀ k, k < X0.2.1 → upd rb m (nI b) k = oI (fUp X0.2.2.2.2.2.2.1 m (some b) k) := by
            intro k hk3
            unfold fUp
            by_cases q : k = m
            · rw [q, pk_us, if_pos rfl]; rfl
            · rw [pk_un q, if_neg q]; exact hR4.2.2.1 k hk3
          have fin : ∀ row', TS 108 216 row row' → (d = false → row' = row) → (d = true → TTo row' (tellC X0 (8, m, b, 0))) → WX D X [tR D h ad iv4, tI D ad 3 200 tx, tI D ad 0 1404 row', tI D ad 20 4 (upd rb m (nI b))] 0 0 135 [some (.ref h), some (.int (nI m)), some (.int (nI b)), some (.int 1), some (.int (nI X0.2.1))] [] := by
            intro row' h1 h2 h3
            refine x_iconst B 136 (v := 1) dX2_readsSits_135 (by decide) rfl ?_
            exact x_zret B rfl ⟨_, row', _, I24.p4, h1, h2, ⟨rfl, k4, by rw [et]; exact ⟨hR4.1, hR4.2.1, hRm, hR4.2.2.2⟩, h3, hck⟩, rfl⟩ dX2_readsSits_136 ⟨by first | omega | decide, by first | omega | decide⟩ (by first | exact Or.inl rfl | exact Or.inr rfl | exact x_in01 _ _ _ | exact x_has01 _ _ | exact bI01 _ | assumption)
          refine x_aload0 B 98 dX2_readsSits_97 rfl (by first | rfl | exact xisR_rf _) ?_
          refine g_X2_47_X2 B 101 (by repeat (first | with_reducible exact xr_h | refine xr_t ?_)) dX2_readsSits_98 rfl ?_
          refine x_iload1 B 102 dX2_readsSits_101 rfl ?_
          refine x_iload2 B 103 dX2_readsSits_102 rfl ?_
          refine x_iast B 104 (by repeat (first | with_reducible exact xu_h | apply xu_t)) (j := m) (by first | (simp only [xlit, nI_add, pk_mul]; done) | rfl | (simp only [xlit, nI_add, pk_mul]; congr 1; omega)) ⟨by first | omega | decide, by first | decide | omega⟩ dX2_readsSits_103 rfl ?_
          refine x_aload0 B 105 dX2_readsSits_104 rfl (by first | rfl | exact xisR_rf _) ?_
          refine g_X2_7_X2 B 108 (by repeat (first | with_reducible exact xr_h | refine xr_t ?_)) dX2_readsSits_105 rfl ?_
          refine x_sipush B 111 (v := 212) dX2_readsSits_108 (by decide) rfl ?_
          refine x_iload1 B 112 dX2_readsSits_111 rfl ?_
          refine x_iadd B 113 dX2_readsSits_112 rfl ?_
          refine x_aload0 B 114 dX2_readsSits_113 rfl (by first | rfl | exact xisR_rf _) ?_
          refine g_X2_155_X2 B 117 (by repeat (first | with_reducible exact xr_h | refine xr_t ?_)) dX2_readsSits_114 rfl ?_
          rw [hR4.2.2.2]
          cases hd : d with
          | false =>
            refine x_if_eq_t B 124 dX2_readsSits_117 (by decide) rfl ?_
            refine x_aload0 B 125 dX2_readsSits_124 rfl (by first | rfl | exact xisR_rf _) ?_
            refine g_X2_7_X2 B 128 (by repeat (first | with_reducible exact xr_h | refine xr_t ?_)) dX2_readsSits_125 rfl ?_
            refine x_sipush B 131 (v := 212) dX2_readsSits_128 (by decide) rfl ?_
            refine x_iload1 B 132 dX2_readsSits_131 rfl ?_
            refine x_iadd B 133 dX2_readsSits_132 rfl ?_
            refine x_iald B 134 (by repeat (first | with_reducible exact xr_h | refine xr_t ?_)) (j := 108 + 104 + m) (by first | (simp only [xlit, nI_add, pk_mul]; done) | rfl | (simp only [xlit, nI_add, pk_mul]; congr 1; omega)) ⟨by first | omega | decide, by first | decide | omega⟩ dX2_readsSits_133 rfl ?_
            refine x_iast B 135 (by repeat (first | with_reducible exact xu_h | apply xu_t)) (j := 108 + 104 + m) (by first | (simp only [xlit, nI_add, pk_mul]; done) | rfl | (simp only [xlit, nI_add, pk_mul]; congr 1; omega)) ⟨by first | omega | decide, by first | decide | omega⟩ dX2_readsSits_134 rfl ?_
            have same : upd row (108 + 104 + m) (row (108 + 104 + m)) = row := by
              funext j
              by_cases q : j = 108 + 104 + m
              · rw [q, pk_us]
              · rw [pk_un q]
            rw [same]
            exact fin row TS.rf (fun _ => rfl) (fun z => by rw [hd] at z; cases z)
          | true =>
            have hTo := hD hd
            refine x_if_eq_f (tp := 124) B 120 dX2_readsSits_117 (by decide) rfl (by decide) ?_
            refine x_iload2 B 121 dX2_readsSits_120 rfl ?_
            refine x_goto B 134 dX2_readsSits_121 (by decide) ?_
            refine x_iast B 135 (by repeat (first | with_reducible exact xu_h | apply xu_t)) (j := 108 + 104 + m) (by first | (simp only [xlit, nI_add, pk_mul]; done) | rfl | (simp only [xlit, nI_add, pk_mul]; congr 1; omega)) ⟨by first | omega | decide, by first | decide | omega⟩ dX2_readsSits_134 rfl ?_
            refine fin _ (TS.rf.upd (by omega) (by omega)) (fun z => by rw [hd] at z; cases z) (fun _ => ?_)
            rw [et]
            exact ⟨hTo.1.setY hnb hnm hm.1 (some b), fun b w h1 h2 h3 => by rw [pk_un (by omega)]; exact hTo.2 b w h1 h2 h3⟩
        | succ j ih =>
          intro k hk2 h1
          have hk3 : k < X0.2.1 := by omega
          have e5 : hOther X0.2.2.2.2.2.2.1 m b (k + 1) = (hOther X0.2.2.2.2.2.2.1 m b k || (decide (k ≠ m) && decide (X0.2.2.2.2.2.2.1 k = some b))) := rfl
          rw [h1, Bool.false_or] at e5
          refine x_iload4 B 47 dX2_readsSits_45 rfl ?_
          refine x_aload0 B 48 dX2_readsSits_47 rfl (by first | rfl | exact xisR_rf _) ?_
          refine g_X2_159_X2 B 51 (by repeat (first | with_reducible exact xr_h | refine xr_t ?_)) dX2_readsSits_48 rfl ?_
          rw [hR3.2.1]
          refine x_icmp_ge_f (tp := 87) B 54 dX2_readsSits_51 (by decide) rfl (by (try simp only [xlit]); first | (rw [nI_leI (by omega) (by omega)]; omega) | (rw [nI_ltI (by omega) (by omega)]; omega) | (rw [nI_eq (by omega) (by omega)]; omega)) ?_
          refine x_iload3 B 55 dX2_readsSits_54 rfl ?_
          refine x_if_eq_f (tp := 87) B 58 dX2_readsSits_55 (by decide) rfl (by decide) ?_
          by_cases c : k = m
          · refine x_iload4 B 60 dX2_readsSits_58 rfl ?_
            refine x_iload1 B 61 dX2_readsSits_60 rfl ?_
            refine x_icmp_eq_t B 75 dX2_readsSits_61 (by decide) (by rw [c]) ?_
            refine x_iconst B 76 (v := 1) dX2_readsSits_75 (by decide) rfl ?_
            refine x_goto B 80 dX2_readsSits_76 (by decide) ?_
            refine x_istore3 B 81 dX2_readsSits_80 rfl ?_
            refine x_iinc4 B 84 dX2_readsSits_81 rfl (by first | exact xinc _ | rfl) ?_
            refine x_goto B 45 dX2_readsSits_84 (by decide) ?_
            exact ih (k + 1) (by omega) (by rw [e5]; simp [c])
          · refine x_iload4 B 60 dX2_readsSits_58 rfl ?_
            refine x_iload1 B 61 dX2_readsSits_60 rfl ?_
            refine x_icmp_eq_f (tp := 75) B 64 dX2_readsSits_61 (by decide) rfl (by (try simp only [xlit]); first | (rw [nI_leI (by omega) (by omega)]; omega) | (rw [nI_ltI (by omega) (by omega)]; omega) | (rw [nI_eq (by omega) (by omega)]; omega)) ?_
            refine x_aload0 B 65 dX2_readsSits_64 rfl (by first | rfl | exact xisR_rf _) ?_
            refine g_X2_47_X2 B 68 (by repeat (first | with_reducible exact xr_h | refine xr_t ?_)) dX2_readsSits_65 rfl ?_
            refine x_iload4 B 70 dX2_readsSits_68 rfl ?_
            refine x_ialdv B 71 (by repeat (first | with_reducible exact xr_h | refine xr_t ?_)) (j := k) (by first | (simp only [xlit, nI_add, pk_mul]; done) | rfl | (simp only [xlit, nI_add, pk_mul]; congr 1; omega)) ⟨by first | omega | decide, by first | decide | omega⟩ (hR3.2.2.1 k hk3) dX2_readsSits_70 rfl ?_
            have e6 : oI (X0.2.2.2.2.2.2.1 k) = nI b ↔ X0.2.2.2.2.2.2.1 k = some b := oI_inj (z := some b) (hX.1.Yb hk3) (fun c hc => by cases hc; omega)
            by_cases c2 : X0.2.2.2.2.2.2.1 k = some b
            · have e7 : hOther X0.2.2.2.2.2.2.1 m b (k + 1) = true := by rw [e5]; simp [c, c2]
              have e8 := mono (k + 1) j e7
              rw [show k + 1 + j = X0.2.1 by omega] at e8
              rw [if_pos e8] at ho
              refine x_iload2 B 72 dX2_readsSits_71 rfl ?_
              refine x_icmp_eq_t B 79 dX2_readsSits_72 (by decide) (e6.mpr c2) ?_
              refine x_iconst B 80 (v := 0) dX2_readsSits_79 (by decide) rfl ?_
              refine x_istore3 B 81 dX2_readsSits_80 rfl ?_
              refine x_iinc4 B 84 dX2_readsSits_81 rfl (by first | exact xinc _ | rfl) ?_
              refine x_goto B 45 dX2_readsSits_84 (by decide) ?_
              exact no _ _ _ (k + 1) (by omega) k3.1 ho
            · refine x_iload2 B 72 dX2_readsSits_71 rfl ?_
              refine x_icmp_eq_f (tp := 79) B 75 dX2_readsSits_72 (by decide) rfl (fun z => c2 (e6.mp z)) ?_
              refine x_iconst B 76 (v := 1) dX2_readsSits_75 (by decide) rfl ?_
              refine x_goto B 80 dX2_readsSits_76 (by decide) ?_
              refine x_istore3 B 81 dX2_readsSits_80 rfl ?_
              refine x_iinc4 B 84 dX2_readsSits_81 rfl (by first | exact xinc _ | rfl) ?_
              refine x_goto B 45 dX2_readsSits_84 (by decide) ?_
              exact ih (k + 1) (by omega) (by rw [e5]; simp [c2])
      refine x_istore2 B 31 dX2_readsSits_30 rfl ?_
      refine x_iload2 B 32 dX2_readsSits_31 rfl ?_
      refine x_iconst B 33 (v := (-1)) dX2_readsSits_32 (by decide) rfl ?_
      refine x_icmp_eq_f (tp := 40) B 36 dX2_readsSits_33 (by decide) rfl (ne_m1 (by omega)) ?_
      refine x_iconst B 37 (v := 1) dX2_readsSits_36 (by decide) rfl ?_
      refine x_goto B 41 dX2_readsSits_37 (by decide) ?_
      refine x_istore3 B 42 dX2_readsSits_41 rfl ?_
      refine x_iconst B 43 (v := 0) dX2_readsSits_42 (by decide) rfl ?_
      refine x_istore4 B 45 dX2_readsSits_43 rfl ?_
      exact loop X0.2.1 0 (by omega) rfl
end T15
