/-! the twin, 12: tokens -/
section T12
variable {D : xG} {h : Nat} {ad : Nat → Nat} {iv row zk tx rb : Nat → Int32} {T : List Nat} {tk : Nat × Nat}
theorem TTx.at {iv : Nat → Int32} (hT : TTx tx iv T) {p : Nat} (hp : p < T.length) : ∃ c, T[p]? = some c ∧ tx p = nI c ∧ c < 256 := ⟨T[p], List.getElem?_eq_getElem hp, hT.2.2 p _ (List.getElem?_eq_getElem hp)⟩
theorem m_X2_nextToken (hT : TTx tx iv T) (p : Nat) (hp : p ≤ T.length) (h17 : iv 17 = nI p) : XC D yX2_nextToken (ws_ yX2_nextToken cX2_nextToken 1 (Option.none : Option Jvm.ClassFile.FieldType)) 2 80 (0) (0) [.ref h] [tR D h ad iv, tI D ad 3 200 tx] (fun r cs' => r = none ∧ ∃ iv', TTok iv' T (hTok T p) ∧ I4 (fun j => j = 16 ∨ j = 17) iv iv' ∧ cs' = [tR D h ad iv', tI D ad 3 200 tx]) x0 := by
  refine XC.of (by decide) (by simp [Value.category]) (Nat.le_of_ble_eq_true rfl) fun X B => ?_
  show WX D X [tR D h ad iv, tI D ad 3 200 tx] 0 0 0 [some (.ref h)] []
  obtain ⟨hl, hl2, hr⟩ := hT
  have hb := hTok_b T hp
  have fin : ∀ iv1 : Nat → Int32, iv1 16 = nI (hTok T p).1 → iv1 17 = nI (hTok T p).2 → I4 (fun j => j = 16 ∨ j = 17) iv iv1 → WX D X [tR D h ad iv1, tI D ad 3 200 tx] 0 0 204 [some (.ref h)] [] := by
    intro iv1 h1 h2 h3
    exact x_vret B rfl ⟨rfl, iv1, ⟨h1, h2, hb.2.1, hb.2.2.1, hb.2.2.2⟩, h3, rfl⟩ dX2_nextToken_204 ⟨by first | omega | decide, by first | omega | decide⟩
  have lets : ∀ (n q : Nat), T.length ≤ q + n → q ≤ T.length → ∀ iv1 : Nat → Int32, iv1 4 = nI T.length → iv1 16 = nI (hTok T p).1 → iv1 17 = nI q → scan isL T n q = (hTok T p).2 → I4 (fun j => j = 16 ∨ j = 17) iv iv1 → WX D X [tR D h ad iv1, tI D ad 3 200 tx] 0 0 100 [some (.ref h)] [] := by
    intro n
    induction n with
    | zero =>
      intro q hn hq iv1 h4 h1 h2 h3 hI
      obtain rfl : q = T.length := by omega
      refine x_aload0 B 101 dX2_nextToken_100 rfl (by first | rfl | exact xisR_rf _) ?_
      refine g_X2_125_X2 B 104 (by repeat (first | with_reducible exact xr_h | refine xr_t ?_)) dX2_nextToken_101 rfl ?_
      refine x_aload0 B 105 dX2_nextToken_104 rfl (by first | rfl | exact xisR_rf _) ?_
      refine g_X2_113_X2 B 108 (by repeat (first | with_reducible exact xr_h | refine xr_t ?_)) dX2_nextToken_105 rfl ?_
      rw [h2, h4]
      refine x_icmp_ge_t B 204 dX2_nextToken_108 (by decide) (by (try simp only [xlit]); first | (rw [nI_leI (by omega) (by omega)]; omega) | (rw [nI_ltI (by omega) (by omega)]; omega) | (rw [nI_eq (by omega) (by omega)]; omega)) ?_
      exact fin iv1 h1 (h2.trans (congrArg nI h3)) hI
    | succ n ih =>
      intro q hn hq iv1 h4 h1 h2 h3 hI
      rcases Nat.eq_or_lt_of_le hq with c | c
      · subst c
        refine x_aload0 B 101 dX2_nextToken_100 rfl (by first | rfl | exact xisR_rf _) ?_
        refine g_X2_125_X2 B 104 (by repeat (first | with_reducible exact xr_h | refine xr_t ?_)) dX2_nextToken_101 rfl ?_
        refine x_aload0 B 105 dX2_nextToken_104 rfl (by first | rfl | exact xisR_rf _) ?_
        refine g_X2_113_X2 B 108 (by repeat (first | with_reducible exact xr_h | refine xr_t ?_)) dX2_nextToken_105 rfl ?_
        rw [h2, h4]
        refine x_icmp_ge_t B 204 dX2_nextToken_108 (by decide) (by (try simp only [xlit]); first | (rw [nI_leI (by omega) (by omega)]; omega) | (rw [nI_ltI (by omega) (by omega)]; omega) | (rw [nI_eq (by omega) (by omega)]; omega)) ?_
        refine fin iv1 h1 (h2.trans (congrArg nI ?_)) hI
        rw [← h3]; unfold scan; rw [List.getElem?_eq_none (Nat.le_refl _)]
      · obtain ⟨x, x1, x2, x3⟩ := TTx.at ⟨hl, hl2, hr⟩ c
        refine x_aload0 B 101 dX2_nextToken_100 rfl (by first | rfl | exact xisR_rf _) ?_
        refine g_X2_125_X2 B 104 (by repeat (first | with_reducible exact xr_h | refine xr_t ?_)) dX2_nextToken_101 rfl ?_
        refine x_aload0 B 105 dX2_nextToken_104 rfl (by first | rfl | exact xisR_rf _) ?_
        refine g_X2_113_X2 B 108 (by repeat (first | with_reducible exact xr_h | refine xr_t ?_)) dX2_nextToken_105 rfl ?_
        rw [h2, h4]
        refine x_icmp_ge_f (tp := 204) B 111 dX2_nextToken_108 (by decide) rfl (by (try simp only [xlit]); first | (rw [nI_leI (by omega) (by omega)]; omega) | (rw [nI_ltI (by omega) (by omega)]; omega) | (rw [nI_eq (by omega) (by omega)]; omega)) ?_
        refine x_aload0 B 112 dX2_nextToken_111 rfl (by first | rfl | exact xisR_rf _) ?_
        refine g_X2_17_X2 B 115 (by repeat (first | with_reducible exact xr_h | refine xr_t ?_)) dX2_nextToken_112 rfl ?_
        refine x_aload0 B 116 dX2_nextToken_115 rfl (by first | rfl | exact xisR_rf _) ?_
        refine g_X2_125_X2 B 119 (by repeat (first | with_reducible exact xr_h | refine xr_t ?_)) dX2_nextToken_116 rfl ?_
        rw [h2]
        refine x_ialdv B 120 (by repeat (first | with_reducible exact xr_h | refine xr_t ?_)) (j := q) (by first | (simp only [xlit, nI_add, pk_mul]; done) | rfl | (simp only [xlit, nI_add, pk_mul]; congr 1; omega)) ⟨by first | omega | decide, by first | decide | omega⟩ x2 dX2_nextToken_119 rfl ?_
        refine x_callS B 123 (m_X2_isLetter _) [] rfl q1888 q1889 q92 q1890 hd_X2_isLetter rfl ⟨by first | decide | omega, by first | decide | omega⟩ ⟨by first | decide | omega, by first | decide | omega⟩ rfl (Nat.le_of_ble_eq_true rfl) dX2_nextToken_120 rfl (fun _ _ _ h => h.elim) ?_
        rintro _ _ ⟨rfl, rfl⟩
        try simp only [xst, xput, xpre, List.set_cons_zero, List.set_cons_succ]
        rw [isL_x x3]
        unfold scan at h3
        rw [x1] at h3
        dsimp only at h3
        by_cases c2 : isL x = true
        · rw [if_pos c2] at h3
          refine x_if_eq_f (tp := 204) B 126 dX2_nextToken_123 (by decide) rfl (by rw [c2]; decide) ?_
          refine x_aload0 B 127 dX2_nextToken_126 rfl (by first | rfl | exact xisR_rf _) ?_
          refine x_dup B 128 dX2_nextToken_127 rfl rfl ?_
          refine g_X2_125_X2 B 131 (by repeat (first | with_reducible exact xr_h | refine xr_t ?_)) dX2_nextToken_128 rfl ?_
          rw [h2]
          refine x_iconst B 132 (v := 1) dX2_nextToken_131 (by decide) rfl ?_
          refine x_iadd B 133 dX2_nextToken_132 rfl ?_
          rw [show nI q + 1 = nI (q + 1) from nI_1 _]
          refine s_X2_125_X2 B 136 (by repeat (first | with_reducible exact xu_h | apply xu_t)) dX2_nextToken_133 rfl ?_
          refine x_goto B 100 dX2_nextToken_136 (by decide) ?_
          exact ih (q + 1) (by omega) (by omega) _ (by rw [pk_un (by omega)]; exact h4) (by rw [pk_un (by omega)]; exact h1) pk_us h3 (fun j hj => by rw [pk_un (by omega)]; exact hI j hj)
        · rw [if_neg c2] at h3
          rw [Bool.not_eq_true] at c2
          refine x_if_eq_t B 204 dX2_nextToken_123 (by decide) (by rw [c2]; rfl) ?_
          exact fin iv1 h1 (h2.trans (congrArg nI h3)) hI
  have digs : ∀ (n q : Nat), T.length ≤ q + n → q ≤ T.length → ∀ iv1 : Nat → Int32, iv1 4 = nI T.length → iv1 16 = nI (hTok T p).1 → iv1 17 = nI q → scan isD T n q = (hTok T p).2 → I4 (fun j => j = 16 ∨ j = 17) iv iv1 → WX D X [tR D h ad iv1, tI D ad 3 200 tx] 0 0 165 [some (.ref h)] [] := by
    intro n
    induction n with
    | zero =>
      intro q hn hq iv1 h4 h1 h2 h3 hI
      obtain rfl : q = T.length := by omega
      refine x_aload0 B 166 dX2_nextToken_165 rfl (by first | rfl | exact xisR_rf _) ?_
      refine g_X2_125_X2 B 169 (by repeat (first | with_reducible exact xr_h | refine xr_t ?_)) dX2_nextToken_166 rfl ?_
      refine x_aload0 B 170 dX2_nextToken_169 rfl (by first | rfl | exact xisR_rf _) ?_
      refine g_X2_113_X2 B 173 (by repeat (first | with_reducible exact xr_h | refine xr_t ?_)) dX2_nextToken_170 rfl ?_
      rw [h2, h4]
      refine x_icmp_ge_t B 204 dX2_nextToken_173 (by decide) (by (try simp only [xlit]); first | (rw [nI_leI (by omega) (by omega)]; omega) | (rw [nI_ltI (by omega) (by omega)]; omega) | (rw [nI_eq (by omega) (by omega)]; omega)) ?_
      exact fin iv1 h1 (h2.trans (congrArg nI h3)) hI
    | succ n ih =>
      intro q hn hq iv1 h4 h1 h2 h3 hI
      rcases Nat.eq_or_lt_of_le hq with c | c
      · subst c
        refine x_aload0 B 166 dX2_nextToken_165 rfl (by first | rfl | exact xisR_rf _) ?_
        refine g_X2_125_X2 B 169 (by repeat (first | with_reducible exact xr_h | refine xr_t ?_)) dX2_nextToken_166 rfl ?_
        refine x_aload0 B 170 dX2_nextToken_169 rfl (by first | rfl | exact xisR_rf _) ?_
        refine g_X2_113_X2 B 173 (by repeat (first | with_reducible exact xr_h | refine xr_t ?_)) dX2_nextToken_170 rfl ?_
        rw [h2, h4]
        refine x_icmp_ge_t B 204 dX2_nextToken_173 (by decide) (by (try simp only [xlit]); first | (rw [nI_leI (by omega) (by omega)]; omega) | (rw [nI_ltI (by omega) (by omega)]; omega) | (rw [nI_eq (by omega) (by omega)]; omega)) ?_
        refine fin iv1 h1 (h2.trans (congrArg nI ?_)) hI
        rw [← h3]; unfold scan; rw [List.getElem?_eq_none (Nat.le_refl _)]
      · obtain ⟨x, x1, x2, x3⟩ := TTx.at ⟨hl, hl2, hr⟩ c
        refine x_aload0 B 166 dX2_nextToken_165 rfl (by first | rfl | exact xisR_rf _) ?_
        refine g_X2_125_X2 B 169 (by repeat (first | with_reducible exact xr_h | refine xr_t ?_)) dX2_nextToken_166 rfl ?_
        refine x_aload0 B 170 dX2_nextToken_169 rfl (by first | rfl | exact xisR_rf _) ?_
        refine g_X2_113_X2 B 173 (by repeat (first | with_reducible exact xr_h | refine xr_t ?_)) dX2_nextToken_170 rfl ?_
        rw [h2, h4]
        refine x_icmp_ge_f (tp := 204) B 176 dX2_nextToken_173 (by decide) rfl (by (try simp only [xlit]); first | (rw [nI_leI (by omega) (by omega)]; omega) | (rw [nI_ltI (by omega) (by omega)]; omega) | (rw [nI_eq (by omega) (by omega)]; omega)) ?_
        refine x_aload0 B 177 dX2_nextToken_176 rfl (by first | rfl | exact xisR_rf _) ?_
        refine g_X2_17_X2 B 180 (by repeat (first | with_reducible exact xr_h | refine xr_t ?_)) dX2_nextToken_177 rfl ?_
        refine x_aload0 B 181 dX2_nextToken_180 rfl (by first | rfl | exact xisR_rf _) ?_
        refine g_X2_125_X2 B 184 (by repeat (first | with_reducible exact xr_h | refine xr_t ?_)) dX2_nextToken_181 rfl ?_
        rw [h2]
        refine x_ialdv B 185 (by repeat (first | with_reducible exact xr_h | refine xr_t ?_)) (j := q) (by first | (simp only [xlit, nI_add, pk_mul]; done) | rfl | (simp only [xlit, nI_add, pk_mul]; congr 1; omega)) ⟨by first | omega | decide, by first | decide | omega⟩ x2 dX2_nextToken_184 rfl ?_
        refine x_callS B 188 (m_X2_isDigit _) [] rfl q1893 q1894 q92 q1895 hd_X2_isDigit rfl ⟨by first | decide | omega, by first | decide | omega⟩ ⟨by first | decide | omega, by first | decide | omega⟩ rfl (Nat.le_of_ble_eq_true rfl) dX2_nextToken_185 rfl (fun _ _ _ h => h.elim) ?_
        rintro _ _ ⟨rfl, rfl⟩
        try simp only [xst, xput, xpre, List.set_cons_zero, List.set_cons_succ]
        rw [isD_x x3]
        unfold scan at h3
        rw [x1] at h3
        dsimp only at h3
        by_cases c2 : isD x = true
        · rw [if_pos c2] at h3
          refine x_if_eq_f (tp := 204) B 191 dX2_nextToken_188 (by decide) rfl (by rw [c2]; decide) ?_
          refine x_aload0 B 192 dX2_nextToken_191 rfl (by first | rfl | exact xisR_rf _) ?_
          refine x_dup B 193 dX2_nextToken_192 rfl rfl ?_
          refine g_X2_125_X2 B 196 (by repeat (first | with_reducible exact xr_h | refine xr_t ?_)) dX2_nextToken_193 rfl ?_
          rw [h2]
          refine x_iconst B 197 (v := 1) dX2_nextToken_196 (by decide) rfl ?_
          refine x_iadd B 198 dX2_nextToken_197 rfl ?_
          rw [show nI q + 1 = nI (q + 1) from nI_1 _]
          refine s_X2_125_X2 B 201 (by repeat (first | with_reducible exact xu_h | apply xu_t)) dX2_nextToken_198 rfl ?_
          refine x_goto B 165 dX2_nextToken_201 (by decide) ?_
          exact ih (q + 1) (by omega) (by omega) _ (by rw [pk_un (by omega)]; exact h4) (by rw [pk_un (by omega)]; exact h1) pk_us h3 (fun j hj => by rw [pk_un (by omega)]; exact hI j hj)
        · rw [if_neg c2] at h3
          rw [Bool.not_eq_true] at c2
          refine x_if_eq_t B 204 dX2_nextToken_188 (by decide) (by rw [c2]; rfl) ?_
          exact fin iv1 h1 (h2.trans (congrArg nI h3)) hI
  have tok : ∀ iv1 : Nat → Int32, iv1 4 = nI T.length → iv1 16 = nI (hTok T p).1 → I4 (fun j => j = 16 ∨ j = 17) iv iv1 → WX D X [tR D h ad iv1, tI D ad 3 200 tx] 0 0 46 [some (.ref h)] [] := by
    intro iv1 h4 h1 hI
    have e2 : (hTok T p).2 = hEnd T (hTok T p).1 := rfl
    generalize hTok T p = tk at *
    obtain ⟨f, b⟩ := tk
    dsimp only at *
    subst e2
    refine x_aload0 B 47 dX2_nextToken_46 rfl (by first | rfl | exact xisR_rf _) ?_
    refine x_aload0 B 48 dX2_nextToken_47 rfl (by first | rfl | exact xisR_rf _) ?_
    refine g_X2_128_X2 B 51 (by repeat (first | with_reducible exact xr_h | refine xr_t ?_)) dX2_nextToken_48 rfl ?_
    refine x_aload0 B 52 dX2_nextToken_51 rfl (by first | rfl | exact xisR_rf _) ?_
    refine g_X2_113_X2 B 55 (by repeat (first | with_reducible exact xr_h | refine xr_t ?_)) dX2_nextToken_52 rfl ?_
    rw [h1, h4]
    rcases Nat.eq_or_lt_of_le (Nat.le_trans hb.2.1 hb.2.2.1) with c | c
    · subst c
      have e3 : hEnd T T.length = T.length := by unfold hEnd; rw [List.getElem?_eq_none (Nat.le_refl _)]
      refine x_icmp_ge_t B 67 dX2_nextToken_55 (by decide) (by (try simp only [xlit]); first | (rw [nI_leI (by omega) (by omega)]; omega) | (rw [nI_ltI (by omega) (by omega)]; omega) | (rw [nI_eq (by omega) (by omega)]; omega)) ?_
      refine x_aload0 B 68 dX2_nextToken_67 rfl (by first | rfl | exact xisR_rf _) ?_
      refine g_X2_128_X2 B 71 (by repeat (first | with_reducible exact xr_h | refine xr_t ?_)) dX2_nextToken_68 rfl ?_
      rw [h1]
      refine s_X2_125_X2 B 74 (by repeat (first | with_reducible exact xu_h | apply xu_t)) dX2_nextToken_71 rfl ?_
      refine x_aload0 B 75 dX2_nextToken_74 rfl (by first | rfl | exact xisR_rf _) ?_
      refine g_X2_128_X2 B 78 (by repeat (first | with_reducible exact xr_h | refine xr_t ?_)) dX2_nextToken_75 rfl ?_
      refine x_aload0 B 79 dX2_nextToken_78 rfl (by first | rfl | exact xisR_rf _) ?_
      refine g_X2_113_X2 B 82 (by repeat (first | with_reducible exact xr_h | refine xr_t ?_)) dX2_nextToken_79 rfl ?_
      rw [show upd iv1 17 (nI T.length) 16 = nI T.length from (pk_un (by omega)).trans h1, show upd iv1 17 (nI T.length) 4 = nI T.length from (pk_un (by omega)).trans h4]
      refine x_icmp_ge_t B 139 dX2_nextToken_82 (by decide) (by (try simp only [xlit]); first | (rw [nI_leI (by omega) (by omega)]; omega) | (rw [nI_ltI (by omega) (by omega)]; omega) | (rw [nI_eq (by omega) (by omega)]; omega)) ?_
      refine x_aload0 B 140 dX2_nextToken_139 rfl (by first | rfl | exact xisR_rf _) ?_
      refine g_X2_128_X2 B 143 (by repeat (first | with_reducible exact xr_h | refine xr_t ?_)) dX2_nextToken_140 rfl ?_
      refine x_aload0 B 144 dX2_nextToken_143 rfl (by first | rfl | exact xisR_rf _) ?_
      refine g_X2_113_X2 B 147 (by repeat (first | with_reducible exact xr_h | refine xr_t ?_)) dX2_nextToken_144 rfl ?_
      rw [show upd iv1 17 (nI T.length) 16 = nI T.length from (pk_un (by omega)).trans h1, show upd iv1 17 (nI T.length) 4 = nI T.length from (pk_un (by omega)).trans h4]
      refine x_icmp_ge_t B 204 dX2_nextToken_147 (by decide) (by (try simp only [xlit]); first | (rw [nI_leI (by omega) (by omega)]; omega) | (rw [nI_ltI (by omega) (by omega)]; omega) | (rw [nI_eq (by omega) (by omega)]; omega)) ?_
      exact fin _ ((pk_un (by omega)).trans h1) (by rw [pk_us, e3]) (fun j hj => by rw [pk_un (by omega)]; exact hI j hj)
    · obtain ⟨x, x1, x2, x3⟩ := TTx.at ⟨hl, hl2, hr⟩ c
      have e3 : hEnd T f = if isL x = true then scan isL T T.length (f + 1) else if isD x = true then scan isD T T.length (f + 1) else f + 1 := by unfold hEnd; rw [x1]
      refine x_icmp_ge_f (tp := 67) B 58 dX2_nextToken_55 (by decide) rfl (by (try simp only [xlit]); first | (rw [nI_leI (by omega) (by omega)]; omega) | (rw [nI_ltI (by omega) (by omega)]; omega) | (rw [nI_eq (by omega) (by omega)]; omega)) ?_
      refine x_aload0 B 59 dX2_nextToken_58 rfl (by first | rfl | exact xisR_rf _) ?_
      refine g_X2_128_X2 B 62 (by repeat (first | with_reducible exact xr_h | refine xr_t ?_)) dX2_nextToken_59 rfl ?_
      rw [h1]
      refine x_iconst B 63 (v := 1) dX2_nextToken_62 (by decide) rfl ?_
      refine x_iadd B 64 dX2_nextToken_63 rfl ?_
      rw [show nI f + 1 = nI (f + 1) from nI_1 _]
      refine x_goto B 71 dX2_nextToken_64 (by decide) ?_
      refine s_X2_125_X2 B 74 (by repeat (first | with_reducible exact xu_h | apply xu_t)) dX2_nextToken_71 rfl ?_
      have g16 : upd iv1 17 (nI (f + 1)) 16 = nI f := (pk_un (by omega)).trans h1
      have g4 : upd iv1 17 (nI (f + 1)) 4 = nI T.length := (pk_un (by omega)).trans h4
      have g17 : upd iv1 17 (nI (f + 1)) 17 = nI (f + 1) := pk_us
      have gI : I4 (fun j => j = 16 ∨ j = 17) iv (upd iv1 17 (nI (f + 1))) := fun j hj => by rw [pk_un (by omega)]; exact hI j hj
      generalize upd iv1 17 (nI (f + 1)) = iv2 at *
      refine x_aload0 B 75 dX2_nextToken_74 rfl (by first | rfl | exact xisR_rf _) ?_
      refine g_X2_128_X2 B 78 (by repeat (first | with_reducible exact xr_h | refine xr_t ?_)) dX2_nextToken_75 rfl ?_
      refine x_aload0 B 79 dX2_nextToken_78 rfl (by first | rfl | exact xisR_rf _) ?_
      refine g_X2_113_X2 B 82 (by repeat (first | with_reducible exact xr_h | refine xr_t ?_)) dX2_nextToken_79 rfl ?_
      rw [g16, g4]
      refine x_icmp_ge_f (tp := 139) B 85 dX2_nextToken_82 (by decide) rfl (by (try simp only [xlit]); first | (rw [nI_leI (by omega) (by omega)]; omega) | (rw [nI_ltI (by omega) (by omega)]; omega) | (rw [nI_eq (by omega) (by omega)]; omega)) ?_
      refine x_aload0 B 86 dX2_nextToken_85 rfl (by first | rfl | exact xisR_rf _) ?_
      refine g_X2_17_X2 B 89 (by repeat (first | with_reducible exact xr_h | refine xr_t ?_)) dX2_nextToken_86 rfl ?_
      refine x_aload0 B 90 dX2_nextToken_89 rfl (by first | rfl | exact xisR_rf _) ?_
      refine g_X2_128_X2 B 93 (by repeat (first | with_reducible exact xr_h | refine xr_t ?_)) dX2_nextToken_90 rfl ?_
      rw [g16]
      refine x_ialdv B 94 (by repeat (first | with_reducible exact xr_h | refine xr_t ?_)) (j := f) (by first | (simp only [xlit, nI_add, pk_mul]; done) | rfl | (simp only [xlit, nI_add, pk_mul]; congr 1; omega)) ⟨by first | omega | decide, by first | decide | omega⟩ x2 dX2_nextToken_93 rfl ?_
      refine x_callS B 97 (m_X2_isLetter _) [] rfl q1888 q1889 q92 q1890 hd_X2_isLetter rfl ⟨by first | decide | omega, by first | decide | omega⟩ ⟨by first | decide | omega, by first | decide | omega⟩ rfl (Nat.le_of_ble_eq_true rfl) dX2_nextToken_94 rfl (fun _ _ _ h => h.elim) ?_
      rintro _ _ ⟨rfl, rfl⟩
      try simp only [xst, xput, xpre, List.set_cons_zero, List.set_cons_succ]
      rw [isL_x x3]
      by_cases c2 : isL x = true
      · rw [if_pos c2] at e3
        refine x_if_eq_f (tp := 139) B 100 dX2_nextToken_97 (by decide) rfl (by rw [c2]; decide) ?_
        exact lets T.length (f + 1) (by omega) (by omega) iv2 g4 g16 g17 e3.symm gI
      rw [if_neg c2] at e3
      rw [Bool.not_eq_true] at c2
      refine x_if_eq_t B 139 dX2_nextToken_97 (by decide) (by rw [c2]; rfl) ?_
      refine x_aload0 B 140 dX2_nextToken_139 rfl (by first | rfl | exact xisR_rf _) ?_
      refine g_X2_128_X2 B 143 (by repeat (first | with_reducible exact xr_h | refine xr_t ?_)) dX2_nextToken_140 rfl ?_
      refine x_aload0 B 144 dX2_nextToken_143 rfl (by first | rfl | exact xisR_rf _) ?_
      refine g_X2_113_X2 B 147 (by repeat (first | with_reducible exact xr_h | refine xr_t ?_)) dX2_nextToken_144 rfl ?_
      rw [g16, g4]
      refine x_icmp_ge_f (tp := 204) B 150 dX2_nextToken_147 (by decide) rfl (by (try simp only [xlit]); first | (rw [nI_leI (by omega) (by omega)]; omega) | (rw [nI_ltI (by omega) (by omega)]; omega) | (rw [nI_eq (by omega) (by omega)]; omega)) ?_
      refine x_aload0 B 151 dX2_nextToken_150 rfl (by first | rfl | exact xisR_rf _) ?_
      refine g_X2_17_X2 B 154 (by repeat (first | with_reducible exact xr_h | refine xr_t ?_)) dX2_nextToken_151 rfl ?_
      refine x_aload0 B 155 dX2_nextToken_154 rfl (by first | rfl | exact xisR_rf _) ?_
      refine g_X2_128_X2 B 158 (by repeat (first | with_reducible exact xr_h | refine xr_t ?_)) dX2_nextToken_155 rfl ?_
      rw [g16]
      refine x_ialdv B 159 (by repeat (first | with_reducible exact xr_h | refine xr_t ?_)) (j := f) (by first | (simp only [xlit, nI_add, pk_mul]; done) | rfl | (simp only [xlit, nI_add, pk_mul]; congr 1; omega)) ⟨by first | omega | decide, by first | decide | omega⟩ x2 dX2_nextToken_158 rfl ?_
      refine x_callS B 162 (m_X2_isDigit _) [] rfl q1893 q1894 q92 q1895 hd_X2_isDigit rfl ⟨by first | decide | omega, by first | decide | omega⟩ ⟨by first | decide | omega, by first | decide | omega⟩ rfl (Nat.le_of_ble_eq_true rfl) dX2_nextToken_159 rfl (fun _ _ _ h => h.elim) ?_
      rintro _ _ ⟨rfl, rfl⟩
      try simp only [xst, xput, xpre, List.set_cons_zero, List.set_cons_succ]
      rw [isD_x x3]
      by_cases c3 : isD x = true
      · rw [if_pos c3] at e3
        refine x_if_eq_f (tp := 204) B 165 dX2_nextToken_162 (by decide) rfl (by rw [c3]; decide) ?_
        exact digs T.length (f + 1) (by omega) (by omega) iv2 g4 g16 g17 e3.symm gI
      · rw [if_neg c3] at e3
        rw [Bool.not_eq_true] at c3
        refine x_if_eq_t B 204 dX2_nextToken_162 (by decide) (by rw [c3]; rfl) ?_
        exact fin iv2 g16 (g17.trans (congrArg nI e3.symm)) gI
  have skip : ∀ (n q : Nat), T.length ≤ q + n → q ≤ T.length → ∀ iv1 : Nat → Int32, iv1 4 = nI T.length → iv1 16 = nI q → scan (fun c => decide (c = 32)) T n q = (hTok T p).1 → I4 (fun j => j = 16 ∨ j = 17) iv iv1 → WX D X [tR D h ad iv1, tI D ad 3 200 tx] 0 0 8 [some (.ref h)] [] := by
    intro n
    induction n with
    | zero =>
      intro q hn hq iv1 h4 h1 h3 hI
      obtain rfl : q = T.length := by omega
      refine x_aload0 B 9 dX2_nextToken_8 rfl (by first | rfl | exact xisR_rf _) ?_
      refine g_X2_128_X2 B 12 (by repeat (first | with_reducible exact xr_h | refine xr_t ?_)) dX2_nextToken_9 rfl ?_
      refine x_aload0 B 13 dX2_nextToken_12 rfl (by first | rfl | exact xisR_rf _) ?_
      refine g_X2_113_X2 B 16 (by repeat (first | with_reducible exact xr_h | refine xr_t ?_)) dX2_nextToken_13 rfl ?_
      rw [h1, h4]
      refine x_icmp_ge_t B 46 dX2_nextToken_16 (by decide) (by (try simp only [xlit]); first | (rw [nI_leI (by omega) (by omega)]; omega) | (rw [nI_ltI (by omega) (by omega)]; omega) | (rw [nI_eq (by omega) (by omega)]; omega)) ?_
      exact tok iv1 h4 (h1.trans (congrArg nI h3)) hI
    | succ n ih =>
      intro q hn hq iv1 h4 h1 h3 hI
      rcases Nat.eq_or_lt_of_le hq with c | c
      · subst c
        refine x_aload0 B 9 dX2_nextToken_8 rfl (by first | rfl | exact xisR_rf _) ?_
        refine g_X2_128_X2 B 12 (by repeat (first | with_reducible exact xr_h | refine xr_t ?_)) dX2_nextToken_9 rfl ?_
        refine x_aload0 B 13 dX2_nextToken_12 rfl (by first | rfl | exact xisR_rf _) ?_
        refine g_X2_113_X2 B 16 (by repeat (first | with_reducible exact xr_h | refine xr_t ?_)) dX2_nextToken_13 rfl ?_
        rw [h1, h4]
        refine x_icmp_ge_t B 46 dX2_nextToken_16 (by decide) (by (try simp only [xlit]); first | (rw [nI_leI (by omega) (by omega)]; omega) | (rw [nI_ltI (by omega) (by omega)]; omega) | (rw [nI_eq (by omega) (by omega)]; omega)) ?_
        refine tok iv1 h4 (h1.trans (congrArg nI ?_)) hI
        rw [← h3]; unfold scan; rw [List.getElem?_eq_none (Nat.le_refl _)]
      · obtain ⟨x, x1, x2, x3⟩ := TTx.at ⟨hl, hl2, hr⟩ c
        refine x_aload0 B 9 dX2_nextToken_8 rfl (by first | rfl | exact xisR_rf _) ?_
        refine g_X2_128_X2 B 12 (by repeat (first | with_reducible exact xr_h | refine xr_t ?_)) dX2_nextToken_9 rfl ?_
        refine x_aload0 B 13 dX2_nextToken_12 rfl (by first | rfl | exact xisR_rf _) ?_
        refine g_X2_113_X2 B 16 (by repeat (first | with_reducible exact xr_h | refine xr_t ?_)) dX2_nextToken_13 rfl ?_
        rw [h1, h4]
        refine x_icmp_ge_f (tp := 46) B 19 dX2_nextToken_16 (by decide) rfl (by (try simp only [xlit]); first | (rw [nI_leI (by omega) (by omega)]; omega) | (rw [nI_ltI (by omega) (by omega)]; omega) | (rw [nI_eq (by omega) (by omega)]; omega)) ?_
        refine x_aload0 B 20 dX2_nextToken_19 rfl (by first | rfl | exact xisR_rf _) ?_
        refine g_X2_17_X2 B 23 (by repeat (first | with_reducible exact xr_h | refine xr_t ?_)) dX2_nextToken_20 rfl ?_
        refine x_aload0 B 24 dX2_nextToken_23 rfl (by first | rfl | exact xisR_rf _) ?_
        refine g_X2_128_X2 B 27 (by repeat (first | with_reducible exact xr_h | refine xr_t ?_)) dX2_nextToken_24 rfl ?_
        rw [h1]
        refine x_ialdv B 28 (by repeat (first | with_reducible exact xr_h | refine xr_t ?_)) (j := q) (by first | (simp only [xlit, nI_add, pk_mul]; done) | rfl | (simp only [xlit, nI_add, pk_mul]; congr 1; omega)) ⟨by first | omega | decide, by first | decide | omega⟩ x2 dX2_nextToken_27 rfl ?_
        unfold scan at h3
        rw [x1] at h3
        dsimp only at h3
        by_cases c2 : x = 32
        · rw [if_pos (by simp [c2])] at h3
          refine x_bipush B 30 (v := 32) dX2_nextToken_28 (by decide) rfl ?_
          refine x_icmp_ne_f (tp := 46) B 33 dX2_nextToken_30 (by decide) rfl (by (try simp only [xlit]); first | (rw [nI_leI (by omega) (by omega)]; omega) | (rw [nI_ltI (by omega) (by omega)]; omega) | (rw [nI_eq (by omega) (by omega)]; omega)) ?_
          refine x_aload0 B 34 dX2_nextToken_33 rfl (by first | rfl | exact xisR_rf _) ?_
          refine x_dup B 35 dX2_nextToken_34 rfl rfl ?_
          refine g_X2_128_X2 B 38 (by repeat (first | with_reducible exact xr_h | refine xr_t ?_)) dX2_nextToken_35 rfl ?_
          rw [h1]
          refine x_iconst B 39 (v := 1) dX2_nextToken_38 (by decide) rfl ?_
          refine x_iadd B 40 dX2_nextToken_39 rfl ?_
          rw [show nI q + 1 = nI (q + 1) from nI_1 _]
          refine s_X2_128_X2 B 43 (by repeat (first | with_reducible exact xu_h | apply xu_t)) dX2_nextToken_40 rfl ?_
          refine x_goto B 8 dX2_nextToken_43 (by decide) ?_
          exact ih (q + 1) (by omega) (by omega) _ (by rw [pk_un (by omega)]; exact h4) pk_us h3 (fun j hj => by rw [pk_un (by omega)]; exact hI j hj)
        · rw [if_neg (by simp [c2])] at h3
          refine x_bipush B 30 (v := 32) dX2_nextToken_28 (by decide) rfl ?_
          refine x_icmp_ne_t B 46 dX2_nextToken_30 (by decide) (by (try simp only [xlit]); first | (rw [nI_leI (by omega) (by omega)]; omega) | (rw [nI_ltI (by omega) (by omega)]; omega) | (rw [nI_eq (by omega) (by omega)]; omega)) ?_
          exact tok iv1 h4 (h1.trans (congrArg nI h3)) hI
  refine x_aload0 B 1 dX2_nextToken_0 rfl (by first | rfl | exact xisR_rf _) ?_
  refine x_aload0 B 2 dX2_nextToken_1 rfl (by first | rfl | exact xisR_rf _) ?_
  refine g_X2_125_X2 B 5 (by repeat (first | with_reducible exact xr_h | refine xr_t ?_)) dX2_nextToken_2 rfl ?_
  rw [h17]
  refine s_X2_128_X2 B 8 (by repeat (first | with_reducible exact xu_h | apply xu_t)) dX2_nextToken_5 rfl ?_
  exact skip T.length p (by omega) hp _ (by rw [pk_un (by omega)]; exact hl) pk_us rfl (fun j hj => by rw [pk_un (by omega)])
theorem m_X2_numberHere (hT : TTx tx iv T) (hk : TTok iv T tk) (below : Nat) (hb : below ≤ 10) : XC D yX2_numberHere (ws_ yX2_numberHere cX2_numberHere 3 (Option.some Jvm.ClassFile.FieldType.int)) 2 80 (0) (0) [.ref h, .int (nI below)] [tR D h ad iv, tI D ad 3 200 tx] (fun r cs' => r = some (.int (oI (hNum T tk below))) ∧ cs' = [tR D h ad iv, tI D ad 3 200 tx]) x0 := by
  refine XC.of (by decide) (by simp [Value.category]) (Nat.le_of_ble_eq_true rfl) fun X B => ?_
  show WX D X [tR D h ad iv, tI D ad 3 200 tx] 0 0 0 [some (.ref h), some (.int (nI below)), none] []
  have hT0 := hT
  obtain ⟨hl, hl2, hr⟩ := hT
  obtain ⟨f, b⟩ := tk
  obtain ⟨k1, k2, k3, k4, k5⟩ := hk
  dsimp only at *
  have no : hNum T (f, b) below = none → WX D X [tR D h ad iv, tI D ad 3 200 tx] 0 0 59 [some (.ref h), some (.int (nI below)), none] [] := by
    intro e
    refine x_iconst B 60 (v := 0) dX2_numberHere_59 (by decide) rfl ?_
    refine x_istore2 B 61 dX2_numberHere_60 rfl ?_
    refine x_iload2 B 62 dX2_numberHere_61 rfl ?_
    refine x_if_eq_t B 80 dX2_numberHere_62 (by decide) rfl ?_
    refine x_iconst B 81 (v := (-1)) dX2_numberHere_80 (by decide) rfl ?_
    exact x_iret B rfl ⟨by rw [e]; rfl, rfl⟩ dX2_numberHere_81 ⟨by first | omega | decide, by first | omega | decide⟩
  refine x_aload0 B 1 dX2_numberHere_0 rfl (by first | rfl | exact xisR_rf _) ?_
  refine g_X2_128_X2 B 4 (by repeat (first | with_reducible exact xr_h | refine xr_t ?_)) dX2_numberHere_1 rfl ?_
  refine x_aload0 B 5 dX2_numberHere_4 rfl (by first | rfl | exact xisR_rf _) ?_
  refine g_X2_113_X2 B 8 (by repeat (first | with_reducible exact xr_h | refine xr_t ?_)) dX2_numberHere_5 rfl ?_
  rw [k1, hl]
  rcases Nat.lt_or_ge f T.length with c | c
  · obtain ⟨x, x1, x2, x3⟩ := hT0.at c
    have e3 : hNum T (f, b) below = if 48 ≤ x ∧ x ≤ 57 ∧ b = f + 1 ∧ x < 48 + below then some (x - 48) else none := by unfold hNum; dsimp only; rw [x1]
    refine x_icmp_ge_f (tp := 59) B 11 dX2_numberHere_8 (by decide) rfl (by (try simp only [xlit]); first | (rw [nI_leI (by omega) (by omega)]; omega) | (rw [nI_ltI (by omega) (by omega)]; omega) | (rw [nI_eq (by omega) (by omega)]; omega)) ?_
    refine x_aload0 B 12 dX2_numberHere_11 rfl (by first | rfl | exact xisR_rf _) ?_
    refine g_X2_17_X2 B 15 (by repeat (first | with_reducible exact xr_h | refine xr_t ?_)) dX2_numberHere_12 rfl ?_
    refine x_aload0 B 16 dX2_numberHere_15 rfl (by first | rfl | exact xisR_rf _) ?_
    refine g_X2_128_X2 B 19 (by repeat (first | with_reducible exact xr_h | refine xr_t ?_)) dX2_numberHere_16 rfl ?_
    rw [k1]
    refine x_ialdv B 20 (by repeat (first | with_reducible exact xr_h | refine xr_t ?_)) (j := f) (by first | (simp only [xlit, nI_add, pk_mul]; done) | rfl | (simp only [xlit, nI_add, pk_mul]; congr 1; omega)) ⟨by first | omega | decide, by first | decide | omega⟩ x2 dX2_numberHere_19 rfl ?_
    refine x_callS B 23 (m_X2_isDigit _) [] rfl q1893 q1894 q92 q1895 hd_X2_isDigit rfl ⟨by first | decide | omega, by first | decide | omega⟩ ⟨by first | decide | omega, by first | decide | omega⟩ rfl (Nat.le_of_ble_eq_true rfl) dX2_numberHere_20 rfl (fun _ _ _ h => h.elim) ?_
    rintro _ _ ⟨rfl, rfl⟩
    try simp only [xst, xput, xpre, List.set_cons_zero, List.set_cons_succ]
    rw [isD_x x3]
    by_cases c2 : isD x = true
    · have c2' : 48 ≤ x ∧ x ≤ 57 := by simpa [isD] using c2
      refine x_if_eq_f (tp := 59) B 26 dX2_numberHere_23 (by decide) rfl (by rw [c2]; decide) ?_
      refine x_aload0 B 27 dX2_numberHere_26 rfl (by first | rfl | exact xisR_rf _) ?_
      refine g_X2_125_X2 B 30 (by repeat (first | with_reducible exact xr_h | refine xr_t ?_)) dX2_numberHere_27 rfl ?_
      refine x_aload0 B 31 dX2_numberHere_30 rfl (by first | rfl | exact xisR_rf _) ?_
      refine g_X2_128_X2 B 34 (by repeat (first | with_reducible exact xr_h | refine xr_t ?_)) dX2_numberHere_31 rfl ?_
      rw [k2, k1]
      refine x_isub B 35 dX2_numberHere_34 rfl ?_
      rw [show nI b - nI f = nI (b - f) from pk_sub (by omega)]
      by_cases c4 : b = f + 1
      · refine x_iconst B 36 (v := 1) dX2_numberHere_35 (by decide) rfl ?_
        refine x_icmp_ne_f (tp := 59) B 39 dX2_numberHere_36 (by decide) rfl (by (try simp only [xlit]); first | (rw [nI_leI (by omega) (by omega)]; omega) | (rw [nI_ltI (by omega) (by omega)]; omega) | (rw [nI_eq (by omega) (by omega)]; omega)) ?_
        refine x_aload0 B 40 dX2_numberHere_39 rfl (by first | rfl | exact xisR_rf _) ?_
        refine g_X2_17_X2 B 43 (by repeat (first | with_reducible exact xr_h | refine xr_t ?_)) dX2_numberHere_40 rfl ?_
        refine x_aload0 B 44 dX2_numberHere_43 rfl (by first | rfl | exact xisR_rf _) ?_
        refine g_X2_128_X2 B 47 (by repeat (first | with_reducible exact xr_h | refine xr_t ?_)) dX2_numberHere_44 rfl ?_
        rw [k1]
        refine x_ialdv B 48 (by repeat (first | with_reducible exact xr_h | refine xr_t ?_)) (j := f) (by first | (simp only [xlit, nI_add, pk_mul]; done) | rfl | (simp only [xlit, nI_add, pk_mul]; congr 1; omega)) ⟨by first | omega | decide, by first | decide | omega⟩ x2 dX2_numberHere_47 rfl ?_
        refine x_bipush B 50 (v := 48) dX2_numberHere_48 (by decide) rfl ?_
        refine x_isub B 51 dX2_numberHere_50 rfl ?_
        rw [show nI x - 48 = nI (x - 48) from pk_sub (show 48 ≤ x by omega)]
        by_cases c5 : x < 48 + below
        · refine x_iload1 B 52 dX2_numberHere_51 rfl ?_
          refine x_icmp_ge_f (tp := 59) B 55 dX2_numberHere_52 (by decide) rfl (by (try simp only [xlit]); first | (rw [nI_leI (by omega) (by omega)]; omega) | (rw [nI_ltI (by omega) (by omega)]; omega) | (rw [nI_eq (by omega) (by omega)]; omega)) ?_
          refine x_iconst B 56 (v := 1) dX2_numberHere_55 (by decide) rfl ?_
          refine x_goto B 60 dX2_numberHere_56 (by decide) ?_
          refine x_istore2 B 61 dX2_numberHere_60 rfl ?_
          refine x_iload2 B 62 dX2_numberHere_61 rfl ?_
          refine x_if_eq_f (tp := 80) B 65 dX2_numberHere_62 (by decide) rfl (by decide) ?_
          refine x_aload0 B 66 dX2_numberHere_65 rfl (by first | rfl | exact xisR_rf _) ?_
          refine g_X2_17_X2 B 69 (by repeat (first | with_reducible exact xr_h | refine xr_t ?_)) dX2_numberHere_66 rfl ?_
          refine x_aload0 B 70 dX2_numberHere_69 rfl (by first | rfl | exact xisR_rf _) ?_
          refine g_X2_128_X2 B 73 (by repeat (first | with_reducible exact xr_h | refine xr_t ?_)) dX2_numberHere_70 rfl ?_
          rw [k1]
          refine x_ialdv B 74 (by repeat (first | with_reducible exact xr_h | refine xr_t ?_)) (j := f) (by first | (simp only [xlit, nI_add, pk_mul]; done) | rfl | (simp only [xlit, nI_add, pk_mul]; congr 1; omega)) ⟨by first | omega | decide, by first | decide | omega⟩ x2 dX2_numberHere_73 rfl ?_
          refine x_bipush B 76 (v := 48) dX2_numberHere_74 (by decide) rfl ?_
          refine x_isub B 77 dX2_numberHere_76 rfl ?_
          rw [show nI x - 48 = nI (x - 48) from pk_sub (show 48 ≤ x by omega)]
          refine x_goto B 81 dX2_numberHere_77 (by decide) ?_
          exact x_iret B rfl ⟨by rw [e3, if_pos ⟨c2'.1, c2'.2, c4, c5⟩]; rfl, rfl⟩ dX2_numberHere_81 ⟨by first | omega | decide, by first | omega | decide⟩
        · refine x_iload1 B 52 dX2_numberHere_51 rfl ?_
          refine x_icmp_ge_t B 59 dX2_numberHere_52 (by decide) (by (try simp only [xlit]); first | (rw [nI_leI (by omega) (by omega)]; omega) | (rw [nI_ltI (by omega) (by omega)]; omega) | (rw [nI_eq (by omega) (by omega)]; omega)) ?_
          exact no (by rw [e3, if_neg (fun z => c5 z.2.2.2)])
      · refine x_iconst B 36 (v := 1) dX2_numberHere_35 (by decide) rfl ?_
        refine x_icmp_ne_t B 59 dX2_numberHere_36 (by decide) (by (try simp only [xlit]); first | (rw [nI_leI (by omega) (by omega)]; omega) | (rw [nI_ltI (by omega) (by omega)]; omega) | (rw [nI_eq (by omega) (by omega)]; omega)) ?_
        exact no (by rw [e3, if_neg (fun z => c4 z.2.2.1)])
    · have c2' : ¬ (48 ≤ x ∧ x ≤ 57) := by simpa [isD] using c2
      rw [Bool.not_eq_true] at c2
      refine x_if_eq_t B 59 dX2_numberHere_23 (by decide) (by rw [c2]; rfl) ?_
      exact no (by rw [e3, if_neg (fun z => c2' ⟨z.1, z.2.1⟩)])
  · refine x_icmp_ge_t B 59 dX2_numberHere_8 (by decide) (by (try simp only [xlit]); first | (rw [nI_leI (by omega) (by omega)]; omega) | (rw [nI_ltI (by omega) (by omega)]; omega) | (rw [nI_eq (by omega) (by omega)]; omega)) ?_
    exact no (by unfold hNum; dsimp only; rw [List.getElem?_eq_none c])
theorem m_X2_number (hT : TTx tx iv T) (hk : TTok iv T tk) (below : Nat) (hb : below ≤ 10) : XC D yX2_number (ws_ yX2_number cX2_number 3 (Option.some Jvm.ClassFile.FieldType.int)) 3 120 (0) (0) [.ref h, .int (nI below)] [tR D h ad iv, tI D ad 3 200 tx] (fun r cs' => r = some (.int (oI (hNum T tk below))) ∧ ∃ iv', TTok iv' T (if hNum T tk below = none then tk else hTok T tk.2) ∧ I4 (fun j => j = 16 ∨ j = 17) iv iv' ∧ cs' = [tR D h ad iv', tI D ad 3 200 tx]) x0 := by
  refine XC.of (by decide) (by simp [Value.category]) (Nat.le_of_ble_eq_true rfl) fun X B => ?_
  show WX D X [tR D h ad iv, tI D ad 3 200 tx] 0 0 0 [some (.ref h), some (.int (nI below)), none] []
  refine x_aload0 B 1 dX2_number_0 rfl (by first | rfl | exact xisR_rf _) ?_
  refine x_iload1 B 2 dX2_number_1 rfl ?_
  refine x_callV B 5 (m_X2_numberHere hT hk below hb) [0, 1] rfl ⟨_, _, _, (by repeat (first | with_reducible exact xr_h | refine xr_t ?_)), rfl, rfl⟩ q1918 q1920 qs47 q92 q1921 hd_X2_numberHere (by decide) ⟨by first | decide | omega, by first | decide | omega⟩ ⟨by first | decide | omega, by first | decide | omega⟩ rfl (Nat.le_of_ble_eq_true rfl) dX2_number_2 rfl (fun _ _ _ h => h.elim) ?_
  rintro _ _ ⟨rfl, rfl⟩
  try simp only [xst, xput, xpre, List.set_cons_zero, List.set_cons_succ]
  cases e : hNum T tk below with
  | none =>
    refine x_istore2 B 6 dX2_number_5 rfl ?_
    refine x_iload2 B 7 dX2_number_6 rfl ?_
    refine x_iconst B 8 (v := (-1)) dX2_number_7 (by decide) rfl ?_
    refine x_icmp_eq_t B 15 dX2_number_8 (by decide) rfl ?_
    refine x_iload2 B 16 dX2_number_15 rfl ?_
    exact x_iret B rfl ⟨by rw [e], iv, by rw [if_pos e]; exact hk, fun _ _ => rfl, rfl⟩ dX2_number_16 ⟨by first | omega | decide, by first | omega | decide⟩
  | some v =>
    have hv := hNum_lt e
    refine x_istore2 B 6 dX2_number_5 rfl ?_
    refine x_iload2 B 7 dX2_number_6 rfl ?_
    refine x_iconst B 8 (v := (-1)) dX2_number_7 (by decide) rfl ?_
    refine x_icmp_eq_f (tp := 15) B 11 dX2_number_8 (by decide) rfl (ne_m1 (by omega)) ?_
    refine x_aload0 B 12 dX2_number_11 rfl (by first | rfl | exact xisR_rf _) ?_
    refine x_callV B 15 (m_X2_nextToken hT tk.2 hk.2.2.2.1 hk.2.1) [0, 1] rfl ⟨_, _, _, (by repeat (first | with_reducible exact xr_h | refine xr_t ?_)), rfl, rfl⟩ q1884 q1886 qs41 q92 q1887 hd_X2_nextToken (by decide) ⟨by first | decide | omega, by first | decide | omega⟩ ⟨by first | decide | omega, by first | decide | omega⟩ rfl (Nat.le_of_ble_eq_true rfl) dX2_number_12 rfl (fun _ _ _ h => h.elim) ?_
    rintro _ _ ⟨rfl, iv2, k2, I2, rfl⟩
    try simp only [xst, xput, xpre, List.set_cons_zero, List.set_cons_succ]
    refine x_iload2 B 16 dX2_number_15 rfl ?_
    exact x_iret B rfl ⟨by rw [e], iv2, by rw [if_neg (by rw [e]; simp)]; exact k2, I2, rfl⟩ dX2_number_16 ⟨by first | omega | decide, by first | omega | decide⟩
end T12
