/-! the twin, 13: words -/
section T13
variable {D : xG} {h : Nat} {ad : Nat → Nat} {iv row zk tx rb : Nat → Int32} {T : List Nat} {tk : Nat × Nat}
theorem m_X2_words (hT : TTx tx iv T) (hk : TTok iv T tk) (most : Nat) (hm : most ≤ 10) : XC D yX2_words (ws_ yX2_words cX2_words 6 (Option.some Jvm.ClassFile.FieldType.int)) 3 120 (0) (0) [.ref h, .int (nI most)] [tR D h ad iv, tI D ad 3 200 tx] (fun r cs' => r = some (.int (nI ((hWords T tk most).getD 0))) ∧ ∃ iv', TTok iv' T (if hWords T tk most = none then tk else hTok T tk.2) ∧ I4 (fun j => j = 16 ∨ j = 17) iv iv' ∧ cs' = [tR D h ad iv', tI D ad 3 200 tx]) x0 := by
  refine XC.of (by decide) (by simp [Value.category]) (Nat.le_of_ble_eq_true rfl) fun X B => ?_
  show WX D X [tR D h ad iv, tI D ad 3 200 tx] 0 0 0 [some (.ref h), some (.int (nI most)), none, none, none, none] []
  have hT0 := hT
  have hk0 := hk
  have hlt := fun v => hWords_lt (T := T) (tk := tk) (k := most) (v := v) hk.2.2.2.2
  obtain ⟨hl, hl2, hr⟩ := hT
  obtain ⟨f, b⟩ := tk
  obtain ⟨k1, k2, k3, k4, k5⟩ := hk
  dsimp only at *
  -- the end
  have no : ∀ set last k : Int32, hWords T (f, b) most = none → WX D X [tR D h ad iv, tI D ad 3 200 tx] 0 0 138 [some (.ref h), some (.int (nI most)), some (.int set), some (.int 0), some (.int last), some (.int k)] [] := by
    intro set last k e
    refine x_iload3 B 139 dX2_words_138 rfl ?_
    refine x_if_eq_t B 146 dX2_words_139 (by decide) rfl ?_
    refine x_iload3 B 147 dX2_words_146 rfl ?_
    refine x_if_eq_t B 154 dX2_words_147 (by decide) rfl ?_
    refine x_iconst B 155 (v := 0) dX2_words_154 (by decide) rfl ?_
    exact x_iret B rfl ⟨by rw [e]; rfl, iv, by rw [if_pos e]; exact hk0, fun _ _ => rfl, rfl⟩ dX2_words_155 ⟨by first | omega | decide, by first | omega | decide⟩
  have fail : ∀ (n k : Nat) (set last : Int32), n + k = b → f ≤ k → hWords T (f, b) most = none → WX D X [tR D h ad iv, tI D ad 3 200 tx] 0 0 57 [some (.ref h), some (.int (nI most)), some (.int set), some (.int 0), some (.int last), some (.int (nI k))] [] := by
    intro n k set last hn hk2 e
    rcases Nat.eq_zero_or_pos n with c | c
    · obtain rfl : k = b := by omega
      refine x_iload5 B 59 dX2_words_57 rfl ?_
      refine x_aload0 B 60 dX2_words_59 rfl (by first | rfl | exact xisR_rf _) ?_
      refine g_X2_125_X2 B 63 (by repeat (first | with_reducible exact xr_h | refine xr_t ?_)) dX2_words_60 rfl ?_
      rw [k2]
      refine x_icmp_ge_t B 138 dX2_words_63 (by decide) (by (try simp only [xlit]); first | (rw [nI_leI (by omega) (by omega)]; omega) | (rw [nI_ltI (by omega) (by omega)]; omega) | (rw [nI_eq (by omega) (by omega)]; omega)) ?_
      exact no _ _ _ e
    · refine x_iload5 B 59 dX2_words_57 rfl ?_
      refine x_aload0 B 60 dX2_words_59 rfl (by first | rfl | exact xisR_rf _) ?_
      refine g_X2_125_X2 B 63 (by repeat (first | with_reducible exact xr_h | refine xr_t ?_)) dX2_words_60 rfl ?_
      rw [k2]
      refine x_icmp_ge_f (tp := 138) B 66 dX2_words_63 (by decide) rfl (by (try simp only [xlit]); first | (rw [nI_leI (by omega) (by omega)]; omega) | (rw [nI_ltI (by omega) (by omega)]; omega) | (rw [nI_eq (by omega) (by omega)]; omega)) ?_
      refine x_iload3 B 67 dX2_words_66 rfl ?_
      refine x_if_eq_t B 138 dX2_words_67 (by decide) rfl ?_
      exact no _ _ _ e
  have loop : ∀ (n k set last : Nat), k + n = b → f ≤ k → 96 ≤ last → last < 256 → set < 1024 → hRise T n k last set = hWords T (f, b) most → WX D X [tR D h ad iv, tI D ad 3 200 tx] 0 0 57 [some (.ref h), some (.int (nI most)), some (.int (nI set)), some (.int 1), some (.int (nI last)), some (.int (nI k))] [] := by
    intro n
    induction n with
    | zero =>
      intro k set last hn hk2 h0 h1 h2 h3
      obtain rfl : k = b := by omega
      have e : hWords T (f, k) most = some set := h3.symm
      refine x_iload5 B 59 dX2_words_57 rfl ?_
      refine x_aload0 B 60 dX2_words_59 rfl (by first | rfl | exact xisR_rf _) ?_
      refine g_X2_125_X2 B 63 (by repeat (first | with_reducible exact xr_h | refine xr_t ?_)) dX2_words_60 rfl ?_
      rw [k2]
      refine x_icmp_ge_t B 138 dX2_words_63 (by decide) (by (try simp only [xlit]); first | (rw [nI_leI (by omega) (by omega)]; omega) | (rw [nI_ltI (by omega) (by omega)]; omega) | (rw [nI_eq (by omega) (by omega)]; omega)) ?_
      refine x_iload3 B 139 dX2_words_138 rfl ?_
      refine x_if_eq_f (tp := 146) B 142 dX2_words_139 (by decide) rfl (by decide) ?_
      refine x_aload0 B 143 dX2_words_142 rfl (by first | rfl | exact xisR_rf _) ?_
      refine x_callV B 146 (m_X2_nextToken hT0 k k4 k2) [0, 1] rfl ⟨_, _, _, (by repeat (first | with_reducible exact xr_h | refine xr_t ?_)), rfl, rfl⟩ q1884 q1886 qs41 q92 q1887 hd_X2_nextToken (by decide) ⟨by first | decide | omega, by first | decide | omega⟩ ⟨by first | decide | omega, by first | decide | omega⟩ rfl (Nat.le_of_ble_eq_true rfl) dX2_words_143 rfl (fun _ _ _ h => h.elim) ?_
      rintro _ _ ⟨rfl, iv2, k2', I2, rfl⟩
      try simp only [xst, xput, xpre, List.set_cons_zero, List.set_cons_succ]
      refine x_iload3 B 147 dX2_words_146 rfl ?_
      refine x_if_eq_f (tp := 154) B 150 dX2_words_147 (by decide) rfl (by decide) ?_
      refine x_iload2 B 151 dX2_words_150 rfl ?_
      refine x_goto B 155 dX2_words_151 (by decide) ?_
      exact x_iret B rfl ⟨by rw [e]; rfl, iv2, by rw [if_neg (by rw [e]; simp)]; exact k2', I2, rfl⟩ dX2_words_155 ⟨by first | omega | decide, by first | omega | decide⟩
    | succ n ih =>
      intro k set last hn hk2 h0 h1 h2 h3
      obtain ⟨x, x1, x2, x3⟩ := hT0.at (p := k) (by omega)
      have e1 : hRise T (n + 1) k last set = if last < x ∧ x < 107 then hRise T n (k + 1) x (set ||| 2 ^ (x - 97)) else none := by
        conv => lhs; unfold hRise
        rw [x1]
      rw [e1] at h3
      have bad : ¬ (last < x ∧ x < 107) → WX D X [tR D h ad iv, tI D ad 3 200 tx] 0 0 98 [some (.ref h), some (.int (nI most)), some (.int (nI set)), some (.int 1), some (.int (nI last)), some (.int (nI k))] [] := by
        intro c
        rw [if_neg c] at h3
        refine x_iconst B 99 (v := 0) dX2_words_98 (by decide) rfl ?_
        refine x_istore3 B 100 dX2_words_99 rfl ?_
        refine x_aload0 B 101 dX2_words_100 rfl (by first | rfl | exact xisR_rf _) ?_
        refine g_X2_17_X2 B 104 (by repeat (first | with_reducible exact xr_h | refine xr_t ?_)) dX2_words_101 rfl ?_
        refine x_iload5 B 106 dX2_words_104 rfl ?_
        refine x_ialdv B 107 (by repeat (first | with_reducible exact xr_h | refine xr_t ?_)) (j := k) (by first | (simp only [xlit, nI_add, pk_mul]; done) | rfl | (simp only [xlit, nI_add, pk_mul]; congr 1; omega)) ⟨by first | omega | decide, by first | decide | omega⟩ x2 dX2_words_106 rfl ?_
        refine x_istore4 B 109 dX2_words_107 rfl ?_
        refine x_iload2 B 110 dX2_words_109 rfl ?_
        refine x_iload3 B 111 dX2_words_110 rfl ?_
        refine x_if_eq_t B 129 dX2_words_111 (by decide) rfl ?_
        refine x_iconst B 130 (v := 0) dX2_words_129 (by decide) rfl ?_
        refine x_ior B 131 dX2_words_130 rfl ?_
        rw [show nI set ||| 0 = nI set from (xor_nI set 0).trans (by rw [Nat.or_zero])]
        refine x_istore2 B 132 dX2_words_131 rfl ?_
        refine x_iinc5 B 135 dX2_words_132 rfl (by first | exact xinc _ | rfl) ?_
        refine x_goto B 57 dX2_words_135 (by decide) ?_
        exact fail n (k + 1) _ _ (by omega) (by omega) h3.symm
      refine x_iload5 B 59 dX2_words_57 rfl ?_
      refine x_aload0 B 60 dX2_words_59 rfl (by first | rfl | exact xisR_rf _) ?_
      refine g_X2_125_X2 B 63 (by repeat (first | with_reducible exact xr_h | refine xr_t ?_)) dX2_words_60 rfl ?_
      rw [k2]
      refine x_icmp_ge_f (tp := 138) B 66 dX2_words_63 (by decide) rfl (by (try simp only [xlit]); first | (rw [nI_leI (by omega) (by omega)]; omega) | (rw [nI_ltI (by omega) (by omega)]; omega) | (rw [nI_eq (by omega) (by omega)]; omega)) ?_
      refine x_iload3 B 67 dX2_words_66 rfl ?_
      refine x_if_eq_f (tp := 138) B 70 dX2_words_67 (by decide) rfl (by decide) ?_
      refine x_aload0 B 71 dX2_words_70 rfl (by first | rfl | exact xisR_rf _) ?_
      refine g_X2_17_X2 B 74 (by repeat (first | with_reducible exact xr_h | refine xr_t ?_)) dX2_words_71 rfl ?_
      refine x_iload5 B 76 dX2_words_74 rfl ?_
      refine x_ialdv B 77 (by repeat (first | with_reducible exact xr_h | refine xr_t ?_)) (j := k) (by first | (simp only [xlit, nI_add, pk_mul]; done) | rfl | (simp only [xlit, nI_add, pk_mul]; congr 1; omega)) ⟨by first | omega | decide, by first | decide | omega⟩ x2 dX2_words_76 rfl ?_
      by_cases c1 : last < x
      · refine x_iload4 B 79 dX2_words_77 rfl ?_
        refine x_icmp_le_f (tp := 98) B 82 dX2_words_79 (by decide) rfl (by (try simp only [xlit]); first | (rw [nI_leI (by omega) (by omega)]; omega) | (rw [nI_ltI (by omega) (by omega)]; omega) | (rw [nI_eq (by omega) (by omega)]; omega)) ?_
        refine x_aload0 B 83 dX2_words_82 rfl (by first | rfl | exact xisR_rf _) ?_
        refine g_X2_17_X2 B 86 (by repeat (first | with_reducible exact xr_h | refine xr_t ?_)) dX2_words_83 rfl ?_
        refine x_iload5 B 88 dX2_words_86 rfl ?_
        refine x_ialdv B 89 (by repeat (first | with_reducible exact xr_h | refine xr_t ?_)) (j := k) (by first | (simp only [xlit, nI_add, pk_mul]; done) | rfl | (simp only [xlit, nI_add, pk_mul]; congr 1; omega)) ⟨by first | omega | decide, by first | decide | omega⟩ x2 dX2_words_88 rfl ?_
        by_cases c2 : x < 107
        · refine x_bipush B 91 (v := 107) dX2_words_89 (by decide) rfl ?_
          refine x_icmp_ge_f (tp := 98) B 94 dX2_words_91 (by decide) rfl (by (try simp only [xlit]); first | (rw [nI_leI (by omega) (by omega)]; omega) | (rw [nI_ltI (by omega) (by omega)]; omega) | (rw [nI_eq (by omega) (by omega)]; omega)) ?_
          rw [if_pos ⟨c1, c2⟩] at h3
          refine x_iconst B 95 (v := 1) dX2_words_94 (by decide) rfl ?_
          refine x_goto B 99 dX2_words_95 (by decide) ?_
          refine x_istore3 B 100 dX2_words_99 rfl ?_
          refine x_aload0 B 101 dX2_words_100 rfl (by first | rfl | exact xisR_rf _) ?_
          refine g_X2_17_X2 B 104 (by repeat (first | with_reducible exact xr_h | refine xr_t ?_)) dX2_words_101 rfl ?_
          refine x_iload5 B 106 dX2_words_104 rfl ?_
          refine x_ialdv B 107 (by repeat (first | with_reducible exact xr_h | refine xr_t ?_)) (j := k) (by first | (simp only [xlit, nI_add, pk_mul]; done) | rfl | (simp only [xlit, nI_add, pk_mul]; congr 1; omega)) ⟨by first | omega | decide, by first | decide | omega⟩ x2 dX2_words_106 rfl ?_
          refine x_istore4 B 109 dX2_words_107 rfl ?_
          refine x_iload2 B 110 dX2_words_109 rfl ?_
          refine x_iload3 B 111 dX2_words_110 rfl ?_
          refine x_if_eq_f (tp := 129) B 114 dX2_words_111 (by decide) rfl (by decide) ?_
          refine x_iconst B 115 (v := 1) dX2_words_114 (by decide) rfl ?_
          refine x_aload0 B 116 dX2_words_115 rfl (by first | rfl | exact xisR_rf _) ?_
          refine g_X2_17_X2 B 119 (by repeat (first | with_reducible exact xr_h | refine xr_t ?_)) dX2_words_116 rfl ?_
          refine x_iload5 B 121 dX2_words_119 rfl ?_
          refine x_ialdv B 122 (by repeat (first | with_reducible exact xr_h | refine xr_t ?_)) (j := k) (by first | (simp only [xlit, nI_add, pk_mul]; done) | rfl | (simp only [xlit, nI_add, pk_mul]; congr 1; omega)) ⟨by first | omega | decide, by first | decide | omega⟩ x2 dX2_words_121 rfl ?_
          refine x_bipush B 124 (v := 97) dX2_words_122 (by decide) rfl ?_
          refine x_isub B 125 dX2_words_124 rfl ?_
          rw [show nI x - 97 = nI (x - 97) from pk_sub (show 97 ≤ x by omega)]
          refine x_ishl B 126 dX2_words_125 rfl ?_
          rw [xshl1 (by omega)]
          refine x_goto B 130 dX2_words_126 (by decide) ?_
          refine x_ior B 131 dX2_words_130 rfl ?_
          rw [xor_nI]
          refine x_istore2 B 132 dX2_words_131 rfl ?_
          refine x_iinc5 B 135 dX2_words_132 rfl (by first | exact xinc _ | rfl) ?_
          refine x_goto B 57 dX2_words_135 (by decide) ?_
          have hp : 2 ^ (x - 97) < 1024 := Nat.pow_lt_pow_right (n := 10) (by decide) (by omega)
          exact ih (k + 1) _ x (by omega) (by omega) (by omega) x3 (Nat.or_lt_two_pow (n := 10) h2 hp) h3
        · refine x_bipush B 91 (v := 107) dX2_words_89 (by decide) rfl ?_
          refine x_icmp_ge_t B 98 dX2_words_91 (by decide) (by (try simp only [xlit]); first | (rw [nI_leI (by omega) (by omega)]; omega) | (rw [nI_ltI (by omega) (by omega)]; omega) | (rw [nI_eq (by omega) (by omega)]; omega)) ?_
          exact bad (fun z => c2 z.2)
      · refine x_iload4 B 79 dX2_words_77 rfl ?_
        refine x_icmp_le_t B 98 dX2_words_79 (by decide) (by (try simp only [xlit]); first | (rw [nI_leI (by omega) (by omega)]; omega) | (rw [nI_ltI (by omega) (by omega)]; omega) | (rw [nI_eq (by omega) (by omega)]; omega)) ?_
        exact bad (fun z => c1 z.1)
  have bad : hWords T (f, b) most = none → WX D X [tR D h ad iv, tI D ad 3 200 tx] 0 0 45 [some (.ref h), some (.int (nI most)), some (.int 0), none, none, none] [] := by
    intro e
    refine x_iconst B 46 (v := 0) dX2_words_45 (by decide) rfl ?_
    refine x_istore3 B 47 dX2_words_46 rfl ?_
    refine x_bipush B 49 (v := 96) dX2_words_47 (by decide) rfl ?_
    refine x_istore4 B 51 dX2_words_49 rfl ?_
    refine x_aload0 B 52 dX2_words_51 rfl (by first | rfl | exact xisR_rf _) ?_
    refine g_X2_128_X2 B 55 (by repeat (first | with_reducible exact xr_h | refine xr_t ?_)) dX2_words_52 rfl ?_
    rw [k1]
    refine x_istore5 B 57 dX2_words_55 rfl ?_
    exact fail (b - f) f _ _ (by omega) (Nat.le_refl _) e
  refine x_iconst B 1 (v := 0) dX2_words_0 (by decide) rfl ?_
  refine x_istore2 B 2 dX2_words_1 rfl ?_
  refine x_aload0 B 3 dX2_words_2 rfl (by first | rfl | exact xisR_rf _) ?_
  refine g_X2_128_X2 B 6 (by repeat (first | with_reducible exact xr_h | refine xr_t ?_)) dX2_words_3 rfl ?_
  refine x_aload0 B 7 dX2_words_6 rfl (by first | rfl | exact xisR_rf _) ?_
  refine g_X2_113_X2 B 10 (by repeat (first | with_reducible exact xr_h | refine xr_t ?_)) dX2_words_7 rfl ?_
  rw [k1, hl]
  rcases Nat.lt_or_ge f T.length with c | c
  · obtain ⟨x, x1, x2, x3⟩ := hT0.at c
    have e3 : hWords T (f, b) most = if 97 ≤ x ∧ x ≤ 122 ∧ b ≤ f + most then hRise T (b - f) f 96 0 else none := by unfold hWords; dsimp only; rw [x1]
    refine x_icmp_ge_f (tp := 45) B 13 dX2_words_10 (by decide) rfl (by (try simp only [xlit]); first | (rw [nI_leI (by omega) (by omega)]; omega) | (rw [nI_ltI (by omega) (by omega)]; omega) | (rw [nI_eq (by omega) (by omega)]; omega)) ?_
    refine x_aload0 B 14 dX2_words_13 rfl (by first | rfl | exact xisR_rf _) ?_
    refine g_X2_17_X2 B 17 (by repeat (first | with_reducible exact xr_h | refine xr_t ?_)) dX2_words_14 rfl ?_
    refine x_aload0 B 18 dX2_words_17 rfl (by first | rfl | exact xisR_rf _) ?_
    refine g_X2_128_X2 B 21 (by repeat (first | with_reducible exact xr_h | refine xr_t ?_)) dX2_words_18 rfl ?_
    rw [k1]
    refine x_ialdv B 22 (by repeat (first | with_reducible exact xr_h | refine xr_t ?_)) (j := f) (by first | (simp only [xlit, nI_add, pk_mul]; done) | rfl | (simp only [xlit, nI_add, pk_mul]; congr 1; omega)) ⟨by first | omega | decide, by first | decide | omega⟩ x2 dX2_words_21 rfl ?_
    refine x_callS B 25 (m_X2_isLetter _) [] rfl q1888 q1889 q92 q1890 hd_X2_isLetter rfl ⟨by first | decide | omega, by first | decide | omega⟩ ⟨by first | decide | omega, by first | decide | omega⟩ rfl (Nat.le_of_ble_eq_true rfl) dX2_words_22 rfl (fun _ _ _ h => h.elim) ?_
    rintro _ _ ⟨rfl, rfl⟩
    try simp only [xst, xput, xpre, List.set_cons_zero, List.set_cons_succ]
    rw [isL_x x3]
    by_cases c2 : isL x = true
    · have c2' : 97 ≤ x ∧ x ≤ 122 := by simpa [isL] using c2
      refine x_if_eq_f (tp := 45) B 28 dX2_words_25 (by decide) rfl (by rw [c2]; decide) ?_
      refine x_aload0 B 29 dX2_words_28 rfl (by first | rfl | exact xisR_rf _) ?_
      refine g_X2_125_X2 B 32 (by repeat (first | with_reducible exact xr_h | refine xr_t ?_)) dX2_words_29 rfl ?_
      refine x_aload0 B 33 dX2_words_32 rfl (by first | rfl | exact xisR_rf _) ?_
      refine g_X2_128_X2 B 36 (by repeat (first | with_reducible exact xr_h | refine xr_t ?_)) dX2_words_33 rfl ?_
      rw [k2, k1]
      refine x_isub B 37 dX2_words_36 rfl ?_
      rw [show nI b - nI f = nI (b - f) from pk_sub (by omega)]
      by_cases c4 : b ≤ f + most
      · refine x_iload1 B 38 dX2_words_37 rfl ?_
        refine x_icmp_gt_f (tp := 45) B 41 dX2_words_38 (by decide) rfl (by (try simp only [xlit]); first | (rw [nI_leI (by omega) (by omega)]; omega) | (rw [nI_ltI (by omega) (by omega)]; omega) | (rw [nI_eq (by omega) (by omega)]; omega)) ?_
        rw [if_pos ⟨c2'.1, c2'.2, c4⟩] at e3
        refine x_iconst B 42 (v := 1) dX2_words_41 (by decide) rfl ?_
        refine x_goto B 46 dX2_words_42 (by decide) ?_
        refine x_istore3 B 47 dX2_words_46 rfl ?_
        refine x_bipush B 49 (v := 96) dX2_words_47 (by decide) rfl ?_
        refine x_istore4 B 51 dX2_words_49 rfl ?_
        refine x_aload0 B 52 dX2_words_51 rfl (by first | rfl | exact xisR_rf _) ?_
        refine g_X2_128_X2 B 55 (by repeat (first | with_reducible exact xr_h | refine xr_t ?_)) dX2_words_52 rfl ?_
        rw [k1]
        refine x_istore5 B 57 dX2_words_55 rfl ?_
        exact loop (b - f) f 0 96 (by omega) (Nat.le_refl _) (Nat.le_refl _) (by omega) (by omega) e3.symm
      · refine x_iload1 B 38 dX2_words_37 rfl ?_
        refine x_icmp_gt_t B 45 dX2_words_38 (by decide) (by (try simp only [xlit]); first | (rw [nI_leI (by omega) (by omega)]; omega) | (rw [nI_ltI (by omega) (by omega)]; omega) | (rw [nI_eq (by omega) (by omega)]; omega)) ?_
        exact bad (by rw [e3, if_neg (fun z => c4 z.2.2)])
    · have c2' : ¬ (97 ≤ x ∧ x ≤ 122) := by simpa [isL] using c2
      rw [Bool.not_eq_true] at c2
      refine x_if_eq_t B 45 dX2_words_25 (by decide) (by rw [c2]; rfl) ?_
      exact bad (by rw [e3, if_neg (fun z => c2' ⟨z.1, z.2.1⟩)])
  · refine x_icmp_ge_t B 45 dX2_words_10 (by decide) (by (try simp only [xlit]); first | (rw [nI_leI (by omega) (by omega)]; omega) | (rw [nI_ltI (by omega) (by omega)]; omega) | (rw [nI_eq (by omega) (by omega)]; omega)) ?_
    exact bad (by unfold hWords; dsimp only; rw [List.getElem?_eq_none c])
theorem m_X2_isWord (hT : TTx tx iv T) (hk : TTok iv T tk) (wa : Nat) (w : List Nat) (wf : Nat → Int32) (hw : ∀ k c, w[k]? = some c → wf k = nI c ∧ c < 256) (hw2 : w.length ≤ 10) : XC D yX2_isWord (ws_ yX2_isWord cX2_isWord 4 (Option.some Jvm.ClassFile.FieldType.boolean)) 0 0 (0) (0) [.ref h, .ref wa] [tR D h ad iv, tI D ad 3 200 tx, [(wa, aI (D.2.1 0) w.length wf)]] (fun r cs' => r = some (.int (bI (hIs T tk w))) ∧ cs' = [tR D h ad iv, tI D ad 3 200 tx, [(wa, aI (D.2.1 0) w.length wf)]]) x0 := by
  refine XC.of (by decide) (by simp [Value.category]) (Nat.le_of_ble_eq_true rfl) fun X B => ?_
  show WX D X [tR D h ad iv, tI D ad 3 200 tx, [(wa, aI (D.2.1 0) w.length wf)]] 0 0 0 [some (.ref h), some (.ref wa), none, none] []
  have hT0 := hT
  obtain ⟨hl, hl2, hr⟩ := hT
  obtain ⟨f, b⟩ := tk
  obtain ⟨k1, k2, k3, k4, k5⟩ := hk
  dsimp only at *
  have fin : ∀ (v : Bool) (k : Int32), v = hIs T (f, b) w → WX D X [tR D h ad iv, tI D ad 3 200 tx, [(wa, aI (D.2.1 0) w.length wf)]] 0 0 61 [some (.ref h), some (.ref wa), some (.int (bI v)), some (.int k)] [] := by
    intro v k e
    refine x_iload2 B 62 dX2_isWord_61 rfl ?_
    exact x_zret B rfl ⟨by rw [e], rfl⟩ dX2_isWord_62 ⟨by first | omega | decide, by first | omega | decide⟩ (by first | exact Or.inl rfl | exact Or.inr rfl | exact x_in01 _ _ _ | exact x_has01 _ _ | exact bI01 _ | assumption)
  have no : ∀ k : Nat, k ≤ w.length → hIs T (f, b) w = false → WX D X [tR D h ad iv, tI D ad 3 200 tx, [(wa, aI (D.2.1 0) w.length wf)]] 0 0 22 [some (.ref h), some (.ref wa), some (.int (bI false)), some (.int (nI k))] [] := by
    intro k hk2 e
    rcases Nat.eq_or_lt_of_le hk2 with c | c
    · subst c
      refine x_iload3 B 23 dX2_isWord_22 rfl ?_
      refine x_aload1 B 24 dX2_isWord_23 rfl (by first | rfl | exact xisR_rf _) ?_
      refine x_alen B 25 (t0 := 0) rfl (by repeat (first | with_reducible exact xr_h | refine xr_t ?_)) dX2_isWord_24 rfl ?_
      refine x_icmp_ge_t B 61 dX2_isWord_25 (by decide) (by (try simp only [xlit]); first | (rw [nI_leI (by omega) (by omega)]; omega) | (rw [nI_ltI (by omega) (by omega)]; omega) | (rw [nI_eq (by omega) (by omega)]; omega)) ?_
      exact fin false _ e.symm
    · refine x_iload3 B 23 dX2_isWord_22 rfl ?_
      refine x_aload1 B 24 dX2_isWord_23 rfl (by first | rfl | exact xisR_rf _) ?_
      refine x_alen B 25 (t0 := 0) rfl (by repeat (first | with_reducible exact xr_h | refine xr_t ?_)) dX2_isWord_24 rfl ?_
      refine x_icmp_ge_f (tp := 61) B 28 dX2_isWord_25 (by decide) rfl (by (try simp only [xlit]); first | (rw [nI_leI (by omega) (by omega)]; omega) | (rw [nI_ltI (by omega) (by omega)]; omega) | (rw [nI_eq (by omega) (by omega)]; omega)) ?_
      refine x_iload2 B 29 dX2_isWord_28 rfl ?_
      refine x_if_eq_t B 61 dX2_isWord_29 (by decide) rfl ?_
      exact fin false _ e.symm
  have mono : ∀ d k, hEq T f w k = false → hEq T f w (k + d) = false := by
    intro d
    induction d with
    | zero => intro k e; exact e
    | succ d ih => intro k e; show (hEq T f w (k + d) && _) = false; rw [ih k e]; rfl
  have noLen : ¬ b = f + w.length → hIs T (f, b) w = false := by intro c; unfold hIs; dsimp only; simp [c]
  have loop : ∀ (n k : Nat), k + n = w.length → b = f + w.length → WX D X [tR D h ad iv, tI D ad 3 200 tx, [(wa, aI (D.2.1 0) w.length wf)]] 0 0 22 [some (.ref h), some (.ref wa), some (.int (bI (hEq T f w k))), some (.int (nI k))] [] := by
    intro n
    induction n with
    | zero =>
      intro k hn hb
      obtain rfl : k = w.length := by omega
      refine x_iload3 B 23 dX2_isWord_22 rfl ?_
      refine x_aload1 B 24 dX2_isWord_23 rfl (by first | rfl | exact xisR_rf _) ?_
      refine x_alen B 25 (t0 := 0) rfl (by repeat (first | with_reducible exact xr_h | refine xr_t ?_)) dX2_isWord_24 rfl ?_
      refine x_icmp_ge_t B 61 dX2_isWord_25 (by decide) (by (try simp only [xlit]); first | (rw [nI_leI (by omega) (by omega)]; omega) | (rw [nI_ltI (by omega) (by omega)]; omega) | (rw [nI_eq (by omega) (by omega)]; omega)) ?_
      exact fin _ _ (by unfold hIs; dsimp only; simp [hb])
    | succ n ih =>
      intro k hn hb
      cases ev : hEq T f w k with
      | false =>
        exact no k (by omega) (by unfold hIs; dsimp only; have := mono (n + 1) k ev; rw [hn] at this; rw [this, Bool.and_false])
      | true =>
        obtain ⟨x, x1, x2, x3⟩ := hT0.at (p := f + k) (by omega)
        obtain ⟨y, y1⟩ : ∃ y, w[k]? = some y := ⟨w[k], List.getElem?_eq_getElem (by omega)⟩
        obtain ⟨y2, y3⟩ := hw k y y1
        have e1 : hEq T f w (k + 1) = decide (x = y) := by
          show (hEq T f w k && _) = _
          rw [ev, x1, y1]; simp
        have next : ∀ v : Int32, v = bI (hEq T f w (k + 1)) → WX D X [tR D h ad iv, tI D ad 3 200 tx, [(wa, aI (D.2.1 0) w.length wf)]] 0 0 54 [some (.ref h), some (.ref wa), some (.int (bI true)), some (.int (nI k))] [.int v] := by
          intro v hv
          subst hv
          refine x_istore2 B 55 dX2_isWord_54 rfl ?_
          refine x_iinc3 B 58 dX2_isWord_55 rfl (by first | exact xinc _ | rfl) ?_
          refine x_goto B 22 dX2_isWord_58 (by decide) ?_
          exact ih (k + 1) (by omega) hb
        refine x_iload3 B 23 dX2_isWord_22 rfl ?_
        refine x_aload1 B 24 dX2_isWord_23 rfl (by first | rfl | exact xisR_rf _) ?_
        refine x_alen B 25 (t0 := 0) rfl (by repeat (first | with_reducible exact xr_h | refine xr_t ?_)) dX2_isWord_24 rfl ?_
        refine x_icmp_ge_f (tp := 61) B 28 dX2_isWord_25 (by decide) rfl (by (try simp only [xlit]); first | (rw [nI_leI (by omega) (by omega)]; omega) | (rw [nI_ltI (by omega) (by omega)]; omega) | (rw [nI_eq (by omega) (by omega)]; omega)) ?_
        refine x_iload2 B 29 dX2_isWord_28 rfl ?_
        refine x_if_eq_f (tp := 61) B 32 dX2_isWord_29 (by decide) rfl (by decide) ?_
        refine x_aload0 B 33 dX2_isWord_32 rfl (by first | rfl | exact xisR_rf _) ?_
        refine g_X2_17_X2 B 36 (by repeat (first | with_reducible exact xr_h | refine xr_t ?_)) dX2_isWord_33 rfl ?_
        refine x_aload0 B 37 dX2_isWord_36 rfl (by first | rfl | exact xisR_rf _) ?_
        refine g_X2_128_X2 B 40 (by repeat (first | with_reducible exact xr_h | refine xr_t ?_)) dX2_isWord_37 rfl ?_
        rw [k1]
        refine x_iload3 B 41 dX2_isWord_40 rfl ?_
        refine x_iadd B 42 dX2_isWord_41 rfl ?_
        refine x_ialdv B 43 (by repeat (first | with_reducible exact xr_h | refine xr_t ?_)) (j := f + k) (by first | (simp only [xlit, nI_add, pk_mul]; done) | rfl | (simp only [xlit, nI_add, pk_mul]; congr 1; omega)) ⟨by first | omega | decide, by first | decide | omega⟩ x2 dX2_isWord_42 rfl ?_
        refine x_aload1 B 44 dX2_isWord_43 rfl (by first | rfl | exact xisR_rf _) ?_
        refine x_iload3 B 45 dX2_isWord_44 rfl ?_
        refine x_ialdv B 46 (by repeat (first | with_reducible exact xr_h | refine xr_t ?_)) (j := k) (by first | (simp only [xlit, nI_add, pk_mul]; done) | rfl | (simp only [xlit, nI_add, pk_mul]; congr 1; omega)) ⟨by first | omega | decide, by first | decide | omega⟩ y2 dX2_isWord_45 rfl ?_
        by_cases c : x = y
        · refine x_icmp_ne_f (tp := 53) B 49 dX2_isWord_46 (by decide) rfl (by (try simp only [xlit]); first | (rw [nI_leI (by omega) (by omega)]; omega) | (rw [nI_ltI (by omega) (by omega)]; omega) | (rw [nI_eq (by omega) (by omega)]; omega)) ?_
          refine x_iconst B 50 (v := 1) dX2_isWord_49 (by decide) rfl ?_
          refine x_goto B 54 dX2_isWord_50 (by decide) ?_
          exact next 1 (by rw [e1]; simp [bI, c])
        · refine x_icmp_ne_t B 53 dX2_isWord_46 (by decide) (by (try simp only [xlit]); first | (rw [nI_leI (by omega) (by omega)]; omega) | (rw [nI_ltI (by omega) (by omega)]; omega) | (rw [nI_eq (by omega) (by omega)]; omega)) ?_
          refine x_iconst B 54 (v := 0) dX2_isWord_53 (by decide) rfl ?_
          exact next 0 (by rw [e1]; simp [bI, c])
  refine x_aload0 B 1 dX2_isWord_0 rfl (by first | rfl | exact xisR_rf _) ?_
  refine g_X2_125_X2 B 4 (by repeat (first | with_reducible exact xr_h | refine xr_t ?_)) dX2_isWord_1 rfl ?_
  refine x_aload0 B 5 dX2_isWord_4 rfl (by first | rfl | exact xisR_rf _) ?_
  refine g_X2_128_X2 B 8 (by repeat (first | with_reducible exact xr_h | refine xr_t ?_)) dX2_isWord_5 rfl ?_
  rw [k2, k1]
  refine x_isub B 9 dX2_isWord_8 rfl ?_
  rw [show nI b - nI f = nI (b - f) from pk_sub k3]
  refine x_aload1 B 10 dX2_isWord_9 rfl (by first | rfl | exact xisR_rf _) ?_
  refine x_alen B 11 (t0 := 0) rfl (by repeat (first | with_reducible exact xr_h | refine xr_t ?_)) dX2_isWord_10 rfl ?_
  by_cases c : b = f + w.length
  · refine x_icmp_ne_f (tp := 18) B 14 dX2_isWord_11 (by decide) rfl (by (try simp only [xlit]); first | (rw [nI_leI (by omega) (by omega)]; omega) | (rw [nI_ltI (by omega) (by omega)]; omega) | (rw [nI_eq (by omega) (by omega)]; omega)) ?_
    refine x_iconst B 15 (v := 1) dX2_isWord_14 (by decide) rfl ?_
    refine x_goto B 19 dX2_isWord_15 (by decide) ?_
    refine x_istore2 B 20 dX2_isWord_19 rfl ?_
    refine x_iconst B 21 (v := 0) dX2_isWord_20 (by decide) rfl ?_
    refine x_istore3 B 22 dX2_isWord_21 rfl ?_
    exact loop w.length 0 (by omega) c
  · refine x_icmp_ne_t B 18 dX2_isWord_11 (by decide) (by (try simp only [xlit]); first | (rw [nI_leI (by omega) (by omega)]; omega) | (rw [nI_ltI (by omega) (by omega)]; omega) | (rw [nI_eq (by omega) (by omega)]; omega)) ?_
    refine x_iconst B 19 (v := 0) dX2_isWord_18 (by decide) rfl ?_
    refine x_istore2 B 20 dX2_isWord_19 rfl ?_
    refine x_iconst B 21 (v := 0) dX2_isWord_20 (by decide) rfl ?_
    refine x_istore3 B 22 dX2_isWord_21 rfl ?_
    exact no 0 (by omega) (noLen c)
end T13
