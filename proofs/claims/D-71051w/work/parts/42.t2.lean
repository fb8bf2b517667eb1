/-! the twin, 2: an evening -/
section T2
variable {D : xG} {h : Nat} {ad : Nat → Nat} {iv row : Nat → Int32} {base nb nm : Nat} {kd : Nat → Nat} {S : HS}
theorem xI9 {n : Nat} (h : n < 2147483648) : (9 : Int32) < nI n ↔ 9 < n := by rw [xlit 9, nI_ltI (by omega) (by omega)]
theorem tGain (hT : TRep row base nb nm kd S) (hO : HOk nb nm kd S) {b w g : Nat} (hb : b < nb) (hw : w < 10) (hg : g ≤ 9) :
    TRep (upd row (base + 20 + 10 * b + w) (if 9 < row (base + 20 + 10 * b + w) + nI g then 9 else row (base + 20 + 10 * b + w) + nI g)) base nb nm kd (hGain S b w g) := by
  have h1 := hT.2.2.2.2.2.2.1 b w hb hw
  have h2 := hO.2.2.2.1 b w hb hw
  have e : (if (9 : Int32) < row (base + 20 + 10 * b + w) + nI g then 9 else row (base + 20 + 10 * b + w) + nI g) = nI (if 9 < S.1 b w + g then 9 else S.1 b w + g) := by
    rw [h1, nI_add]
    by_cases c : 9 < S.1 b w + g
    · rw [if_pos ((xI9 (by omega)).mpr c), if_pos c]; rfl
    · rw [if_neg (fun z => c ((xI9 (by omega)).mp z)), if_neg c]
  rw [e]
  exact hT.setK hO.1 hO.2.1 hb hw _
theorem m_X2_isOpen (base b C : Nat) (hB : base + 3 < 1404) (hC : row (base + 3) = nI C) (hC2 : C < 2147483648) (hb : b < 32) : XC D yX2_isOpen (ws_ yX2_isOpen cX2_isOpen 3 (Option.some Jvm.ClassFile.FieldType.boolean)) 1 40 (0) (0) [.ref h, .int (nI base), .int (nI b)] [tR D h ad iv, tI D ad 0 1404 row] (fun r cs' => r = some (.int (if C.testBit b = true then 0 else 1)) ∧ cs' = [tR D h ad iv, tI D ad 0 1404 row]) x0 := by
  refine XC.of (by decide) (by simp [Value.category]) (Nat.le_of_ble_eq_true rfl) fun X B => ?_
  show WX D X [tR D h ad iv, tI D ad 0 1404 row] 0 0 0 [some (.ref h), some (.int (nI base)), some (.int (nI b))] []
  refine x_aload0 B 1 dX2_isOpen_0 rfl (by first | rfl | exact xisR_rf _) ?_
  refine g_X2_7_X2 B 4 (by repeat (first | with_reducible exact xr_h | refine xr_t ?_)) dX2_isOpen_1 rfl ?_
  refine x_iload1 B 5 dX2_isOpen_4 rfl ?_
  refine x_iconst B 6 (v := 3) dX2_isOpen_5 (by decide) rfl ?_
  refine x_iadd B 7 dX2_isOpen_6 rfl ?_
  refine x_ialdv B 8 (by repeat (first | with_reducible exact xr_h | refine xr_t ?_)) (j := base + 3) (by first | (simp only [xlit, nI_add, pk_mul]; done) | rfl | (simp only [xlit, nI_add, pk_mul]; congr 1; omega)) ⟨by first | omega | decide, by first | decide | omega⟩ hC dX2_isOpen_7 rfl ?_
  refine x_iload2 B 9 dX2_isOpen_8 rfl ?_
  refine x_callS B 12 (m_X2_has _ _) [] rfl q1938 q1939 q92 q1940 hd_X2_has rfl ⟨by first | decide | omega, by first | decide | omega⟩ ⟨by first | decide | omega, by first | decide | omega⟩ rfl (Nat.le_of_ble_eq_true rfl) dX2_isOpen_9 rfl (fun _ _ _ h => h.elim) ?_
  rintro _ _ ⟨rfl, rfl⟩
  simp only [xst, xput, xpre]
  rw [xhas_bit hC2 hb]
  by_cases c : C.testBit b = true
  · rw [if_pos c]
    refine x_if_ne_t B 19 dX2_isOpen_12 (by decide) (by decide) ?_
    refine x_iconst B 20 (v := 0) dX2_isOpen_19 (by decide) rfl ?_
    exact x_zret B rfl ⟨by rw [if_pos c], rfl⟩ dX2_isOpen_20 ⟨by first | omega | decide, by first | omega | decide⟩ (by first | exact Or.inl rfl | exact Or.inr rfl | exact x_in01 _ _ _ | exact x_has01 _ _ | exact bI01 _ | assumption)
  · rw [if_neg c]
    refine x_if_ne_f (tp := 19) B 15 dX2_isOpen_12 (by decide) rfl rfl ?_
    refine x_iconst B 16 (v := 1) dX2_isOpen_15 (by decide) rfl ?_
    refine x_goto B 20 dX2_isOpen_16 (by decide) ?_
    exact x_zret B rfl ⟨by rw [if_neg c], rfl⟩ dX2_isOpen_20 ⟨by first | omega | decide, by first | omega | decide⟩ (by first | exact Or.inl rfl | exact Or.inr rfl | exact x_in01 _ _ _ | exact x_has01 _ _ | exact bI01 _ | assumption)
theorem m_X2_handOver (hT : TRep row base nb nm kd S) (hO : HOk nb nm kd S) (hB : base + 108 ≤ 1404) : XC D yX2_handOver (ws_ yX2_handOver cX2_handOver 6 (Option.none : Option Jvm.ClassFile.FieldType)) 2 80 (0) (0) [.ref h, .int (nI base)] [tR D h ad iv, tI D ad 0 1404 row] (fun r cs' => r = none ∧ ∃ row', TRep row' base nb nm kd (hInh kd S nm) ∧ TSame base row row' ∧ cs' = [tR D h ad iv, tI D ad 0 1404 row']) x0 := by
  refine XC.of (by decide) (by simp [Value.category]) (Nat.le_of_ble_eq_true rfl) fun X B => ?_
  show WX D X [tR D h ad iv, tI D ad 0 1404 row] 0 0 0 [some (.ref h), some (.int (nI base)), none, none, none, none] []
  have hnm := hO.2.1
  have hnb := hO.1
  have loop : ∀ (k m : Nat), m + k = nm → ∀ row', TRep row' base nb nm kd (hInh kd S m) → TSame base row row' → WX D X [tR D h ad iv, tI D ad 0 1404 row'] 0 0 2 [some (.ref h), some (.int (nI base)), some (.int (nI m)), none, none, none] [] := by
    intro k
    induction k with
    | zero =>
      intro m hm row' hT' hS'
      refine x_iload2 B 3 dX2_handOver_2 rfl ?_
      refine x_aload0 B 4 dX2_handOver_3 rfl (by first | rfl | exact xisR_rf _) ?_
      refine g_X2_7_X2 B 7 (by repeat (first | with_reducible exact xr_h | refine xr_t ?_)) dX2_handOver_4 rfl ?_
      refine x_iload1 B 8 dX2_handOver_7 rfl ?_
      refine x_iconst B 9 (v := 1) dX2_handOver_8 (by decide) rfl ?_
      refine x_iadd B 10 dX2_handOver_9 rfl ?_
      refine x_ialdv B 11 (by repeat (first | with_reducible exact xr_h | refine xr_t ?_)) (j := base + 1) (by first | (simp only [xlit, nI_add, pk_mul]; done) | rfl | (simp only [xlit, nI_add, pk_mul]; congr 1; omega)) ⟨by first | omega | decide, by first | decide | omega⟩ hT'.2.1 dX2_handOver_10 rfl ?_
      refine x_icmp_ge_t B 142 dX2_handOver_11 (by decide) (by (try simp only [xlit]); first | (rw [nI_leI (by omega) (by omega)]; omega) | (rw [nI_ltI (by omega) (by omega)]; omega) | (rw [nI_eq (by omega) (by omega)]; omega)) ?_
      exact x_vret B rfl ⟨rfl, row', by rw [show nm = m by omega] at hT' ⊢; exact hT', hS', rfl⟩ dX2_handOver_142 ⟨by first | omega | decide, by first | omega | decide⟩
    | succ k ih =>
      intro m hm row' hT' hS'
      have hO' := hO.inh (kd := kd) m (by omega)
      have hm' : m < nm := by omega
      have eY := hT'.2.2.2.2.2.2.2.2 m hm'
      have eH := hT'.2.2.2.2.2.2.2.1 m hm'
      have hH := hO'.2.2.2.2.2.1 m hm'
      generalize hS1 : hInh kd S m = S1 at *
      have hC : S1.2.2.2.2.1 < 256 := Nat.lt_of_lt_of_le hO'.2.2.2.2.2.2.2.2.1 (pow_nb hnb)
      have hn : hInh kd S (m + 1) = hInh1 kd S1 m := by rw [← hS1]; rfl
      -- nothing is handed over
      have skip : ∀ a3 a4 a5 row2, TRep row2 base nb nm kd (hInh1 kd S1 m) → TSame base row row2 → WX D X [tR D h ad iv, tI D ad 0 1404 row2] 0 0 136 [some (.ref h), some (.int (nI base)), some (.int (nI m)), a3, a4, a5] [] := by
        intro a3 a4 a5 row2 hT2 hS2
        refine x_iinc2 B 139 dX2_handOver_136 rfl (by first | exact xinc _ | rfl) ?_
        refine x_goto B 2 dX2_handOver_139 (by decide) ?_
        exact x_fg (by repeat (first | exact xfg_nil | apply xfg_same | apply xfg_none)) (ih (m + 1) (by omega) row2 (by rw [hn]; exact hT2) hS2)
      -- from 'by' on
      have join : ∀ (b g : Nat) (v : Int32), (S1.2.2.2.1 m = none → g = 0) → (∀ b', S1.2.2.2.1 m = some b' → b' = b ∧ g = (if S1.2.2.2.2.1.testBit b = true then 0 else hGets (kd b))) → v = oI (S1.2.2.2.1 m) → WX D X [tR D h ad iv, tI D ad 0 1404 row'] 0 0 57 [some (.ref h), some (.int (nI base)), some (.int (nI m)), some (.int v), none, none] [.int (nI g)] := by
        intro b g v hg0 hg1 hv
        have hg5 : g ≤ 5 := by
          cases hY : S1.2.2.2.1 m with
          | none => have := hg0 hY; omega
          | some b' =>
            have := (hg1 b' hY).2
            have h5 := hGets_le (kd b)
            split at this <;> omega
        refine x_istore4 B 59 dX2_handOver_57 rfl ?_
        refine x_iload4 B 61 dX2_handOver_59 rfl ?_
        by_cases c0 : g = 0
        · subst c0
          refine x_if_le_t B 136 dX2_handOver_61 (by decide) (by decide) ?_
          refine skip _ _ _ row' ?_ hS'
          have : hInh1 kd S1 m = S1 := by
            unfold hInh1
            cases hY : S1.2.2.2.1 m with
            | none => rfl
            | some b' =>
              obtain ⟨rfl, h2⟩ := hg1 b' hY
              dsimp only
              rw [if_pos]
              by_cases c : S1.2.2.2.2.1.testBit b' = true
              · exact Or.inl c
              · rw [if_neg c] at h2
                exact Or.inr (Or.inl h2.symm)
          rw [this]
          exact hT'
        · refine x_if_le_f (tp := 136) B 64 dX2_handOver_61 (by decide) rfl (by (try simp only [xlit]); first | (rw [nI_leI (by omega) (by omega)]; omega) | (rw [nI_ltI (by omega) (by omega)]; omega) | (rw [nI_eq (by omega) (by omega)]; omega)) ?_
          refine x_aload0 B 65 dX2_handOver_64 rfl (by first | rfl | exact xisR_rf _) ?_
          refine g_X2_7_X2 B 68 (by repeat (first | with_reducible exact xr_h | refine xr_t ?_)) dX2_handOver_65 rfl ?_
          refine x_iload1 B 69 dX2_handOver_68 rfl ?_
          refine x_bipush B 71 (v := 100) dX2_handOver_69 (by decide) rfl ?_
          refine x_iadd B 72 dX2_handOver_71 rfl ?_
          refine x_iload2 B 73 dX2_handOver_72 rfl ?_
          refine x_iadd B 74 dX2_handOver_73 rfl ?_
          refine x_ialdv B 75 (by repeat (first | with_reducible exact xr_h | refine xr_t ?_)) (j := base + 100 + m) (by first | (simp only [xlit, nI_add, pk_mul]; done) | rfl | (simp only [xlit, nI_add, pk_mul]; congr 1; omega)) ⟨by first | omega | decide, by first | decide | omega⟩ eH dX2_handOver_74 rfl ?_
          by_cases c1 : S1.2.2.1 m = 0
          · rw [c1]
            refine x_if_eq_t B 136 dX2_handOver_75 (by decide) rfl ?_
            refine skip _ _ _ row' ?_ hS'
            have : hInh1 kd S1 m = S1 := by
              unfold hInh1
              cases hY : S1.2.2.2.1 m with
              | none => rfl
              | some b' =>
                dsimp only
                rw [if_pos (Or.inr (Or.inr c1))]
            rw [this]
            exact hT'
          · refine x_if_eq_f (tp := 136) B 78 dX2_handOver_75 (by decide) rfl (by (try simp only [xlit]); first | (rw [nI_leI (by omega) (by omega)]; omega) | (rw [nI_ltI (by omega) (by omega)]; omega) | (rw [nI_eq (by omega) (by omega)]; omega)) ?_
            refine x_iconst B 79 (v := 0) dX2_handOver_78 (by decide) rfl ?_
            refine x_istore5 B 81 dX2_handOver_79 rfl ?_
            obtain ⟨lo1, lo2, lo3⟩ := loBit_spec c1 hH
            have whl : ∀ (j w : Nat), w + j = loBit (S1.2.2.1 m) → WX D X [tR D h ad iv, tI D ad 0 1404 row'] 0 0 81 [some (.ref h), some (.int (nI base)), some (.int (nI m)), some (.int v), some (.int (nI g)), some (.int (nI w))] [] := by
              intro j
              induction j with
              | zero =>
                intro w hw
                obtain rfl : w = loBit (S1.2.2.1 m) := by omega
                refine x_aload0 B 82 dX2_handOver_81 rfl (by first | rfl | exact xisR_rf _) ?_
                refine g_X2_7_X2 B 85 (by repeat (first | with_reducible exact xr_h | refine xr_t ?_)) dX2_handOver_82 rfl ?_
                refine x_iload1 B 86 dX2_handOver_85 rfl ?_
                refine x_bipush B 88 (v := 100) dX2_handOver_86 (by decide) rfl ?_
                refine x_iadd B 89 dX2_handOver_88 rfl ?_
                refine x_iload2 B 90 dX2_handOver_89 rfl ?_
                refine x_iadd B 91 dX2_handOver_90 rfl ?_
                refine x_ialdv B 92 (by repeat (first | with_reducible exact xr_h | refine xr_t ?_)) (j := base + 100 + m) (by first | (simp only [xlit, nI_add, pk_mul]; done) | rfl | (simp only [xlit, nI_add, pk_mul]; congr 1; omega)) ⟨by first | omega | decide, by first | decide | omega⟩ eH dX2_handOver_91 rfl ?_
                refine x_iload5 B 94 dX2_handOver_92 rfl ?_
                refine x_callS B 97 (m_X2_has _ _) [] rfl q1938 q1939 q92 q1940 hd_X2_has rfl ⟨by first | decide | omega, by first | decide | omega⟩ ⟨by first | decide | omega, by first | decide | omega⟩ rfl (Nat.le_of_ble_eq_true rfl) dX2_handOver_94 rfl (fun _ _ _ h => h.elim) ?_
                rintro _ _ ⟨rfl, rfl⟩
                simp only [xst, xput, xpre]
                rw [xhas_bit (by omega) (by omega), if_pos lo2]
                refine x_if_ne_t B 106 dX2_handOver_97 (by decide) (by decide) ?_
                refine x_aload0 B 107 dX2_handOver_106 rfl (by first | rfl | exact xisR_rf _) ?_
                refine g_X2_7_X2 B 110 (by repeat (first | with_reducible exact xr_h | refine xr_t ?_)) dX2_handOver_107 rfl ?_
                refine x_iload1 B 111 dX2_handOver_110 rfl ?_
                refine x_bipush B 113 (v := 100) dX2_handOver_111 (by decide) rfl ?_
                refine x_iadd B 114 dX2_handOver_113 rfl ?_
                refine x_iload2 B 115 dX2_handOver_114 rfl ?_
                refine x_iadd B 116 dX2_handOver_115 rfl ?_
                refine x_dup2 B 117 dX2_handOver_116 rfl rfl rfl ?_
                refine x_ialdv B 118 (by repeat (first | with_reducible exact xr_h | refine xr_t ?_)) (j := base + 100 + m) (by first | (simp only [xlit, nI_add, pk_mul]; done) | rfl | (simp only [xlit, nI_add, pk_mul]; congr 1; omega)) ⟨by first | omega | decide, by first | decide | omega⟩ eH dX2_handOver_117 rfl ?_
                refine x_iconst B 119 (v := 1) dX2_handOver_118 (by decide) rfl ?_
                refine x_iload5 B 121 dX2_handOver_119 rfl ?_
                refine x_ishl B 122 dX2_handOver_121 rfl ?_
                rw [xshl1 (by omega)]
                refine x_iconst B 123 (v := (-1)) dX2_handOver_122 (by decide) rfl ?_
                refine x_ixor B 124 dX2_handOver_123 rfl ?_
                refine x_iand B 125 dX2_handOver_124 rfl ?_
                rw [xclear _ hH _ lo1 lo2]
                refine x_iast B 126 (by repeat (first | with_reducible exact xu_h | apply xu_t)) (j := base + 100 + m) (by first | (simp only [xlit, nI_add, pk_mul]; done) | rfl | (simp only [xlit, nI_add, pk_mul]; congr 1; omega)) ⟨by first | omega | decide, by first | decide | omega⟩ dX2_handOver_125 rfl ?_
                have hT2 := hT'.setH hnb hnm hm' (S1.2.2.1 m - 2 ^ loBit (S1.2.2.1 m))
                have hS2 := hS'.upd (i := base + 100 + m) (x := nI (S1.2.2.1 m - 2 ^ loBit (S1.2.2.1 m))) (by omega) (by omega)
                have hY : ∃ b', S1.2.2.2.1 m = some b' := by
                  cases hY : S1.2.2.2.1 m with
                  | none => exact absurd (hg0 hY) c0
                  | some b' => exact ⟨b', rfl⟩
                obtain ⟨b', hY⟩ := hY
                obtain ⟨rfl, h2⟩ := hg1 b' hY
                have hbn : b' < nb := hO'.2.2.2.2.2.2.1 m b' hm' hY
                have c2 : ¬ S1.2.2.2.2.1.testBit b' = true := fun z => by rw [if_pos z] at h2; exact c0 h2
                rw [if_neg c2] at h2
                rw [hv, hY]
                refine x_aload0 B 127 dX2_handOver_126 rfl (by first | rfl | exact xisR_rf _) ?_
                refine x_iload1 B 128 dX2_handOver_127 rfl ?_
                refine x_iload3 B 129 dX2_handOver_128 rfl ?_
                refine x_iload5 B 131 dX2_handOver_129 rfl ?_
                refine x_iload4 B 133 dX2_handOver_131 rfl ?_
                have hO2 : HOk nb nm kd (S1.1, S1.2.1, fUp S1.2.2.1 m (S1.2.2.1 m - 2 ^ loBit (S1.2.2.1 m)), S1.2.2.2) := by
                  obtain ⟨o1, o2, o3, o4, o5, o6, o7⟩ := hO'
                  refine ⟨o1, o2, o3, o4, o5, fun m' hm9 => ?_, o7⟩
                  show fUp S1.2.2.1 m _ m' < 1024
                  unfold fUp
                  split
                  · exact Nat.lt_of_le_of_lt (Nat.sub_le _ _) hH
                  · exact o6 m' hm9
                refine x_callV B 136 (m_X2_learns base b' (loBit (S1.2.2.1 m)) (nI g) (by omega)) [0, 1] rfl ⟨_, _, _, (by repeat (first | with_reducible exact xr_h | refine xr_t ?_)), rfl, rfl⟩ q2031 q2033 qs66 q92 q2034 hd_X2_learns (by decide) ⟨by first | decide | omega, by first | decide | omega⟩ ⟨by first | decide | omega, by first | decide | omega⟩ rfl (Nat.le_of_ble_eq_true rfl) dX2_handOver_133 rfl (fun _ _ _ h => h.elim) ?_
                rintro _ _ ⟨rfl, rfl⟩
                simp only [xst, xput, xpre, List.set_cons_zero, List.set_cons_succ]
                refine skip _ _ _ _ ?_ (hS2.upd (by omega) (by omega))
                have e9 : hInh1 kd S1 m = hGain (S1.1, S1.2.1, fUp S1.2.2.1 m (S1.2.2.1 m - 2 ^ loBit (S1.2.2.1 m)), S1.2.2.2) b' (loBit (S1.2.2.1 m)) g := by
                  unfold hInh1
                  rw [hY]
                  dsimp only
                  rw [if_neg, h2]
                  rintro (z | z | z)
                  · exact c2 z
                  · exact c0 (h2.trans z)
                  · exact c1 z
                rw [e9]
                exact tGain hT2 hO2 hbn lo1 (by omega)
              | succ j ihw =>
                intro w hw
                refine x_aload0 B 82 dX2_handOver_81 rfl (by first | rfl | exact xisR_rf _) ?_
                refine g_X2_7_X2 B 85 (by repeat (first | with_reducible exact xr_h | refine xr_t ?_)) dX2_handOver_82 rfl ?_
                refine x_iload1 B 86 dX2_handOver_85 rfl ?_
                refine x_bipush B 88 (v := 100) dX2_handOver_86 (by decide) rfl ?_
                refine x_iadd B 89 dX2_handOver_88 rfl ?_
                refine x_iload2 B 90 dX2_handOver_89 rfl ?_
                refine x_iadd B 91 dX2_handOver_90 rfl ?_
                refine x_ialdv B 92 (by repeat (first | with_reducible exact xr_h | refine xr_t ?_)) (j := base + 100 + m) (by first | (simp only [xlit, nI_add, pk_mul]; done) | rfl | (simp only [xlit, nI_add, pk_mul]; congr 1; omega)) ⟨by first | omega | decide, by first | decide | omega⟩ eH dX2_handOver_91 rfl ?_
                refine x_iload5 B 94 dX2_handOver_92 rfl ?_
                refine x_callS B 97 (m_X2_has _ _) [] rfl q1938 q1939 q92 q1940 hd_X2_has rfl ⟨by first | decide | omega, by first | decide | omega⟩ ⟨by first | decide | omega, by first | decide | omega⟩ rfl (Nat.le_of_ble_eq_true rfl) dX2_handOver_94 rfl (fun _ _ _ h => h.elim) ?_
                rintro _ _ ⟨rfl, rfl⟩
                simp only [xst, xput, xpre]
                rw [xhas_bit (by omega) (by omega), if_neg (by rw [lo3 w (by omega)]; decide)]
                refine x_if_ne_f (tp := 106) B 100 dX2_handOver_97 (by decide) rfl rfl ?_
                refine x_iinc5 B 103 dX2_handOver_100 rfl (by first | exact xinc _ | rfl) ?_
                refine x_goto B 81 dX2_handOver_103 (by decide) ?_
                exact ihw (w + 1) (by omega)
            exact whl (loBit (S1.2.2.1 m)) 0 (by omega)
      refine x_iload2 B 3 dX2_handOver_2 rfl ?_
      refine x_aload0 B 4 dX2_handOver_3 rfl (by first | rfl | exact xisR_rf _) ?_
      refine g_X2_7_X2 B 7 (by repeat (first | with_reducible exact xr_h | refine xr_t ?_)) dX2_handOver_4 rfl ?_
      refine x_iload1 B 8 dX2_handOver_7 rfl ?_
      refine x_iconst B 9 (v := 1) dX2_handOver_8 (by decide) rfl ?_
      refine x_iadd B 10 dX2_handOver_9 rfl ?_
      refine x_ialdv B 11 (by repeat (first | with_reducible exact xr_h | refine xr_t ?_)) (j := base + 1) (by first | (simp only [xlit, nI_add, pk_mul]; done) | rfl | (simp only [xlit, nI_add, pk_mul]; congr 1; omega)) ⟨by first | omega | decide, by first | decide | omega⟩ hT'.2.1 dX2_handOver_10 rfl ?_
      refine x_icmp_ge_f (tp := 142) B 14 dX2_handOver_11 (by decide) rfl (by (try simp only [xlit]); first | (rw [nI_leI (by omega) (by omega)]; omega) | (rw [nI_ltI (by omega) (by omega)]; omega) | (rw [nI_eq (by omega) (by omega)]; omega)) ?_
      refine x_aload0 B 15 dX2_handOver_14 rfl (by first | rfl | exact xisR_rf _) ?_
      refine g_X2_7_X2 B 18 (by repeat (first | with_reducible exact xr_h | refine xr_t ?_)) dX2_handOver_15 rfl ?_
      refine x_iload1 B 19 dX2_handOver_18 rfl ?_
      refine x_bipush B 21 (v := 104) dX2_handOver_19 (by decide) rfl ?_
      refine x_iadd B 22 dX2_handOver_21 rfl ?_
      refine x_iload2 B 23 dX2_handOver_22 rfl ?_
      refine x_iadd B 24 dX2_handOver_23 rfl ?_
      refine x_ialdv B 25 (by repeat (first | with_reducible exact xr_h | refine xr_t ?_)) (j := base + 104 + m) (by first | (simp only [xlit, nI_add, pk_mul]; done) | rfl | (simp only [xlit, nI_add, pk_mul]; congr 1; omega)) ⟨by first | omega | decide, by first | decide | omega⟩ eY dX2_handOver_24 rfl ?_
      refine x_istore3 B 26 dX2_handOver_25 rfl ?_
      refine x_iload3 B 27 dX2_handOver_26 rfl ?_
      refine x_iconst B 28 (v := (-1)) dX2_handOver_27 (by decide) rfl ?_
      cases hY : S1.2.2.2.1 m with
      | none =>
        rw [show oI none = -1 from rfl]
        refine x_icmp_eq_t B 40 dX2_handOver_28 (by decide) rfl ?_
        refine x_iconst B 41 (v := 0) dX2_handOver_40 (by decide) rfl ?_
        refine x_goto B 57 dX2_handOver_41 (by decide) ?_
        exact join 0 0 _ (fun _ => rfl) (fun b' z => by rw [hY] at z; cases z) (by rw [hY]; rfl)
      | some b =>
        have hbn : b < nb := hO'.2.2.2.2.2.2.1 m b hm' hY
        have hk4 := hO'.2.2.1 b hbn
        rw [show oI (some b) = nI b from rfl]
        refine x_icmp_eq_f (tp := 40) B 31 dX2_handOver_28 (by decide) rfl (by intro z; have := nI_toInt (n := b) (by omega); rw [z] at this; rw [show ((-1 : Int32)).toInt = -1 from by decide] at this; omega) ?_
        refine x_aload0 B 32 dX2_handOver_31 rfl (by first | rfl | exact xisR_rf _) ?_
        refine x_iload1 B 33 dX2_handOver_32 rfl ?_
        refine x_iload3 B 34 dX2_handOver_33 rfl ?_
        refine x_callV B 37 (m_X2_isOpen base b S1.2.2.2.2.1 (by omega) hT'.2.2.2.1 (by omega) (by omega)) [0, 1] rfl ⟨_, _, _, (by repeat (first | with_reducible exact xr_h | refine xr_t ?_)), rfl, rfl⟩ q2027 q2029 qs65 q92 q2030 hd_X2_isOpen (by decide) ⟨by first | decide | omega, by first | decide | omega⟩ ⟨by first | decide | omega, by first | decide | omega⟩ rfl (Nat.le_of_ble_eq_true rfl) dX2_handOver_34 rfl (fun _ _ _ h => h.elim) ?_
        rintro _ _ ⟨rfl, rfl⟩
        simp only [xst, xput, xpre, List.set_cons_zero, List.set_cons_succ]
        by_cases c : S1.2.2.2.2.1.testBit b = true
        · rw [if_pos c]
          refine x_if_ne_f (tp := 44) B 40 dX2_handOver_37 (by decide) rfl rfl ?_
          refine x_iconst B 41 (v := 0) dX2_handOver_40 (by decide) rfl ?_
          refine x_goto B 57 dX2_handOver_41 (by decide) ?_
          exact join b 0 _ (fun _ => rfl) (fun b' z => by rw [hY] at z; cases z; exact ⟨rfl, by rw [if_pos c]⟩) (by rw [hY]; rfl)
        · rw [if_neg c]
          refine x_if_ne_t B 44 dX2_handOver_37 (by decide) (by decide) ?_
          refine x_aload0 B 45 dX2_handOver_44 rfl (by first | rfl | exact xisR_rf _) ?_
          refine g_X2_7_X2 B 48 (by repeat (first | with_reducible exact xr_h | refine xr_t ?_)) dX2_handOver_45 rfl ?_
          refine x_iload1 B 49 dX2_handOver_48 rfl ?_
          refine x_iconst B 50 (v := 4) dX2_handOver_49 (by decide) rfl ?_
          refine x_iadd B 51 dX2_handOver_50 rfl ?_
          refine x_iload3 B 52 dX2_handOver_51 rfl ?_
          refine x_iadd B 53 dX2_handOver_52 rfl ?_
          refine x_ialdv B 54 (by repeat (first | with_reducible exact xr_h | refine xr_t ?_)) (j := base + 4 + b) (by first | (simp only [xlit, nI_add, pk_mul]; done) | rfl | (simp only [xlit, nI_add, pk_mul]; congr 1; omega)) ⟨by first | omega | decide, by first | decide | omega⟩ (hT'.2.2.2.2.1 b hbn) dX2_handOver_53 rfl ?_
          refine x_callS B 57 (m_X2_gets _) [] rfl q1999 q2000 q92 q2001 hd_X2_gets rfl ⟨by first | decide | omega, by first | decide | omega⟩ ⟨by first | decide | omega, by first | decide | omega⟩ rfl (Nat.le_of_ble_eq_true rfl) dX2_handOver_54 rfl (fun _ _ _ h => h.elim) ?_
          rintro _ _ ⟨rfl, rfl⟩
          simp only [xst, xput, xpre]
          rw [t_gets_h _ (by omega)]
          exact join b _ _ (fun z => by rw [hY] at z; cases z) (fun b' z => by rw [hY] at z; cases z; exact ⟨rfl, by rw [if_neg c]⟩) (by rw [hY]; rfl)
  refine x_iconst B 1 (v := 0) dX2_handOver_0 (by decide) rfl ?_
  refine x_istore2 B 2 dX2_handOver_1 rfl ?_
  exact loop nm 0 (by omega) row hT TSame.rf
end T2
