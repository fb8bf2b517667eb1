/-! THE COMPONENT, 12: a state, an evening -/
section C10
variable {D : xG} {h : Nat} {ad sa : Nat → Nat} {iv : Nat → Int32} {tg : Option Nat} {kn : Nat → Nat → Int32} {pf hf yf : Nat → Int32} {cov ev : Int32} {bf : Nat → Option Nat} {bp : va_W} {nb nm : Nat} {kd : Nat → Nat} {S : HS}
theorem m_X0_bird_2 (b q kk v : Nat) (hb : b < 8) (h1 : bf b = some q) (h2 : (q, oB kk v) ∈ bp) (hk : kk ≤ 4) : XC D yX0_bird_2 (ws_ yX0_bird_2 cX0_bird_2 2 (Option.some (Jvm.ClassFile.FieldType.object "ParrotSpeech$Bird"))) 0 0 (0) (0) [.ref h, .int (nI b)] [cR h ad iv tg, cBr D ad bf, bp] (fun r cs' => r = some (.ref q) ∧ cs' = [cR h ad iv tg, cBr D ad bf, bp]) x0 := by
  refine XC.of (by decide) (by simp [Value.category]) (Nat.le_of_ble_eq_true rfl) fun X B => ?_
  show WX D X [cR h ad iv tg, cBr D ad bf, bp] 0 0 0 [some (.ref h), some (.int (nI b))] []
  refine x_aload0 B 1 dX0_bird_2_0 rfl (by first | rfl | exact xisR_rf _) ?_
  refine g_X0_21_X0 B 4 (by repeat (first | with_reducible exact xr_h | refine xr_t ?_)) dX0_bird_2_1 rfl ?_
  refine x_iload1 B 5 dX0_bird_2_4 rfl ?_
  refine x_aalds B 6 (f := bf) (t0 := 6) rfl rfl (by repeat (first | with_reducible exact xr_h | refine xr_t ?_)) (j := b) (by first | (simp only [xlit, nI_add, pk_mul]; done) | rfl | (simp only [xlit, nI_add, pk_mul]; congr 1; omega)) ⟨by first | omega | decide, by first | decide | omega⟩ h1 dX0_bird_2_5 rfl ?_
  refine x_castB B 9 (kk := kk) (v := v) (xr_t (xr_t (xr_m h2))) hk q1200 dX0_bird_2_6 rfl ?_
  exact x_aret B rfl rfl (by first | rfl | exact xisR_rf _) ⟨rfl, rfl⟩ dX0_bird_2_9 ⟨by first | omega | decide, by first | omega | decide⟩
theorem m_X1_inherit (hT : CRep kn pf hf yf cov ev nb nm S) (hF : CFit kn) (hO : HOk nb nm kd S) (hiv : iv 2 = nI nm) (hB : BKn bf bp nb kd) : XC D yX1_inherit (ws_ yX1_inherit cX1_inherit 4 (Option.none : Option Jvm.ClassFile.FieldType)) 5 200 (0) (0) [.ref (sa 0)] [cS0 h sa cov ev, cS1 D sa, cK D sa kn, cSI D sa 3 4 hf, cSI D sa 4 4 yf, cR h ad iv tg, cBr D ad bf, bp] (fun r cs' => r = none ∧ ∃ kn' hf', CRep kn' pf hf' yf cov ev nb nm (hInh kd S nm) ∧ CFit kn' ∧ cs' = [cS0 h sa cov ev, cS1 D sa, cK D sa kn', cSI D sa 3 4 hf', cSI D sa 4 4 yf, cR h ad iv tg, cBr D ad bf, bp]) x0 := by
  refine XC.of (by decide) (by simp [Value.category]) (Nat.le_of_ble_eq_true rfl) fun X B => ?_
  show WX D X [cS0 h sa cov ev, cS1 D sa, cK D sa kn, cSI D sa 3 4 hf, cSI D sa 4 4 yf, cR h ad iv tg, cBr D ad bf, bp] 0 0 0 [some (.ref (sa 0)), none, none, none] []
  have hnb := hO.1
  have hnm := hO.2.1
  have loop : ∀ (j m : Nat), m + j = nm → ∀ kn1 hf1 a2 a3, CRep kn1 pf hf1 yf cov ev nb nm (hInh kd S m) → CFit kn1 → WX D X [cS0 h sa cov ev, cS1 D sa, cK D sa kn1, cSI D sa 3 4 hf1, cSI D sa 4 4 yf, cR h ad iv tg, cBr D ad bf, bp] 0 0 2 [some (.ref (sa 0)), some (.int (nI m)), a2, a3] [] := by
    intro j
    induction j with
    | zero =>
      intro m hm kn1 hf1 a2 a3 hT1 hF1
      obtain rfl : m = nm := by omega
      refine x_iload1 B 3 dX1_inherit_2 rfl ?_
      refine x_aload0 B 4 dX1_inherit_3 rfl (by first | rfl | exact xisR_rf _) ?_
      refine g_X1_3_X1 B 7 (by repeat (first | with_reducible exact xr_h | refine xr_t ?_)) dX1_inherit_4 rfl ?_
      refine g_X1_52_X0 B 10 (by repeat (first | with_reducible exact xr_h | refine xr_t ?_)) dX1_inherit_7 rfl ?_
      rw [hiv]
      refine x_icmp_ge_t B 109 dX1_inherit_10 (by decide) (by (try simp only [xlit]); first | (rw [nI_leI (by omega) (by omega)]; omega) | (rw [nI_ltI (by omega) (by omega)]; omega) | (rw [nI_eq (by omega) (by omega)]; omega)) ?_
      exact x_vret B rfl ⟨rfl, kn1, hf1, hT1, hF1, rfl⟩ dX1_inherit_109 ⟨by first | omega | decide, by first | omega | decide⟩
    | succ j ih =>
      intro m hm kn1 hf1 a2 a3 hT1 hF1
      have hm' : m < nm := by omega
      have hO1 := hO.inh (kd := kd) m (by omega)
      have e1 : hInh kd S (m + 1) = hInh1 kd (hInh kd S m) m := rfl
      generalize hInh kd S m = S1 at *
      have next : ∀ kn2 hf2 a2 a3, CRep kn2 pf hf2 yf cov ev nb nm (hInh1 kd S1 m) → CFit kn2 → WX D X [cS0 h sa cov ev, cS1 D sa, cK D sa kn2, cSI D sa 3 4 hf2, cSI D sa 4 4 yf, cR h ad iv tg, cBr D ad bf, bp] 0 0 103 [some (.ref (sa 0)), some (.int (nI m)), a2, a3] [] := by
        intro kn2 hf2 a2 a3 hT2 hF2
        refine x_iinc1 B 106 dX1_inherit_103 rfl (by first | exact xinc _ | rfl) ?_
        refine x_goto B 2 dX1_inherit_106 (by decide) ?_
        exact ih (m + 1) (by omega) kn2 hf2 _ _ (by rw [e1]; exact hT2) hF2
      have e2 : hInh1 kd S1 m = match S1.2.2.2.1 m with
        | none => S1
        | some b => if S1.2.2.2.2.1.testBit b = true ∨ hGets (kd b) = 0 ∨ S1.2.2.1 m = 0 then S1 else hGain (S1.1, S1.2.1, fUp S1.2.2.1 m (S1.2.2.1 m - 2 ^ loBit (S1.2.2.1 m)), S1.2.2.2) b (loBit (S1.2.2.1 m)) (hGets (kd b)) := rfl
      obtain ⟨hcov, -, -, hKn, hHf, hYf⟩ := id hT1
      have hC : S1.2.2.2.2.1 < 256 := Nat.lt_of_lt_of_le hO1.2.2.2.2.2.2.2.2.1 (pow_nb hnb)
      have hH := hO1.2.2.2.2.2.1 m hm'
      refine x_iload1 B 3 dX1_inherit_2 rfl ?_
      refine x_aload0 B 4 dX1_inherit_3 rfl (by first | rfl | exact xisR_rf _) ?_
      refine g_X1_3_X1 B 7 (by repeat (first | with_reducible exact xr_h | refine xr_t ?_)) dX1_inherit_4 rfl ?_
      refine g_X1_52_X0 B 10 (by repeat (first | with_reducible exact xr_h | refine xr_t ?_)) dX1_inherit_7 rfl ?_
      rw [hiv]
      refine x_icmp_ge_f (tp := 109) B 13 dX1_inherit_10 (by decide) rfl (by (try simp only [xlit]); first | (rw [nI_leI (by omega) (by omega)]; omega) | (rw [nI_ltI (by omega) (by omega)]; omega) | (rw [nI_eq (by omega) (by omega)]; omega)) ?_
      refine x_aload0 B 14 dX1_inherit_13 rfl (by first | rfl | exact xisR_rf _) ?_
      refine g_X1_27_X1 B 17 (by repeat (first | with_reducible exact xr_h | refine xr_t ?_)) dX1_inherit_14 rfl ?_
      refine x_iload1 B 18 dX1_inherit_17 rfl ?_
      refine x_ialdv B 19 (by repeat (first | with_reducible exact xr_h | refine xr_t ?_)) (j := m) (by first | (simp only [xlit, nI_add, pk_mul]; done) | rfl | (simp only [xlit, nI_add, pk_mul]; congr 1; omega)) ⟨by first | omega | decide, by first | decide | omega⟩ (hYf m hm') dX1_inherit_18 rfl ?_
      cases eY : S1.2.2.2.1 m with
      | none =>
        rw [eY] at e2
        refine x_istore2 B 20 dX1_inherit_19 rfl ?_
        refine x_iload2 B 21 dX1_inherit_20 rfl ?_
        refine x_iconst B 22 (v := (-1)) dX1_inherit_21 (by decide) rfl ?_
        refine x_icmp_eq_t B 103 dX1_inherit_22 (by decide) rfl ?_
        exact next kn1 hf1 _ _ (by rw [e2]; exact hT1) hF1
      | some b =>
        rw [eY] at e2
        dsimp only at e2
        have hb : b < nb := hO1.2.2.2.2.2.2.1 m b hm' eY
        have hk := hO1.2.2.1 b hb
        obtain ⟨q, hq1, hq2⟩ := hB b hb
        rw [show oI (some b) = nI b from rfl]
        refine x_istore2 B 20 dX1_inherit_19 rfl ?_
        refine x_iload2 B 21 dX1_inherit_20 rfl ?_
        refine x_iconst B 22 (v := (-1)) dX1_inherit_21 (by decide) rfl ?_
        refine x_icmp_eq_f (tp := 103) B 25 dX1_inherit_22 (by decide) rfl (ne_m1 (by omega)) ?_
        refine x_aload0 B 26 dX1_inherit_25 rfl (by first | rfl | exact xisR_rf _) ?_
        refine g_X1_24_X1 B 29 (by repeat (first | with_reducible exact xr_h | refine xr_t ?_)) dX1_inherit_26 rfl ?_
        refine x_iload1 B 30 dX1_inherit_29 rfl ?_
        refine x_ialdv B 31 (by repeat (first | with_reducible exact xr_h | refine xr_t ?_)) (j := m) (by first | (simp only [xlit, nI_add, pk_mul]; done) | rfl | (simp only [xlit, nI_add, pk_mul]; congr 1; omega)) ⟨by first | omega | decide, by first | decide | omega⟩ (hHf m hm') dX1_inherit_30 rfl ?_
        by_cases c0 : S1.2.2.1 m = 0
        · refine x_if_eq_t B 103 dX1_inherit_31 (by decide) (by rw [c0]; rfl) ?_
          rw [if_pos (Or.inr (Or.inr c0))] at e2
          exact next kn1 hf1 _ _ (by rw [e2]; exact hT1) hF1
        · refine x_if_eq_f (tp := 103) B 34 dX1_inherit_31 (by decide) rfl (nI_ne0 (by omega) (by omega)) ?_
          refine x_aload0 B 35 dX1_inherit_34 rfl (by first | rfl | exact xisR_rf _) ?_
          refine g_X1_36_X1 B 38 (by repeat (first | with_reducible exact xr_h | refine xr_t ?_)) dX1_inherit_35 rfl ?_
          refine x_iload2 B 39 dX1_inherit_38 rfl ?_
          refine x_callSN B 42 (m_X0_has _ _) [] rfl q1259 q1260 q88 q1261 hd_X0_has rfl ⟨by first | decide | omega, by first | decide | omega⟩ ⟨by first | decide | omega, by first | decide | omega⟩ rfl (Nat.le_of_ble_eq_true rfl) dX1_inherit_39 rfl (fun _ _ _ h => h.elim) ?_
          rintro _ _ ⟨rfl, rfl⟩
          try simp only [xst, xput, xpre, List.set_cons_zero, List.set_cons_succ]
          rw [show x_has cov (nI b) = if S1.2.2.2.2.1.testBit b = true then 1 else 0 by rw [hcov]; exact xhas_bit (by omega) (by omega)]
          cases c2 : S1.2.2.2.2.1.testBit b with
          | true =>
            rw [if_pos rfl]
            refine x_if_ne_t B 103 dX1_inherit_42 (by decide) (by decide) ?_
            rw [if_pos (Or.inl c2)] at e2
            exact next kn1 hf1 _ _ (by rw [e2]; exact hT1) hF1
          | false =>
            rw [if_neg (by simp)]
            refine x_if_ne_f (tp := 103) B 45 dX1_inherit_42 (by decide) rfl rfl ?_
            refine x_aload0 B 46 dX1_inherit_45 rfl (by first | rfl | exact xisR_rf _) ?_
            refine g_X1_3_X1 B 49 (by repeat (first | with_reducible exact xr_h | refine xr_t ?_)) dX1_inherit_46 rfl ?_
            refine x_iload2 B 50 dX1_inherit_49 rfl ?_
            refine x_callVN B 53 (m_X0_bird_2 b q (kd b) b (by omega) hq1 hq2 hk) [5, 6, 7] rfl ⟨_, _, _, (by repeat (first | with_reducible exact xr_h | refine xr_t ?_)), rfl, rfl⟩ q1262 q1198 qs23 q88 q1199 hd_X0_bird_2 (by decide) ⟨by first | decide | omega, by first | decide | omega⟩ ⟨by first | decide | omega, by first | decide | omega⟩ rfl (Nat.le_of_ble_eq_true rfl) dX1_inherit_50 rfl (fun _ _ _ h => h.elim) ?_
            rintro _ _ ⟨rfl, rfl⟩
            try simp only [xst, xput, xpre, List.set_cons_zero, List.set_cons_succ]
            refine x_bGets_X1 B 56 (i := 7) rfl hq2 hk (by omega) (by omega) (Nat.le_of_ble_eq_true rfl) dX1_inherit_53 rfl ?_
            have hg5 := hGets_le (kd b)
            by_cases c3 : hGets (kd b) = 0
            · refine x_if_le_t B 103 dX1_inherit_56 (by decide) (by rw [c3]; decide) ?_
              rw [if_pos (Or.inr (Or.inl c3))] at e2
              exact next kn1 hf1 _ _ (by rw [e2]; exact hT1) hF1
            · refine x_if_le_f (tp := 103) B 59 dX1_inherit_56 (by decide) rfl (by (try simp only [xlit]); first | (rw [nI_leI (by omega) (by omega)]; omega) | (rw [nI_ltI (by omega) (by omega)]; omega) | (rw [nI_eq (by omega) (by omega)]; omega)) ?_
              rw [if_neg (by rw [c2]; simp [c0, c3])] at e2
              have hlo := loBit_spec c0 hH
              refine x_aload0 B 60 dX1_inherit_59 rfl (by first | rfl | exact xisR_rf _) ?_
              refine g_X1_24_X1 B 63 (by repeat (first | with_reducible exact xr_h | refine xr_t ?_)) dX1_inherit_60 rfl ?_
              refine x_iload1 B 64 dX1_inherit_63 rfl ?_
              refine x_ialdv B 65 (by repeat (first | with_reducible exact xr_h | refine xr_t ?_)) (j := m) (by first | (simp only [xlit, nI_add, pk_mul]; done) | rfl | (simp only [xlit, nI_add, pk_mul]; congr 1; omega)) ⟨by first | omega | decide, by first | decide | omega⟩ (hHf m hm') dX1_inherit_64 rfl ?_
              refine x_callS B 68 (m_J18_numberOfTrailingZeros (S1.2.2.1 m) hH c0) [] rfl q1303 q817 q113 q818 hd_J18_numberOfTrailingZeros rfl ⟨by first | decide | omega, by first | decide | omega⟩ ⟨by first | decide | omega, by first | decide | omega⟩ rfl (Nat.le_of_ble_eq_true rfl) dX1_inherit_65 rfl (fun _ _ _ h => h.elim) ?_
              rintro _ _ ⟨rfl, rfl⟩
              try simp only [xst, xput, xpre, List.set_cons_zero, List.set_cons_succ]
              refine x_istore3 B 69 dX1_inherit_68 rfl ?_
              refine x_aload0 B 70 dX1_inherit_69 rfl (by first | rfl | exact xisR_rf _) ?_
              refine x_iload2 B 71 dX1_inherit_70 rfl ?_
              refine x_iload3 B 72 dX1_inherit_71 rfl ?_
              refine x_aload0 B 73 dX1_inherit_72 rfl (by first | rfl | exact xisR_rf _) ?_
              refine g_X1_3_X1 B 76 (by repeat (first | with_reducible exact xr_h | refine xr_t ?_)) dX1_inherit_73 rfl ?_
              refine x_iload2 B 77 dX1_inherit_76 rfl ?_
              refine x_callVN B 80 (m_X0_bird_2 b q (kd b) b (by omega) hq1 hq2 hk) [5, 6, 7] rfl ⟨_, _, _, (by repeat (first | with_reducible exact xr_h | refine xr_t ?_)), rfl, rfl⟩ q1262 q1198 qs23 q88 q1199 hd_X0_bird_2 (by decide) ⟨by first | decide | omega, by first | decide | omega⟩ ⟨by first | decide | omega, by first | decide | omega⟩ rfl (Nat.le_of_ble_eq_true rfl) dX1_inherit_77 rfl (fun _ _ _ h => h.elim) ?_
              rintro _ _ ⟨rfl, rfl⟩
              try simp only [xst, xput, xpre, List.set_cons_zero, List.set_cons_succ]
              refine x_bGets_X1 B 83 (i := 7) rfl hq2 hk (by omega) (by omega) (Nat.le_of_ble_eq_true rfl) dX1_inherit_80 rfl ?_
              refine x_callV B 86 (m_X1_gains b (loBit (S1.2.2.1 m)) (S1.1 b (loBit (S1.2.2.1 m))) (hGets (kd b)) (by omega) hlo.1 (hKn b _ hb hlo.1) (hO1.2.2.2.1 b _ hb hlo.1) (by omega)) [0, 1, 2] rfl ⟨_, _, _, (by repeat (first | with_reducible exact xr_h | refine xr_t ?_)), rfl, rfl⟩ q1304 q1305 q1306 q89 q1307 hd_X1_gains (by decide) ⟨by first | decide | omega, by first | decide | omega⟩ ⟨by first | decide | omega, by first | decide | omega⟩ rfl (Nat.le_of_ble_eq_true rfl) dX1_inherit_83 rfl (fun _ _ _ h => h.elim) ?_
              rintro _ _ ⟨rfl, rfl⟩
              try simp only [xst, xput, xpre, List.set_cons_zero, List.set_cons_succ]
              refine x_aload0 B 87 dX1_inherit_86 rfl (by first | rfl | exact xisR_rf _) ?_
              refine g_X1_24_X1 B 90 (by repeat (first | with_reducible exact xr_h | refine xr_t ?_)) dX1_inherit_87 rfl ?_
              refine x_iload1 B 91 dX1_inherit_90 rfl ?_
              refine x_dup2 B 92 dX1_inherit_91 rfl rfl rfl ?_
              refine x_ialdv B 93 (by repeat (first | with_reducible exact xr_h | refine xr_t ?_)) (j := m) (by first | (simp only [xlit, nI_add, pk_mul]; done) | rfl | (simp only [xlit, nI_add, pk_mul]; congr 1; omega)) ⟨by first | omega | decide, by first | decide | omega⟩ (hHf m hm') dX1_inherit_92 rfl ?_
              refine x_aload0 B 94 dX1_inherit_93 rfl (by first | rfl | exact xisR_rf _) ?_
              refine g_X1_24_X1 B 97 (by repeat (first | with_reducible exact xr_h | refine xr_t ?_)) dX1_inherit_94 rfl ?_
              refine x_iload1 B 98 dX1_inherit_97 rfl ?_
              refine x_ialdv B 99 (by repeat (first | with_reducible exact xr_h | refine xr_t ?_)) (j := m) (by first | (simp only [xlit, nI_add, pk_mul]; done) | rfl | (simp only [xlit, nI_add, pk_mul]; congr 1; omega)) ⟨by first | omega | decide, by first | decide | omega⟩ (hHf m hm') dX1_inherit_98 rfl ?_
              refine x_iconst B 100 (v := 1) dX1_inherit_99 (by decide) rfl ?_
              refine x_isub B 101 dX1_inherit_100 rfl ?_
              refine x_iand B 102 dX1_inherit_101 rfl ?_
              rw [show nI (S1.2.2.1 m) &&& (nI (S1.2.2.1 m) - 1) = nI (S1.2.2.1 m - 2 ^ loBit (S1.2.2.1 m)) from jLow_h _ hH c0]
              refine x_iast B 103 (by repeat (first | with_reducible exact xu_h | apply xu_t)) (j := m) (by first | (simp only [xlit, nI_add, pk_mul]; done) | rfl | (simp only [xlit, nI_add, pk_mul]; congr 1; omega)) ⟨by first | omega | decide, by first | decide | omega⟩ dX1_inherit_102 rfl ?_
              have hz : (if 9 < S1.1 b (loBit (S1.2.2.1 m)) + hGets (kd b) then 9 else S1.1 b (loBit (S1.2.2.1 m)) + hGets (kd b)) ≤ 9 := by split <;> omega
              exact next _ _ _ _ (by rw [e2]; exact (hT1.setH m _).gain b _ _) (hF1.gain b _ hz)
  refine x_iconst B 1 (v := 0) dX1_inherit_0 (by decide) rfl ?_
  refine x_istore1 B 2 dX1_inherit_1 rfl ?_
  exact loop nm 0 (by omega) kn hf none none hT hF
theorem m_X1_isSilenced (hT : CRep kn pf hf yf cov ev nb nm S) (hO : HOk nb nm kd S) (hiv : iv 1 = nI nb) (hB : BKn bf bp nb kd) (p : Nat) (hp : p < 4) : XC D yX1_isSilenced (ws_ yX1_isSilenced cX1_isSilenced 3 (Option.some Jvm.ClassFile.FieldType.boolean)) 5 200 (0) (0) [.ref (sa 0), .int (nI p)] [cS0 h sa cov ev, cSI D sa 2 8 pf, cR h ad iv tg, cBr D ad bf, bp] (fun r cs' => r = some (.int (bI (hSil kd S p nb))) ∧ cs' = [cS0 h sa cov ev, cSI D sa 2 8 pf, cR h ad iv tg, cBr D ad bf, bp]) x0 := by
  refine XC.of (by decide) (by simp [Value.category]) (Nat.le_of_ble_eq_true rfl) fun X B => ?_
  show WX D X [cS0 h sa cov ev, cSI D sa 2 8 pf, cR h ad iv tg, cBr D ad bf, bp] 0 0 0 [some (.ref (sa 0)), some (.int (nI p)), none] []
  have hnb := hO.1
  obtain ⟨hcov, -, hPf, -⟩ := hT
  have hC : S.2.2.2.2.1 < 256 := Nat.lt_of_lt_of_le hO.2.2.2.2.2.2.2.2.1 (pow_nb hnb)
  have loop : ∀ (j b : Nat), b + j = nb → hSil kd S p b = false → WX D X [cS0 h sa cov ev, cSI D sa 2 8 pf, cR h ad iv tg, cBr D ad bf, bp] 0 0 2 [some (.ref (sa 0)), some (.int (nI p)), some (.int (nI b))] [] := by
    intro j
    induction j with
    | zero =>
      intro b hb h1
      obtain rfl : b = nb := by omega
      refine x_iload2 B 3 dX1_isSilenced_2 rfl ?_
      refine x_aload0 B 4 dX1_isSilenced_3 rfl (by first | rfl | exact xisR_rf _) ?_
      refine g_X1_3_X1 B 7 (by repeat (first | with_reducible exact xr_h | refine xr_t ?_)) dX1_isSilenced_4 rfl ?_
      refine g_X1_75_X0 B 10 (by repeat (first | with_reducible exact xr_h | refine xr_t ?_)) dX1_isSilenced_7 rfl ?_
      rw [hiv]
      refine x_icmp_ge_t B 44 dX1_isSilenced_10 (by decide) (by (try simp only [xlit]); first | (rw [nI_leI (by omega) (by omega)]; omega) | (rw [nI_ltI (by omega) (by omega)]; omega) | (rw [nI_eq (by omega) (by omega)]; omega)) ?_
      refine x_iconst B 45 (v := 0) dX1_isSilenced_44 (by decide) rfl ?_
      exact x_zret B rfl ⟨by rw [h1]; rfl, rfl⟩ dX1_isSilenced_45 ⟨by first | omega | decide, by first | omega | decide⟩ (by first | exact Or.inl rfl | exact Or.inr rfl | exact x_in01 _ _ _ | exact x_has01 _ _ | exact bI01 _ | assumption)
    | succ j ih =>
      intro b hb h1
      have hb' : b < nb := by omega
      obtain ⟨q, hq1, hq2⟩ := hB b hb'
      have hk := hO.2.2.1 b hb'
      have hP := hO.2.2.2.2.1 b hb'
      have e1 : hSil kd S p (b + 1) = (hSil kd S p b || (hUp S b p && decide (kd b = 3))) := rfl
      rw [h1, Bool.false_or] at e1
      refine x_iload2 B 3 dX1_isSilenced_2 rfl ?_
      refine x_aload0 B 4 dX1_isSilenced_3 rfl (by first | rfl | exact xisR_rf _) ?_
      refine g_X1_3_X1 B 7 (by repeat (first | with_reducible exact xr_h | refine xr_t ?_)) dX1_isSilenced_4 rfl ?_
      refine g_X1_75_X0 B 10 (by repeat (first | with_reducible exact xr_h | refine xr_t ?_)) dX1_isSilenced_7 rfl ?_
      rw [hiv]
      refine x_icmp_ge_f (tp := 44) B 13 dX1_isSilenced_10 (by decide) rfl (by (try simp only [xlit]); first | (rw [nI_leI (by omega) (by omega)]; omega) | (rw [nI_ltI (by omega) (by omega)]; omega) | (rw [nI_eq (by omega) (by omega)]; omega)) ?_
      refine x_aload0 B 14 dX1_isSilenced_13 rfl (by first | rfl | exact xisR_rf _) ?_
      refine x_iload2 B 15 dX1_isSilenced_14 rfl ?_
      refine x_iload1 B 16 dX1_isSilenced_15 rfl ?_
      refine x_callV B 19 (m_X1_isUp b p S.2.2.2.2.1 (S.2.1 b) (by omega) hp (by omega) hC (hPf b hb') hcov) [0, 1] rfl ⟨_, _, _, (by repeat (first | with_reducible exact xr_h | refine xr_t ?_)), rfl, rfl⟩ q1313 q1314 q1315 q89 q1316 hd_X1_isUp (by decide) ⟨by first | decide | omega, by first | decide | omega⟩ ⟨by first | decide | omega, by first | decide | omega⟩ rfl (Nat.le_of_ble_eq_true rfl) dX1_isSilenced_16 rfl (fun _ _ _ h => h.elim) ?_
      rintro _ _ ⟨rfl, rfl⟩
      try simp only [xst, xput, xpre, List.set_cons_zero, List.set_cons_succ]
      rw [show (decide (S.2.1 b = p) && !S.2.2.2.2.1.testBit b) = hUp S b p from rfl]
      cases c1 : hUp S b p with
      | false =>
        refine x_if_eq_t B 38 dX1_isSilenced_19 (by decide) rfl ?_
        refine x_iinc2 B 41 dX1_isSilenced_38 rfl (by first | exact xinc _ | rfl) ?_
        refine x_goto B 2 dX1_isSilenced_41 (by decide) ?_
        exact ih (b + 1) (by omega) (by rw [e1, c1]; rfl)
      | true =>
        refine x_if_eq_f (tp := 38) B 22 dX1_isSilenced_19 (by decide) rfl (by decide) ?_
        refine x_aload0 B 23 dX1_isSilenced_22 rfl (by first | rfl | exact xisR_rf _) ?_
        refine g_X1_3_X1 B 26 (by repeat (first | with_reducible exact xr_h | refine xr_t ?_)) dX1_isSilenced_23 rfl ?_
        refine x_iload2 B 27 dX1_isSilenced_26 rfl ?_
        refine x_callVN B 30 (m_X0_bird_2 b q (kd b) b (by omega) hq1 hq2 hk) [2, 3, 4] rfl ⟨_, _, _, (by repeat (first | with_reducible exact xr_h | refine xr_t ?_)), rfl, rfl⟩ q1262 q1198 qs23 q88 q1199 hd_X0_bird_2 (by decide) ⟨by first | decide | omega, by first | decide | omega⟩ ⟨by first | decide | omega, by first | decide | omega⟩ rfl (Nat.le_of_ble_eq_true rfl) dX1_isSilenced_27 rfl (fun _ _ _ h => h.elim) ?_
        rintro _ _ ⟨rfl, rfl⟩
        try simp only [xst, xput, xpre, List.set_cons_zero, List.set_cons_succ]
        refine x_bSilences_X1 B 33 (i := 4) rfl hq2 hk (by omega) (by omega) (Nat.le_of_ble_eq_true rfl) dX1_isSilenced_30 rfl ?_
        by_cases c3 : kd b = 3
        · rw [decide_eq_true c3]
          refine x_if_eq_f (tp := 38) B 36 dX1_isSilenced_33 (by decide) rfl (by decide) ?_
          refine x_iconst B 37 (v := 1) dX1_isSilenced_36 (by decide) rfl ?_
          exact x_zret B rfl ⟨by rw [hSil_mono (b := b) (by rw [c1, decide_eq_true c3]; rfl) nb hb']; rfl, rfl⟩ dX1_isSilenced_37 ⟨by first | omega | decide, by first | omega | decide⟩ (by first | exact Or.inl rfl | exact Or.inr rfl | exact x_in01 _ _ _ | exact x_has01 _ _ | exact bI01 _ | assumption)
        · rw [decide_eq_false c3]
          refine x_if_eq_t B 38 dX1_isSilenced_33 (by decide) rfl ?_
          refine x_iinc2 B 41 dX1_isSilenced_38 rfl (by first | exact xinc _ | rfl) ?_
          refine x_goto B 2 dX1_isSilenced_41 (by decide) ?_
          exact ih (b + 1) (by omega) (by rw [e1, decide_eq_false c3, Bool.and_false])
  refine x_iconst B 1 (v := 0) dX1_isSilenced_0 (by decide) rfl ?_
  refine x_istore2 B 2 dX1_isSilenced_1 rfl ?_
  exact loop nb 0 (by omega) rfl
theorem m_X1_say {sf : Nat → Int32} (hT : CRep kn pf hf yf cov ev nb nm S) (hF : CFit kn) (hO : HOk nb nm kd S) (hiv : iv 1 = nI nb) (hB : BKn bf bp nb kd) (p b w : Nat) (hp : p < 4) (hb : b < nb) (hw : w < 10) (lis : Option Nat) (h5 : iv 5 = oI lis) (hls : ∀ z, lis = some z → z < 4) (L : List Nat) (hL : SdR iv sf L) (hl : lis = some p → L.length < 16) : XC D yX1_say (ws_ yX1_say cX1_say 5 (Option.none : Option Jvm.ClassFile.FieldType)) 5 200 (0) (0) [.ref (sa 0), .int (nI b), .int (nI w), .int (nI p)] [cS0 h sa cov ev, cS1 D sa, cK D sa kn, cSI D sa 2 8 pf, cR h ad iv tg, cBr D ad bf, bp, cSd D ad sf] (fun r cs' => r = none ∧ ∃ kn' iv' sf', CRep kn' pf hf yf cov ev nb nm (hSay kd S p b w nb) ∧ CFit kn' ∧ SdR iv' sf' (if lis = some p then L ++ [w] else L) ∧ J4 iv iv' ∧ cs' = [cS0 h sa cov ev, cS1 D sa, cK D sa kn', cSI D sa 2 8 pf, cR h ad iv' tg, cBr D ad bf, bp, cSd D ad sf']) x0 := by
  refine XC.of (by decide) (by simp [Value.category]) (Nat.le_of_ble_eq_true rfl) fun X B => ?_
  show WX D X [cS0 h sa cov ev, cS1 D sa, cK D sa kn, cSI D sa 2 8 pf, cR h ad iv tg, cBr D ad bf, bp, cSd D ad sf] 0 0 0 [some (.ref (sa 0)), some (.int (nI b)), some (.int (nI w)), some (.int (nI p)), none] []
  have hnb := hO.1
  have main : ∀ iv1 sf1 (L1 : List Nat), SdR iv1 sf1 L1 → J4 iv iv1 → L1 = (if lis = some p then L ++ [w] else L) → WX D X [cS0 h sa cov ev, cS1 D sa, cK D sa kn, cSI D sa 2 8 pf, cR h ad iv1 tg, cBr D ad bf, bp, cSd D ad sf1] 0 0 34 [some (.ref (sa 0)), some (.int (nI b)), some (.int (nI w)), some (.int (nI p)), none] [] := by
    intro iv1 sf1 L1 hL1 hJ1 hLe
    have hiv1 : iv1 1 = nI nb := (hJ1 1 (by omega)).trans hiv
    have loop : ∀ (j o : Nat), o + j = nb → ∀ kn1, CRep kn1 pf hf yf cov ev nb nm (hSay kd S p b w o) → CFit kn1 → WX D X [cS0 h sa cov ev, cS1 D sa, cK D sa kn1, cSI D sa 2 8 pf, cR h ad iv1 tg, cBr D ad bf, bp, cSd D ad sf1] 0 0 37 [some (.ref (sa 0)), some (.int (nI b)), some (.int (nI w)), some (.int (nI p)), some (.int (nI o))] [] := by
      intro j
      induction j with
      | zero =>
        intro o ho kn1 hT1 hF1
        obtain rfl : o = nb := by omega
        refine x_iload4 B 39 dX1_say_37 rfl ?_
        refine x_aload0 B 40 dX1_say_39 rfl (by first | rfl | exact xisR_rf _) ?_
        refine g_X1_3_X1 B 43 (by repeat (first | with_reducible exact xr_h | refine xr_t ?_)) dX1_say_40 rfl ?_
        refine g_X1_75_X0 B 46 (by repeat (first | with_reducible exact xr_h | refine xr_t ?_)) dX1_say_43 rfl ?_
        rw [hiv1]
        refine x_icmp_ge_t B 90 dX1_say_46 (by decide) (by (try simp only [xlit]); first | (rw [nI_leI (by omega) (by omega)]; omega) | (rw [nI_ltI (by omega) (by omega)]; omega) | (rw [nI_eq (by omega) (by omega)]; omega)) ?_
        exact x_vret B rfl ⟨rfl, kn1, iv1, sf1, hT1, hF1, by rw [← hLe]; exact hL1, hJ1, rfl⟩ dX1_say_90 ⟨by first | omega | decide, by first | omega | decide⟩
      | succ j ih =>
        intro o ho kn1 hT1 hF1
        have ho' : o < nb := by omega
        have hO1 := hO.say (kd := kd) p b w o
        have e2 := hUp_say (kd := kd) (S := S) (p := p) (b := b) (w := w) o
        have e1 : hSay kd S p b w (o + 1) = if o ≠ b ∧ hUp (hSay kd S p b w o) o p = true then hGain (hSay kd S p b w o) o w (hHears (kd o)) else hSay kd S p b w o := rfl
        generalize hSay kd S p b w o = S1 at *
        obtain ⟨q, hq1, hq2⟩ := hB o ho'
        have hk := hO1.2.2.1 o ho'
        have hP := hO1.2.2.2.2.1 o ho'
        obtain ⟨hcov, -, hPf, hKn, -, -⟩ := id hT1
        have hC : S1.2.2.2.2.1 < 256 := Nat.lt_of_lt_of_le hO1.2.2.2.2.2.2.2.2.1 (pow_nb hnb)
        have next : ∀ kn2, CRep kn2 pf hf yf cov ev nb nm (hSay kd S p b w (o + 1)) → CFit kn2 → WX D X [cS0 h sa cov ev, cS1 D sa, cK D sa kn2, cSI D sa 2 8 pf, cR h ad iv1 tg, cBr D ad bf, bp, cSd D ad sf1] 0 0 84 [some (.ref (sa 0)), some (.int (nI b)), some (.int (nI w)), some (.int (nI p)), some (.int (nI o))] [] := by
          intro kn2 hT2 hF2
          refine x_iinc4 B 87 dX1_say_84 rfl (by first | exact xinc _ | rfl) ?_
          refine x_goto B 37 dX1_say_87 (by decide) ?_
          exact ih (o + 1) (by omega) kn2 hT2 hF2
        refine x_iload4 B 39 dX1_say_37 rfl ?_
        refine x_aload0 B 40 dX1_say_39 rfl (by first | rfl | exact xisR_rf _) ?_
        refine g_X1_3_X1 B 43 (by repeat (first | with_reducible exact xr_h | refine xr_t ?_)) dX1_say_40 rfl ?_
        refine g_X1_75_X0 B 46 (by repeat (first | with_reducible exact xr_h | refine xr_t ?_)) dX1_say_43 rfl ?_
        rw [hiv1]
        refine x_icmp_ge_f (tp := 90) B 49 dX1_say_46 (by decide) rfl (by (try simp only [xlit]); first | (rw [nI_leI (by omega) (by omega)]; omega) | (rw [nI_ltI (by omega) (by omega)]; omega) | (rw [nI_eq (by omega) (by omega)]; omega)) ?_
        by_cases c0 : o = b
        · refine x_iload4 B 51 dX1_say_49 rfl ?_
          refine x_iload1 B 52 dX1_say_51 rfl ?_
          refine x_icmp_eq_t B 84 dX1_say_52 (by decide) (by (try simp only [xlit]); first | (rw [nI_leI (by omega) (by omega)]; omega) | (rw [nI_ltI (by omega) (by omega)]; omega) | (rw [nI_eq (by omega) (by omega)]; omega)) ?_
          exact next kn1 (by rw [e1, if_neg (by simp [c0])]; exact hT1) hF1
        · refine x_iload4 B 51 dX1_say_49 rfl ?_
          refine x_iload1 B 52 dX1_say_51 rfl ?_
          refine x_icmp_eq_f (tp := 84) B 55 dX1_say_52 (by decide) rfl (by (try simp only [xlit]); first | (rw [nI_leI (by omega) (by omega)]; omega) | (rw [nI_ltI (by omega) (by omega)]; omega) | (rw [nI_eq (by omega) (by omega)]; omega)) ?_
          refine x_aload0 B 56 dX1_say_55 rfl (by first | rfl | exact xisR_rf _) ?_
          refine x_iload4 B 58 dX1_say_56 rfl ?_
          refine x_iload3 B 59 dX1_say_58 rfl ?_
          refine x_callV B 62 (m_X1_isUp o p S1.2.2.2.2.1 (S1.2.1 o) (by omega) hp (by omega) hC (hPf o ho') hcov) [0, 3] rfl ⟨_, _, _, (by repeat (first | with_reducible exact xr_h | refine xr_t ?_)), rfl, rfl⟩ q1313 q1314 q1315 q89 q1316 hd_X1_isUp (by decide) ⟨by first | decide | omega, by first | decide | omega⟩ ⟨by first | decide | omega, by first | decide | omega⟩ rfl (Nat.le_of_ble_eq_true rfl) dX1_say_59 rfl (fun _ _ _ h => h.elim) ?_
          rintro _ _ ⟨rfl, rfl⟩
          try simp only [xst, xput, xpre, List.set_cons_zero, List.set_cons_succ]
          rw [show (decide (S1.2.1 o = p) && !S1.2.2.2.2.1.testBit o) = hUp S1 o p from rfl]
          cases c1 : hUp S1 o p with
          | false =>
            refine x_if_eq_t B 84 dX1_say_62 (by decide) rfl ?_
            exact next kn1 (by rw [e1, if_neg (by rw [c1]; simp)]; exact hT1) hF1
          | true =>
            rw [if_pos ⟨c0, c1⟩] at e1
            refine x_if_eq_f (tp := 84) B 65 dX1_say_62 (by decide) rfl (by decide) ?_
            refine x_aload0 B 66 dX1_say_65 rfl (by first | rfl | exact xisR_rf _) ?_
            refine x_iload4 B 68 dX1_say_66 rfl ?_
            refine x_iload2 B 69 dX1_say_68 rfl ?_
            refine x_aload0 B 70 dX1_say_69 rfl (by first | rfl | exact xisR_rf _) ?_
            refine g_X1_3_X1 B 73 (by repeat (first | with_reducible exact xr_h | refine xr_t ?_)) dX1_say_70 rfl ?_
            refine x_iload4 B 75 dX1_say_73 rfl ?_
            refine x_callVN B 78 (m_X0_bird_2 o q (kd o) o (by omega) hq1 hq2 hk) [4, 5, 6] rfl ⟨_, _, _, (by repeat (first | with_reducible exact xr_h | refine xr_t ?_)), rfl, rfl⟩ q1262 q1198 qs23 q88 q1199 hd_X0_bird_2 (by decide) ⟨by first | decide | omega, by first | decide | omega⟩ ⟨by first | decide | omega, by first | decide | omega⟩ rfl (Nat.le_of_ble_eq_true rfl) dX1_say_75 rfl (fun _ _ _ h => h.elim) ?_
            rintro _ _ ⟨rfl, rfl⟩
            try simp only [xst, xput, xpre, List.set_cons_zero, List.set_cons_succ]
            refine x_bHears_X1 B 81 (i := 6) rfl hq2 hk (by omega) (by omega) (Nat.le_of_ble_eq_true rfl) dX1_say_78 rfl ?_
            have hh2 := hHears_le (kd o)
            refine x_callV B 84 (m_X1_gains o w (S1.1 o w) (hHears (kd o)) (by omega) hw (hKn o w ho' hw) (hO1.2.2.2.1 o w ho' hw) (by omega)) [0, 1, 2] rfl ⟨_, _, _, (by repeat (first | with_reducible exact xr_h | refine xr_t ?_)), rfl, rfl⟩ q1304 q1305 q1306 q89 q1307 hd_X1_gains (by decide) ⟨by first | decide | omega, by first | decide | omega⟩ ⟨by first | decide | omega, by first | decide | omega⟩ rfl (Nat.le_of_ble_eq_true rfl) dX1_say_81 rfl (fun _ _ _ h => h.elim) ?_
            rintro _ _ ⟨rfl, rfl⟩
            try simp only [xst, xput, xpre, List.set_cons_zero, List.set_cons_succ]
            have hz : (if 9 < S1.1 o w + hHears (kd o) then 9 else S1.1 o w + hHears (kd o)) ≤ 9 := by split <;> omega
            exact next _ (by rw [e1]; exact hT1.gain o w _) (hF1.gain o w hz)
    refine x_iconst B 35 (v := 0) dX1_say_34 (by decide) rfl ?_
    refine x_istore4 B 37 dX1_say_35 rfl ?_
    exact loop nb 0 (by omega) kn hT hF
  refine x_aload0 B 1 dX1_say_0 rfl (by first | rfl | exact xisR_rf _) ?_
  refine g_X1_3_X1 B 4 (by repeat (first | with_reducible exact xr_h | refine xr_t ?_)) dX1_say_1 rfl ?_
  refine g_X1_85_X0 B 7 (by repeat (first | with_reducible exact xr_h | refine xr_t ?_)) dX1_say_4 rfl ?_
  refine x_iload3 B 8 dX1_say_7 rfl ?_
  rw [h5]
  by_cases c : lis = some p
  · have hl16 := hl c
    rw [c, show oI (some p) = nI p from rfl]
    refine x_icmp_ne_f (tp := 34) B 11 dX1_say_8 (by decide) rfl rfl ?_
    refine x_aload0 B 12 dX1_say_11 rfl (by first | rfl | exact xisR_rf _) ?_
    refine g_X1_3_X1 B 15 (by repeat (first | with_reducible exact xr_h | refine xr_t ?_)) dX1_say_12 rfl ?_
    refine g_X1_88_X0 B 18 (by repeat (first | with_reducible exact xr_h | refine xr_t ?_)) dX1_say_15 rfl ?_
    refine x_aload0 B 19 dX1_say_18 rfl (by first | rfl | exact xisR_rf _) ?_
    refine g_X1_3_X1 B 22 (by repeat (first | with_reducible exact xr_h | refine xr_t ?_)) dX1_say_19 rfl ?_
    refine x_dup B 23 dX1_say_22 rfl rfl ?_
    refine g_X1_91_X0 B 26 (by repeat (first | with_reducible exact xr_h | refine xr_t ?_)) dX1_say_23 rfl ?_
    refine x_dup_x1 B 27 dX1_say_26 rfl rfl rfl ?_
    rw [hL.1]
    refine x_iconst B 28 (v := 1) dX1_say_27 (by decide) rfl ?_
    refine x_iadd B 29 dX1_say_28 rfl ?_
    refine s_X1_91_X0 B 32 (by repeat (first | with_reducible exact xu_h | apply xu_t)) dX1_say_29 rfl ?_
    rw [nI_1]
    refine x_iload2 B 33 dX1_say_32 rfl ?_
    refine x_iast B 34 (by repeat (first | with_reducible exact xu_h | apply xu_t)) (j := L.length) (by first | (simp only [xlit, nI_add, pk_mul]; done) | rfl | (simp only [xlit, nI_add, pk_mul]; congr 1; omega)) ⟨by first | omega | decide, by first | decide | omega⟩ dX1_say_33 rfl ?_
    exact main _ _ _ (hL.add hl16 w) (fun j hj => pk_un hj) (by rw [if_pos c])
  · refine x_icmp_ne_t B 34 dX1_say_8 (by decide) (fun z => c ((oI_inj (z := some p) (fun z e => by have := hls z e; omega) (fun z e => by cases e; omega)).mp z)) ?_
    exact main iv sf L hL (fun j hj => rfl) (by rw [if_neg c])
end C10
