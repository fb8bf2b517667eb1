/-! the twin, 4: an evening, its end -/
section T4
variable {D : xG} {h : Nat} {ad : Nat → Nat} {iv row : Nat → Int32} {base nb nm : Nat} {kd : Nat → Nat} {S : HS} {sw sm : Nat → Int32}
theorem hUp_say {kd : Nat → Nat} {S : HS} {p b w : Nat} : ∀ o, (hSay kd S p b w o).2 = S.2
  | 0 => rfl
  | o + 1 => by
    have ih := hUp_say (kd := kd) (S := S) (p := p) (b := b) (w := w) o
    show (if o ≠ b ∧ hUp (hSay kd S p b w o) o p = true then hGain (hSay kd S p b w o) o w (hHears (kd o)) else hSay kd S p b w o).2 = S.2
    split
    · exact ih
    · exact ih
theorem m_X2_say (hT : TRep row base nb nm kd S) (hO : HOk nb nm kd S) (hB : base + 108 ≤ 1404) (p b w : Nat) (hp : p < 4) (hb : b < nb) (hw : w < 10) (L : List Nat) (hS : SRep sw sm p L) (hl : L.length < 16) : XC D yX2_say (ws_ yX2_say cX2_say 6 (Option.none : Option Jvm.ClassFile.FieldType)) 2 80 (0) (0) [.ref h, .int (nI base), .int (nI p), .int (nI b), .int (nI w)] [tR D h ad iv, tI D ad 0 1404 row, tI D ad 36 64 sw, tI D ad 37 4 sm] (fun r cs' => r = none ∧ ∃ row' sw' sm', TRep row' base nb nm kd (hSay kd S p b w nb) ∧ TSame base row row' ∧ SRep sw' sm' p (L ++ [w]) ∧ SSame p sw sw' sm sm' ∧ cs' = [tR D h ad iv, tI D ad 0 1404 row', tI D ad 36 64 sw', tI D ad 37 4 sm']) x0 := by
  refine XC.of (by decide) (by simp [Value.category]) (Nat.le_of_ble_eq_true rfl) fun X B => ?_
  show WX D X [tR D h ad iv, tI D ad 0 1404 row, tI D ad 36 64 sw, tI D ad 37 4 sm] 0 0 0 [some (.ref h), some (.int (nI base)), some (.int (nI p)), some (.int (nI b)), some (.int (nI w)), none] []
  have hnb := hO.1
  have hC : S.2.2.2.2.1 < 256 := Nat.lt_of_lt_of_le hO.2.2.2.2.2.2.2.2.1 (pow_nb hnb)
  obtain ⟨hS2, hSS⟩ := hS.add hl w
  generalize hsw : upd sw (16 * p + L.length) (nI w) = sw' at hS2 hSS
  generalize hsm : upd sm p (nI (L.length + 1)) = sm' at hS2 hSS
  have loop : ∀ (k o : Nat), o + k = nb → ∀ row', TRep row' base nb nm kd (hSay kd S p b w o) → TSame base row row' → WX D X [tR D h ad iv, tI D ad 0 1404 row', tI D ad 36 64 sw', tI D ad 37 4 sm'] 0 0 31 [some (.ref h), some (.int (nI base)), some (.int (nI p)), some (.int (nI b)), some (.int (nI w)), some (.int (nI o))] [] := by
    intro k
    induction k with
    | zero =>
      intro o ho row' hT' hR'
      obtain rfl : o = nb := by omega
      refine x_iload5 B 33 dX2_say_31 rfl ?_
      refine x_aload0 B 34 dX2_say_33 rfl (by first | rfl | exact xisR_rf _) ?_
      refine g_X2_7_X2 B 37 (by repeat (first | with_reducible exact xr_h | refine xr_t ?_)) dX2_say_34 rfl ?_
      refine x_iload1 B 38 dX2_say_37 rfl ?_
      refine x_iconst B 39 (v := 0) dX2_say_38 (by decide) rfl ?_
      refine x_iadd B 40 dX2_say_39 rfl ?_
      refine x_ialdv B 41 (by repeat (first | with_reducible exact xr_h | refine xr_t ?_)) (j := base + 0) (by first | (simp only [xlit, nI_add, pk_mul]; done) | rfl | (simp only [xlit, nI_add, pk_mul]; congr 1; omega)) ⟨by first | omega | decide, by first | decide | omega⟩ hT'.1 dX2_say_40 rfl ?_
      refine x_icmp_ge_t B 105 dX2_say_41 (by decide) (by (try simp only [xlit]); first | (rw [nI_leI (by omega) (by omega)]; omega) | (rw [nI_ltI (by omega) (by omega)]; omega) | (rw [nI_eq (by omega) (by omega)]; omega)) ?_
      exact x_vret B rfl ⟨rfl, row', sw', sm', hT', hR', hS2, hSS, rfl⟩ dX2_say_105 ⟨by first | omega | decide, by first | omega | decide⟩
    | succ k ih =>
      intro o ho row' hT' hR'
      have ho' : o < nb := by omega
      have hO' := hO.say p b w o
      have e2 := hUp_say (kd := kd) (S := S) (p := p) (b := b) (w := w) o
      have e1 : hSay kd S p b w (o + 1) = if o ≠ b ∧ hUp (hSay kd S p b w o) o p = true then hGain (hSay kd S p b w o) o w (hHears (kd o)) else hSay kd S p b w o := rfl
      generalize hSay kd S p b w o = S1 at *
      have hP := hO'.2.2.2.2.1 o ho'
      have hk := hO'.2.2.1 o ho'
      have next : ∀ row2, TRep row2 base nb nm kd (hSay kd S p b w (o + 1)) → TSame base row row2 → WX D X [tR D h ad iv, tI D ad 0 1404 row2, tI D ad 36 64 sw', tI D ad 37 4 sm'] 0 0 99 [some (.ref h), some (.int (nI base)), some (.int (nI p)), some (.int (nI b)), some (.int (nI w)), some (.int (nI o))] [] := by
        intro row2 hT2 hR2
        refine x_iinc5 B 102 dX2_say_99 rfl (by first | exact xinc _ | rfl) ?_
        refine x_goto B 31 dX2_say_102 (by decide) ?_
        exact ih (o + 1) (by omega) row2 hT2 hR2
      refine x_iload5 B 33 dX2_say_31 rfl ?_
      refine x_aload0 B 34 dX2_say_33 rfl (by first | rfl | exact xisR_rf _) ?_
      refine g_X2_7_X2 B 37 (by repeat (first | with_reducible exact xr_h | refine xr_t ?_)) dX2_say_34 rfl ?_
      refine x_iload1 B 38 dX2_say_37 rfl ?_
      refine x_iconst B 39 (v := 0) dX2_say_38 (by decide) rfl ?_
      refine x_iadd B 40 dX2_say_39 rfl ?_
      refine x_ialdv B 41 (by repeat (first | with_reducible exact xr_h | refine xr_t ?_)) (j := base + 0) (by first | (simp only [xlit, nI_add, pk_mul]; done) | rfl | (simp only [xlit, nI_add, pk_mul]; congr 1; omega)) ⟨by first | omega | decide, by first | decide | omega⟩ hT'.1 dX2_say_40 rfl ?_
      refine x_icmp_ge_f (tp := 105) B 44 dX2_say_41 (by decide) rfl (by (try simp only [xlit]); first | (rw [nI_leI (by omega) (by omega)]; omega) | (rw [nI_ltI (by omega) (by omega)]; omega) | (rw [nI_eq (by omega) (by omega)]; omega)) ?_
      refine x_iload5 B 46 dX2_say_44 rfl ?_
      refine x_iload3 B 47 dX2_say_46 rfl ?_
      by_cases c0 : o = b
      · refine x_icmp_eq_t B 99 dX2_say_47 (by decide) (by (try simp only [xlit]); first | (rw [nI_leI (by omega) (by omega)]; omega) | (rw [nI_ltI (by omega) (by omega)]; omega) | (rw [nI_eq (by omega) (by omega)]; omega)) ?_
        exact next row' (by rw [e1, if_neg (by simp [c0])]; exact hT') hR'
      · refine x_icmp_eq_f (tp := 99) B 50 dX2_say_47 (by decide) rfl (by (try simp only [xlit]); first | (rw [nI_leI (by omega) (by omega)]; omega) | (rw [nI_ltI (by omega) (by omega)]; omega) | (rw [nI_eq (by omega) (by omega)]; omega)) ?_
        refine x_aload0 B 51 dX2_say_50 rfl (by first | rfl | exact xisR_rf _) ?_
        refine g_X2_7_X2 B 54 (by repeat (first | with_reducible exact xr_h | refine xr_t ?_)) dX2_say_51 rfl ?_
        refine x_iload1 B 55 dX2_say_54 rfl ?_
        refine x_bipush B 57 (v := 12) dX2_say_55 (by decide) rfl ?_
        refine x_iadd B 58 dX2_say_57 rfl ?_
        refine x_iload5 B 60 dX2_say_58 rfl ?_
        refine x_iadd B 61 dX2_say_60 rfl ?_
        refine x_ialdv B 62 (by repeat (first | with_reducible exact xr_h | refine xr_t ?_)) (j := base + 12 + o) (by first | (simp only [xlit, nI_add, pk_mul]; done) | rfl | (simp only [xlit, nI_add, pk_mul]; congr 1; omega)) ⟨by first | omega | decide, by first | decide | omega⟩ (hT'.2.2.2.2.2.1 o ho') dX2_say_61 rfl ?_
        refine x_iload2 B 63 dX2_say_62 rfl ?_
        by_cases c1 : S1.2.1 o = p
        · refine x_icmp_ne_f (tp := 99) B 66 dX2_say_63 (by decide) rfl (by (try simp only [xlit]); first | (rw [nI_leI (by omega) (by omega)]; omega) | (rw [nI_ltI (by omega) (by omega)]; omega) | (rw [nI_eq (by omega) (by omega)]; omega)) ?_
          refine x_aload0 B 67 dX2_say_66 rfl (by first | rfl | exact xisR_rf _) ?_
          refine x_iload1 B 68 dX2_say_67 rfl ?_
          refine x_iload5 B 70 dX2_say_68 rfl ?_
          refine x_callV B 73 (m_X2_isOpen base o S1.2.2.2.2.1 (by omega) hT'.2.2.2.1 (by rw [e2]; omega) (by omega)) [0, 1] rfl ⟨_, _, _, (by repeat (first | with_reducible exact xr_h | refine xr_t ?_)), rfl, rfl⟩ q2027 q2029 qs65 q92 q2030 hd_X2_isOpen (by decide) ⟨by first | decide | omega, by first | decide | omega⟩ ⟨by first | decide | omega, by first | decide | omega⟩ rfl (Nat.le_of_ble_eq_true rfl) dX2_say_70 rfl (fun _ _ _ h => h.elim) ?_
          rintro _ _ ⟨rfl, rfl⟩
          simp only [xst, xput, xpre, List.set_cons_zero, List.set_cons_succ]
          by_cases c3 : S1.2.2.2.2.1.testBit o = true
          · rw [if_pos c3]
            refine x_if_eq_t B 99 dX2_say_73 (by decide) rfl ?_
            exact next row' (by rw [e1, if_neg (by simp [hUp, c3])]; exact hT') hR'
          · rw [if_neg c3]
            refine x_if_eq_f (tp := 99) B 76 dX2_say_73 (by decide) rfl (by decide) ?_
            refine x_aload0 B 77 dX2_say_76 rfl (by first | rfl | exact xisR_rf _) ?_
            refine x_iload1 B 78 dX2_say_77 rfl ?_
            refine x_iload5 B 80 dX2_say_78 rfl ?_
            refine x_iload4 B 82 dX2_say_80 rfl ?_
            refine x_aload0 B 83 dX2_say_82 rfl (by first | rfl | exact xisR_rf _) ?_
            refine g_X2_7_X2 B 86 (by repeat (first | with_reducible exact xr_h | refine xr_t ?_)) dX2_say_83 rfl ?_
            refine x_iload1 B 87 dX2_say_86 rfl ?_
            refine x_iconst B 88 (v := 4) dX2_say_87 (by decide) rfl ?_
            refine x_iadd B 89 dX2_say_88 rfl ?_
            refine x_iload5 B 91 dX2_say_89 rfl ?_
            refine x_iadd B 92 dX2_say_91 rfl ?_
            refine x_ialdv B 93 (by repeat (first | with_reducible exact xr_h | refine xr_t ?_)) (j := base + 4 + o) (by first | (simp only [xlit, nI_add, pk_mul]; done) | rfl | (simp only [xlit, nI_add, pk_mul]; congr 1; omega)) ⟨by first | omega | decide, by first | decide | omega⟩ (hT'.2.2.2.2.1 o ho') dX2_say_92 rfl ?_
            refine x_callS B 96 (m_X2_hears _) [] rfl q2054 q2055 q92 q2056 hd_X2_hears rfl ⟨by first | decide | omega, by first | decide | omega⟩ ⟨by first | decide | omega, by first | decide | omega⟩ rfl (Nat.le_of_ble_eq_true rfl) dX2_say_93 rfl (fun _ _ _ h => h.elim) ?_
            rintro _ _ ⟨rfl, rfl⟩
            simp only [xst, xput, xpre]
            rw [t_hears_h _ (by omega)]
            have := hHears_le (kd o)
            refine x_callV B 99 (m_X2_learns base o w (nI (hHears (kd o))) (by omega)) [0, 1] rfl ⟨_, _, _, (by repeat (first | with_reducible exact xr_h | refine xr_t ?_)), rfl, rfl⟩ q2031 q2033 qs66 q92 q2034 hd_X2_learns (by decide) ⟨by first | decide | omega, by first | decide | omega⟩ ⟨by first | decide | omega, by first | decide | omega⟩ rfl (Nat.le_of_ble_eq_true rfl) dX2_say_96 rfl (fun _ _ _ h => h.elim) ?_
            rintro _ _ ⟨rfl, rfl⟩
            simp only [xst, xput, xpre, List.set_cons_zero, List.set_cons_succ]
            refine next _ ?_ (hR'.upd (by omega) (by omega))
            have e3 : hSay kd S p b w (o + 1) = hGain S1 o w (hHears (kd o)) := by rw [e1, if_pos ⟨c0, by simp [hUp, c1, c3]⟩]
            rw [e3]
            exact tGain hT' hO' ho' hw (by omega)
        · refine x_icmp_ne_t B 99 dX2_say_63 (by decide) (by (try simp only [xlit]); first | (rw [nI_leI (by omega) (by omega)]; omega) | (rw [nI_ltI (by omega) (by omega)]; omega) | (rw [nI_eq (by omega) (by omega)]; omega)) ?_
          exact next row' (by rw [e1, if_neg (by simp [hUp, c1])]; exact hT') hR'
  refine x_aload0 B 1 dX2_say_0 rfl (by first | rfl | exact xisR_rf _) ?_
  refine g_X2_89_X2 B 4 (by repeat (first | with_reducible exact xr_h | refine xr_t ?_)) dX2_say_1 rfl ?_
  refine x_bipush B 6 (v := 16) dX2_say_4 (by decide) rfl ?_
  refine x_iload2 B 7 dX2_say_6 rfl ?_
  refine x_imul B 8 dX2_say_7 rfl ?_
  refine x_aload0 B 9 dX2_say_8 rfl (by first | rfl | exact xisR_rf _) ?_
  refine g_X2_92_X2 B 12 (by repeat (first | with_reducible exact xr_h | refine xr_t ?_)) dX2_say_9 rfl ?_
  refine x_iload2 B 13 dX2_say_12 rfl ?_
  refine x_ialdv B 14 (by repeat (first | with_reducible exact xr_h | refine xr_t ?_)) rfl ⟨by first | omega | decide, by first | decide | omega⟩ hS.1 dX2_say_13 rfl ?_
  refine x_iadd B 15 dX2_say_14 rfl ?_
  refine x_iload4 B 17 dX2_say_15 rfl ?_
  refine x_iast B 18 (by repeat (first | with_reducible exact xu_h | apply xu_t)) (j := 16 * p + L.length) (by first | (simp only [xlit, nI_add, pk_mul]; done) | rfl | (simp only [xlit, nI_add, pk_mul]; congr 1; omega)) ⟨by first | omega | decide, by first | decide | omega⟩ dX2_say_17 rfl ?_
  refine x_aload0 B 19 dX2_say_18 rfl (by first | rfl | exact xisR_rf _) ?_
  refine g_X2_92_X2 B 22 (by repeat (first | with_reducible exact xr_h | refine xr_t ?_)) dX2_say_19 rfl ?_
  refine x_iload2 B 23 dX2_say_22 rfl ?_
  refine x_dup2 B 24 dX2_say_23 rfl rfl rfl ?_
  refine x_ialdv B 25 (by repeat (first | with_reducible exact xr_h | refine xr_t ?_)) rfl ⟨by first | omega | decide, by first | decide | omega⟩ hS.1 dX2_say_24 rfl ?_
  refine x_iconst B 26 (v := 1) dX2_say_25 (by decide) rfl ?_
  refine x_iadd B 27 dX2_say_26 rfl ?_
  rw [show nI L.length + 1 = nI (L.length + 1) from nI_1 _]
  refine x_iast B 28 (by repeat (first | with_reducible exact xu_h | apply xu_t)) rfl ⟨by first | omega | decide, by first | decide | omega⟩ dX2_say_27 rfl ?_
  refine x_iconst B 29 (v := 0) dX2_say_28 (by decide) rfl ?_
  refine x_istore5 B 31 dX2_say_29 rfl ?_
  rw [hsw, hsm]
  exact loop nb 0 (by omega) row hT TSame.rf
theorem m_X2_speak (hT : TRep row base nb nm kd S) (hO : HOk nb nm kd S) (hB : base + 108 ≤ 1404) (p : Nat) (hp : p < 4) (hS : SRep sw sm p []) : XC D yX2_speak (ws_ yX2_speak cX2_speak 7 (Option.none : Option Jvm.ClassFile.FieldType)) 3 120 (0) (0) [.ref h, .int (nI base), .int (nI p)] [tR D h ad iv, tI D ad 0 1404 row, tI D ad 36 64 sw, tI D ad 37 4 sm] (fun r cs' => r = none ∧ ∃ row' sw' sm', TRep row' base nb nm kd (hSpk kd nb p S nb).1 ∧ TSame base row row' ∧ SRep sw' sm' p (hSpk kd nb p S nb).2 ∧ SSame p sw sw' sm sm' ∧ cs' = [tR D h ad iv, tI D ad 0 1404 row', tI D ad 36 64 sw', tI D ad 37 4 sm']) x0 := by
  refine XC.of (by decide) (by simp [Value.category]) (Nat.le_of_ble_eq_true rfl) fun X B => ?_
  show WX D X [tR D h ad iv, tI D ad 0 1404 row, tI D ad 36 64 sw, tI D ad 37 4 sm] 0 0 0 [some (.ref h), some (.int (nI base)), some (.int (nI p)), none, none, none, none] []
  have hnb := hO.1
  have loop : ∀ (k b : Nat), b + k = nb → ∀ row' sw' sm', TRep row' base nb nm kd (hSpk kd nb p S b).1 → TSame base row row' → SRep sw' sm' p (hSpk kd nb p S b).2 → SSame p sw sw' sm sm' → (hSpk kd nb p S b).2.length ≤ 2 * b → WX D X [tR D h ad iv, tI D ad 0 1404 row', tI D ad 36 64 sw', tI D ad 37 4 sm'] 0 0 2 [some (.ref h), some (.int (nI base)), some (.int (nI p)), some (.int (nI b)), none, none, none] [] := by
    intro k
    induction k with
    | zero =>
      intro b hb row' sw' sm' hT' hR' hS' hSS' hl'
      obtain rfl : b = nb := by omega
      refine x_iload3 B 3 dX2_speak_2 rfl ?_
      refine x_aload0 B 4 dX2_speak_3 rfl (by first | rfl | exact xisR_rf _) ?_
      refine g_X2_7_X2 B 7 (by repeat (first | with_reducible exact xr_h | refine xr_t ?_)) dX2_speak_4 rfl ?_
      refine x_iload1 B 8 dX2_speak_7 rfl ?_
      refine x_iconst B 9 (v := 0) dX2_speak_8 (by decide) rfl ?_
      refine x_iadd B 10 dX2_speak_9 rfl ?_
      refine x_ialdv B 11 (by repeat (first | with_reducible exact xr_h | refine xr_t ?_)) (j := base + 0) (by first | (simp only [xlit, nI_add, pk_mul]; done) | rfl | (simp only [xlit, nI_add, pk_mul]; congr 1; omega)) ⟨by first | omega | decide, by first | decide | omega⟩ hT'.1 dX2_speak_10 rfl ?_
      refine x_icmp_ge_t B 117 dX2_speak_11 (by decide) (by (try simp only [xlit]); first | (rw [nI_leI (by omega) (by omega)]; omega) | (rw [nI_ltI (by omega) (by omega)]; omega) | (rw [nI_eq (by omega) (by omega)]; omega)) ?_
      exact x_vret B rfl ⟨rfl, row', sw', sm', hT', hR', hS', hSS', rfl⟩ dX2_speak_117 ⟨by first | omega | decide, by first | omega | decide⟩
    | succ k ih =>
      intro b hb row' sw' sm' hT' hR' hS' hSS' hl'
      have hb' : b < nb := by omega
      have hO' := hO.spk (kd := kd) p b
      have e1 : hSpk kd nb p S (b + 1) = if hUp (hSpk kd nb p S b).1 b p = true then hTalk kd nb p b (hSays (kd b)) (hSpk kd nb p S b).1 0 (hSpk kd nb p S b).2 else hSpk kd nb p S b := rfl
      generalize hr : hSpk kd nb p S b = r at *
      obtain ⟨S1, L1⟩ := r
      dsimp only at hT' hS' hl' hO' e1
      have hP := hO'.2.2.2.2.1 b hb'
      have hk := hO'.2.2.1 b hb'
      have hC1 : S1.2.2.2.2.1 < 256 := Nat.lt_of_lt_of_le hO'.2.2.2.2.2.2.2.2.1 (pow_nb hnb)
      have hs2 := hSays_le (kd b)
      have next : ∀ row2 sw2 sm2 a4 a5 a6, TRep row2 base nb nm kd (hSpk kd nb p S (b + 1)).1 → TSame base row row2 → SRep sw2 sm2 p (hSpk kd nb p S (b + 1)).2 → SSame p sw sw2 sm sm2 → (hSpk kd nb p S (b + 1)).2.length ≤ 2 * (b + 1) → WX D X [tR D h ad iv, tI D ad 0 1404 row2, tI D ad 36 64 sw2, tI D ad 37 4 sm2] 0 0 111 [some (.ref h), some (.int (nI base)), some (.int (nI p)), some (.int (nI b)), a4, a5, a6] [] := by
        intro row2 sw2 sm2 a4 a5 a6 hT2 hR2 hS2 hSS2 hl2
        refine x_iinc3 B 114 dX2_speak_111 rfl (by first | exact xinc _ | rfl) ?_
        refine x_goto B 2 dX2_speak_114 (by decide) ?_
        exact x_fg (by repeat (first | exact xfg_nil | apply xfg_same | apply xfg_none)) (ih (b + 1) (by omega) row2 sw2 sm2 hT2 hR2 hS2 hSS2 hl2)
      -- the words of one bird
      have talk : ∀ (j i : Nat), i + j = hSays (kd b) → ∀ S2 told L2 row2 sw2 sm2, HOk nb nm kd S2 → S2.2 = S1.2 → told < 1024 → TRep row2 base nb nm kd S2 → TSame base row row2 → SRep sw2 sm2 p L2 → SSame p sw sw2 sm sm2 → L2.length ≤ 2 * b + i → hTalk kd nb p b j S2 told L2 = hSpk kd nb p S (b + 1) → WX D X [tR D h ad iv, tI D ad 0 1404 row2, tI D ad 36 64 sw2, tI D ad 37 4 sm2] 0 0 53 [some (.ref h), some (.int (nI base)), some (.int (nI p)), some (.int (nI b)), some (.int (nI told)), some (.int (oI (hBest (S2.1 b) told 10))), some (.int (nI i))] [] := by
        intro j
        induction j with
        | zero =>
          intro i hi S2 told L2 row2 sw2 sm2 hO2 hE2 ht2 hT2 hR2 hS2 hSS2 hl2 he
          refine x_iload6 B 55 dX2_speak_53 rfl ?_
          refine x_aload0 B 56 dX2_speak_55 rfl (by first | rfl | exact xisR_rf _) ?_
          refine g_X2_7_X2 B 59 (by repeat (first | with_reducible exact xr_h | refine xr_t ?_)) dX2_speak_56 rfl ?_
          refine x_iload1 B 60 dX2_speak_59 rfl ?_
          refine x_iconst B 61 (v := 4) dX2_speak_60 (by decide) rfl ?_
          refine x_iadd B 62 dX2_speak_61 rfl ?_
          refine x_iload3 B 63 dX2_speak_62 rfl ?_
          refine x_iadd B 64 dX2_speak_63 rfl ?_
          refine x_ialdv B 65 (by repeat (first | with_reducible exact xr_h | refine xr_t ?_)) (j := base + 4 + b) (by first | (simp only [xlit, nI_add, pk_mul]; done) | rfl | (simp only [xlit, nI_add, pk_mul]; congr 1; omega)) ⟨by first | omega | decide, by first | decide | omega⟩ (hT2.2.2.2.2.1 b hb') dX2_speak_64 rfl ?_
          refine x_callS B 68 (m_X2_says _) [] rfl q2047 q2048 q92 q2049 hd_X2_says rfl ⟨by first | decide | omega, by first | decide | omega⟩ ⟨by first | decide | omega, by first | decide | omega⟩ rfl (Nat.le_of_ble_eq_true rfl) dX2_speak_65 rfl (fun _ _ _ h => h.elim) ?_
          rintro _ _ ⟨rfl, rfl⟩
          simp only [xst, xput, xpre]
          rw [t_says_h _ (by omega)]
          refine x_icmp_ge_t B 111 dX2_speak_68 (by decide) (by (try simp only [xlit]); first | (rw [nI_leI (by omega) (by omega)]; omega) | (rw [nI_ltI (by omega) (by omega)]; omega) | (rw [nI_eq (by omega) (by omega)]; omega)) ?_
          rw [show hTalk kd nb p b 0 S2 told L2 = (S2, L2) from rfl] at he
          exact next row2 sw2 sm2 _ _ _ (by rw [← he]; exact hT2) hR2 (by rw [← he]; exact hS2) hSS2 (by rw [← he]; dsimp only; omega)
        | succ j ihj =>
          intro i hi S2 told L2 row2 sw2 sm2 hO2 hE2 ht2 hT2 hR2 hS2 hSS2 hl2 he
          refine x_iload6 B 55 dX2_speak_53 rfl ?_
          refine x_aload0 B 56 dX2_speak_55 rfl (by first | rfl | exact xisR_rf _) ?_
          refine g_X2_7_X2 B 59 (by repeat (first | with_reducible exact xr_h | refine xr_t ?_)) dX2_speak_56 rfl ?_
          refine x_iload1 B 60 dX2_speak_59 rfl ?_
          refine x_iconst B 61 (v := 4) dX2_speak_60 (by decide) rfl ?_
          refine x_iadd B 62 dX2_speak_61 rfl ?_
          refine x_iload3 B 63 dX2_speak_62 rfl ?_
          refine x_iadd B 64 dX2_speak_63 rfl ?_
          refine x_ialdv B 65 (by repeat (first | with_reducible exact xr_h | refine xr_t ?_)) (j := base + 4 + b) (by first | (simp only [xlit, nI_add, pk_mul]; done) | rfl | (simp only [xlit, nI_add, pk_mul]; congr 1; omega)) ⟨by first | omega | decide, by first | decide | omega⟩ (hT2.2.2.2.2.1 b hb') dX2_speak_64 rfl ?_
          refine x_callS B 68 (m_X2_says _) [] rfl q2047 q2048 q92 q2049 hd_X2_says rfl ⟨by first | decide | omega, by first | decide | omega⟩ ⟨by first | decide | omega, by first | decide | omega⟩ rfl (Nat.le_of_ble_eq_true rfl) dX2_speak_65 rfl (fun _ _ _ h => h.elim) ?_
          rintro _ _ ⟨rfl, rfl⟩
          simp only [xst, xput, xpre]
          rw [t_says_h _ (by omega)]
          refine x_icmp_ge_f (tp := 111) B 71 dX2_speak_68 (by decide) rfl (by (try simp only [xlit]); first | (rw [nI_leI (by omega) (by omega)]; omega) | (rw [nI_ltI (by omega) (by omega)]; omega) | (rw [nI_eq (by omega) (by omega)]; omega)) ?_
          refine x_iload5 B 73 dX2_speak_71 rfl ?_
          refine x_iconst B 74 (v := (-1)) dX2_speak_73 (by decide) rfl ?_
          unfold hTalk at he
          cases hB9 : hBest (S2.1 b) told 10 with
          | none =>
            rw [hB9] at he
            dsimp only at he
            rw [show oI none = -1 from rfl]
            refine x_icmp_eq_t B 111 dX2_speak_74 (by decide) rfl ?_
            exact next row2 sw2 sm2 _ _ _ (by rw [← he]; exact hT2) hR2 (by rw [← he]; exact hS2) hSS2 (by rw [← he]; dsimp only; omega)
          | some w =>
            rw [hB9] at he
            dsimp only at he
            obtain ⟨w1, w2, w3⟩ := hBest_lt hB9
            rw [show oI (some w) = nI w from rfl]
            refine x_icmp_eq_f (tp := 111) B 77 dX2_speak_74 (by decide) rfl (ne_m1 (by omega)) ?_
            refine x_aload0 B 78 dX2_speak_77 rfl (by first | rfl | exact xisR_rf _) ?_
            refine x_iload1 B 79 dX2_speak_78 rfl ?_
            refine x_iload2 B 80 dX2_speak_79 rfl ?_
            refine x_iload3 B 81 dX2_speak_80 rfl ?_
            refine x_iload5 B 83 dX2_speak_81 rfl ?_
            refine x_callV B 86 (m_X2_say hT2 hO2 hB p b w hp hb' w1 L2 hS2 (by omega)) [0, 1, 2, 3] rfl ⟨_, _, _, (by repeat (first | with_reducible exact xr_h | refine xr_t ?_)), rfl, rfl⟩ q2050 q2052 qs70 q92 q2053 hd_X2_say (by decide) ⟨by first | decide | omega, by first | decide | omega⟩ ⟨by first | decide | omega, by first | decide | omega⟩ rfl (Nat.le_of_ble_eq_true rfl) dX2_speak_83 rfl (fun _ _ _ h => h.elim) ?_
            rintro _ _ ⟨rfl, row3, sw3, sm3, hT3, hR3, hS3, hSS3, rfl⟩
            simp only [xst, xput, xpre, List.set_cons_zero, List.set_cons_succ]
            refine x_iload4 B 88 dX2_speak_86 rfl ?_
            refine x_iconst B 89 (v := 1) dX2_speak_88 (by decide) rfl ?_
            refine x_iload5 B 91 dX2_speak_89 rfl ?_
            refine x_ishl B 92 dX2_speak_91 rfl ?_
            rw [xshl1 (by omega)]
            refine x_ior B 93 dX2_speak_92 rfl ?_
            have hpw : 2 ^ w < 1024 := Nat.pow_lt_pow_right (n := 10) (by decide) w1
            have ht3 : told ||| 2 ^ w < 1024 := Nat.or_lt_two_pow (n := 10) ht2 hpw
            rw [show nI told ||| nI (2 ^ w) = nI (told ||| 2 ^ w) from xor_nI _ _]
            refine x_istore4 B 95 dX2_speak_93 rfl ?_
            refine x_aload0 B 96 dX2_speak_95 rfl (by first | rfl | exact xisR_rf _) ?_
            refine x_iload1 B 97 dX2_speak_96 rfl ?_
            refine x_iload3 B 98 dX2_speak_97 rfl ?_
            refine x_iload4 B 100 dX2_speak_98 rfl ?_
            have hO3 := hO2.say (kd := kd) p b w nb
            refine x_callV B 103 (m_X2_bestWord hT3 hO3 hB b (told ||| 2 ^ w) hb' ht3) [0, 1] rfl ⟨_, _, _, (by repeat (first | with_reducible exact xr_h | refine xr_t ?_)), rfl, rfl⟩ q2043 q2045 qs69 q92 q2046 hd_X2_bestWord (by decide) ⟨by first | decide | omega, by first | decide | omega⟩ ⟨by first | decide | omega, by first | decide | omega⟩ rfl (Nat.le_of_ble_eq_true rfl) dX2_speak_100 rfl (fun _ _ _ h => h.elim) ?_
            rintro _ _ ⟨rfl, rfl⟩
            simp only [xst, xput, xpre, List.set_cons_zero, List.set_cons_succ]
            refine x_istore5 B 105 dX2_speak_103 rfl ?_
            refine x_iinc6 B 108 dX2_speak_105 rfl (by first | exact xinc _ | rfl) ?_
            refine x_goto B 53 dX2_speak_108 (by decide) ?_
            refine ihj (i + 1) (by omega) _ _ (L2 ++ [w]) row3 sw3 sm3 hO3 ((hUp_say nb).trans hE2) ht3 hT3 (hR2.trans hR3) hS3 (hSS2.trans hSS3) (by simp; omega) he
      refine x_iload3 B 3 dX2_speak_2 rfl ?_
      refine x_aload0 B 4 dX2_speak_3 rfl (by first | rfl | exact xisR_rf _) ?_
      refine g_X2_7_X2 B 7 (by repeat (first | with_reducible exact xr_h | refine xr_t ?_)) dX2_speak_4 rfl ?_
      refine x_iload1 B 8 dX2_speak_7 rfl ?_
      refine x_iconst B 9 (v := 0) dX2_speak_8 (by decide) rfl ?_
      refine x_iadd B 10 dX2_speak_9 rfl ?_
      refine x_ialdv B 11 (by repeat (first | with_reducible exact xr_h | refine xr_t ?_)) (j := base + 0) (by first | (simp only [xlit, nI_add, pk_mul]; done) | rfl | (simp only [xlit, nI_add, pk_mul]; congr 1; omega)) ⟨by first | omega | decide, by first | decide | omega⟩ hT'.1 dX2_speak_10 rfl ?_
      refine x_icmp_ge_f (tp := 117) B 14 dX2_speak_11 (by decide) rfl (by (try simp only [xlit]); first | (rw [nI_leI (by omega) (by omega)]; omega) | (rw [nI_ltI (by omega) (by omega)]; omega) | (rw [nI_eq (by omega) (by omega)]; omega)) ?_
      refine x_aload0 B 15 dX2_speak_14 rfl (by first | rfl | exact xisR_rf _) ?_
      refine g_X2_7_X2 B 18 (by repeat (first | with_reducible exact xr_h | refine xr_t ?_)) dX2_speak_15 rfl ?_
      refine x_iload1 B 19 dX2_speak_18 rfl ?_
      refine x_bipush B 21 (v := 12) dX2_speak_19 (by decide) rfl ?_
      refine x_iadd B 22 dX2_speak_21 rfl ?_
      refine x_iload3 B 23 dX2_speak_22 rfl ?_
      refine x_iadd B 24 dX2_speak_23 rfl ?_
      refine x_ialdv B 25 (by repeat (first | with_reducible exact xr_h | refine xr_t ?_)) (j := base + 12 + b) (by first | (simp only [xlit, nI_add, pk_mul]; done) | rfl | (simp only [xlit, nI_add, pk_mul]; congr 1; omega)) ⟨by first | omega | decide, by first | decide | omega⟩ (hT'.2.2.2.2.2.1 b hb') dX2_speak_24 rfl ?_
      refine x_iload2 B 26 dX2_speak_25 rfl ?_
      by_cases c1 : S1.2.1 b = p
      · refine x_icmp_ne_f (tp := 111) B 29 dX2_speak_26 (by decide) rfl (by (try simp only [xlit]); first | (rw [nI_leI (by omega) (by omega)]; omega) | (rw [nI_ltI (by omega) (by omega)]; omega) | (rw [nI_eq (by omega) (by omega)]; omega)) ?_
        refine x_aload0 B 30 dX2_speak_29 rfl (by first | rfl | exact xisR_rf _) ?_
        refine x_iload1 B 31 dX2_speak_30 rfl ?_
        refine x_iload3 B 32 dX2_speak_31 rfl ?_
        refine x_callV B 35 (m_X2_isOpen base b S1.2.2.2.2.1 (by omega) hT'.2.2.2.1 (by omega) (by omega)) [0, 1] rfl ⟨_, _, _, (by repeat (first | with_reducible exact xr_h | refine xr_t ?_)), rfl, rfl⟩ q2027 q2029 qs65 q92 q2030 hd_X2_isOpen (by decide) ⟨by first | decide | omega, by first | decide | omega⟩ ⟨by first | decide | omega, by first | decide | omega⟩ rfl (Nat.le_of_ble_eq_true rfl) dX2_speak_32 rfl (fun _ _ _ h => h.elim) ?_
        rintro _ _ ⟨rfl, rfl⟩
        simp only [xst, xput, xpre, List.set_cons_zero, List.set_cons_succ]
        by_cases c3 : S1.2.2.2.2.1.testBit b = true
        · rw [if_pos c3]
          refine x_if_eq_t B 111 dX2_speak_35 (by decide) rfl ?_
          rw [if_neg (by simp [hUp, c3])] at e1
          exact next row' sw' sm' _ _ _ (by rw [e1]; exact hT') hR' (by rw [e1]; exact hS') hSS' (by rw [e1]; dsimp only; omega)
        · rw [if_neg c3]
          refine x_if_eq_f (tp := 111) B 38 dX2_speak_35 (by decide) rfl (by decide) ?_
          rw [if_pos (by simp [hUp, c1, c3])] at e1
          refine x_iconst B 39 (v := 0) dX2_speak_38 (by decide) rfl ?_
          refine x_istore4 B 41 dX2_speak_39 rfl ?_
          refine x_aload0 B 42 dX2_speak_41 rfl (by first | rfl | exact xisR_rf _) ?_
          refine x_iload1 B 43 dX2_speak_42 rfl ?_
          refine x_iload3 B 44 dX2_speak_43 rfl ?_
          refine x_iconst B 45 (v := 0) dX2_speak_44 (by decide) rfl ?_
          refine x_callV B 48 (m_X2_bestWord hT' hO' hB b 0 hb' (by omega)) [0, 1] rfl ⟨_, _, _, (by repeat (first | with_reducible exact xr_h | refine xr_t ?_)), rfl, rfl⟩ q2043 q2045 qs69 q92 q2046 hd_X2_bestWord (by decide) ⟨by first | decide | omega, by first | decide | omega⟩ ⟨by first | decide | omega, by first | decide | omega⟩ rfl (Nat.le_of_ble_eq_true rfl) dX2_speak_45 rfl (fun _ _ _ h => h.elim) ?_
          rintro _ _ ⟨rfl, rfl⟩
          simp only [xst, xput, xpre, List.set_cons_zero, List.set_cons_succ]
          refine x_istore5 B 50 dX2_speak_48 rfl ?_
          refine x_iconst B 51 (v := 0) dX2_speak_50 (by decide) rfl ?_
          refine x_istore6 B 53 dX2_speak_51 rfl ?_
          exact talk (hSays (kd b)) 0 (by omega) S1 0 L1 row' sw' sm' hO' rfl (by decide) hT' hR' hS' hSS' (by omega) e1.symm
      · refine x_icmp_ne_t B 111 dX2_speak_26 (by decide) (by (try simp only [xlit]); first | (rw [nI_leI (by omega) (by omega)]; omega) | (rw [nI_ltI (by omega) (by omega)]; omega) | (rw [nI_eq (by omega) (by omega)]; omega)) ?_
        rw [if_neg (by simp [hUp, c1])] at e1
        exact next row' sw' sm' _ _ _ (by rw [e1]; exact hT') hR' (by rw [e1]; exact hS') hSS' (by rw [e1]; dsimp only; omega)
  refine x_iconst B 1 (v := 0) dX2_speak_0 (by decide) rfl ?_
  refine x_istore3 B 2 dX2_speak_1 rfl ?_
  exact loop nb 0 (by omega) row sw sm hT TSame.rf hS SSame.rf (Nat.le_refl _)
theorem hLose_snd {kd : Nat → Nat} {S : HS} : ∀ k, (hLose kd S k).2 = S.2
  | 0 => rfl
  | k + 1 => by
    have ih := hLose_snd (kd := kd) (S := S) k
    show (hLose1 kd (hLose kd S k) (k / 10) (k % 10)).2 = S.2
    unfold hLose1
    split <;> exact ih
theorem x_in_small {v a b : Nat} (hv : v < 2147483648) (ha : a < 2147483648) (hb : b < 2147483648) : x_in (nI v).toInt64 (lN a) (lN b) = if a ≤ v ∧ v ≤ b then 1 else 0 := by
  unfold x_in
  rw [nI_l (by omega)]
  by_cases c : a ≤ v ∧ v ≤ b
  · rw [if_pos c, if_pos ⟨(lN_le (by omega) (by omega)).mpr c.1, (lN_le (by omega) (by omega)).mpr c.2⟩]
  · rw [if_neg c, if_neg (fun z => c ⟨(lN_le (by omega) (by omega)).mp z.1, (lN_le (by omega) (by omega)).mp z.2⟩)]
theorem m_X2_lose (hT : TRep row base nb nm kd S) (hO : HOk nb nm kd S) (hB : base + 108 ≤ 1404) : XC D yX2_lose (ws_ yX2_lose cX2_lose 5 (Option.none : Option Jvm.ClassFile.FieldType)) 2 80 (0) (0) [.ref h, .int (nI base)] [tR D h ad iv, tI D ad 0 1404 row] (fun r cs' => r = none ∧ ∃ row', TRep row' base nb nm kd (hLose kd S (10 * nb)) ∧ TSame base row row' ∧ cs' = [tR D h ad iv, tI D ad 0 1404 row']) x0 := by
  refine XC.of (by decide) (by simp [Value.category]) (Nat.le_of_ble_eq_true rfl) fun X B => ?_
  show WX D X [tR D h ad iv, tI D ad 0 1404 row] 0 0 0 [some (.ref h), some (.int (nI base)), none, none, none] []
  have hnb := hO.1
  have hC : S.2.2.2.2.1 < 256 := Nat.lt_of_lt_of_le hO.2.2.2.2.2.2.2.2.1 (pow_nb hnb)
  have loop : ∀ (j k : Nat), k + j = 10 * nb → ∀ row', TRep row' base nb nm kd (hLose kd S k) → TSame base row row' → WX D X [tR D h ad iv, tI D ad 0 1404 row'] 0 0 2 [some (.ref h), some (.int (nI base)), some (.int (nI k)), none, none] [] := by
    intro j
    induction j with
    | zero =>
      intro k hk row' hT' hR'
      obtain rfl : k = 10 * nb := by omega
      refine x_iload2 B 3 dX2_lose_2 rfl ?_
      refine x_bipush B 5 (v := 10) dX2_lose_3 (by decide) rfl ?_
      refine x_aload0 B 6 dX2_lose_5 rfl (by first | rfl | exact xisR_rf _) ?_
      refine g_X2_7_X2 B 9 (by repeat (first | with_reducible exact xr_h | refine xr_t ?_)) dX2_lose_6 rfl ?_
      refine x_iload1 B 10 dX2_lose_9 rfl ?_
      refine x_iconst B 11 (v := 0) dX2_lose_10 (by decide) rfl ?_
      refine x_iadd B 12 dX2_lose_11 rfl ?_
      refine x_ialdv B 13 (by repeat (first | with_reducible exact xr_h | refine xr_t ?_)) (j := base + 0) (by first | (simp only [xlit, nI_add, pk_mul]; done) | rfl | (simp only [xlit, nI_add, pk_mul]; congr 1; omega)) ⟨by first | omega | decide, by first | decide | omega⟩ hT'.1 dX2_lose_12 rfl ?_
      refine x_imul B 14 dX2_lose_13 rfl ?_
      rw [show (10 : Int32) * nI nb = nI (10 * nb) from pk_mul 10 nb]
      refine x_icmp_ge_t B 86 dX2_lose_14 (by decide) (by (try simp only [xlit]); first | (rw [nI_leI (by omega) (by omega)]; omega) | (rw [nI_ltI (by omega) (by omega)]; omega) | (rw [nI_eq (by omega) (by omega)]; omega)) ?_
      exact x_vret B rfl ⟨rfl, row', hT', hR', rfl⟩ dX2_lose_86 ⟨by first | omega | decide, by first | omega | decide⟩
    | succ j ih =>
      intro k hk row' hT' hR'
      have hO' := hO.lose (kd := kd) k
      have e2 := hLose_snd (kd := kd) (S := S) k
      have e1 : hLose kd S (k + 1) = hLose1 kd (hLose kd S k) (k / 10) (k % 10) := rfl
      generalize hLose kd S k = S1 at *
      have hb' : k / 10 < nb := by omega
      have hw' : k % 10 < 10 := Nat.mod_lt _ (by decide)
      have hkk : k = 10 * (k / 10) + k % 10 := by omega
      have hK := hO'.2.2.2.1 _ _ hb' hw'
      have hk4 := hO'.2.2.1 _ hb'
      have eK := hT'.2.2.2.2.2.2.1 _ _ hb' hw'
      have next : ∀ row2 a3 a4, TRep row2 base nb nm kd (hLose kd S (k + 1)) → TSame base row row2 → WX D X [tR D h ad iv, tI D ad 0 1404 row2] 0 0 80 [some (.ref h), some (.int (nI base)), some (.int (nI k)), a3, a4] [] := by
        intro row2 a3 a4 hT2 hR2
        refine x_iinc2 B 83 dX2_lose_80 rfl (by first | exact xinc _ | rfl) ?_
        refine x_goto B 2 dX2_lose_83 (by decide) ?_
        exact x_fg (by repeat (first | exact xfg_nil | apply xfg_same | apply xfg_none)) (ih (k + 1) (by omega) row2 hT2 hR2)
      refine x_iload2 B 3 dX2_lose_2 rfl ?_
      refine x_bipush B 5 (v := 10) dX2_lose_3 (by decide) rfl ?_
      refine x_aload0 B 6 dX2_lose_5 rfl (by first | rfl | exact xisR_rf _) ?_
      refine g_X2_7_X2 B 9 (by repeat (first | with_reducible exact xr_h | refine xr_t ?_)) dX2_lose_6 rfl ?_
      refine x_iload1 B 10 dX2_lose_9 rfl ?_
      refine x_iconst B 11 (v := 0) dX2_lose_10 (by decide) rfl ?_
      refine x_iadd B 12 dX2_lose_11 rfl ?_
      refine x_ialdv B 13 (by repeat (first | with_reducible exact xr_h | refine xr_t ?_)) (j := base + 0) (by first | (simp only [xlit, nI_add, pk_mul]; done) | rfl | (simp only [xlit, nI_add, pk_mul]; congr 1; omega)) ⟨by first | omega | decide, by first | decide | omega⟩ hT'.1 dX2_lose_12 rfl ?_
      refine x_imul B 14 dX2_lose_13 rfl ?_
      rw [show (10 : Int32) * nI nb = nI (10 * nb) from pk_mul 10 nb]
      refine x_icmp_ge_f (tp := 86) B 17 dX2_lose_14 (by decide) rfl (by (try simp only [xlit]); first | (rw [nI_leI (by omega) (by omega)]; omega) | (rw [nI_ltI (by omega) (by omega)]; omega) | (rw [nI_eq (by omega) (by omega)]; omega)) ?_
      refine x_iload2 B 18 dX2_lose_17 rfl ?_
      refine x_bipush B 20 (v := 10) dX2_lose_18 (by decide) rfl ?_
      refine x_idiv B 21 dX2_lose_20 (by decide) rfl ?_
      rw [show nI k / (10 : Int32) = nI (k / 10) from pk_div (by omega) (by decide) (by decide)]
      refine x_istore3 B 22 dX2_lose_21 rfl ?_
      refine x_iload1 B 23 dX2_lose_22 rfl ?_
      refine x_bipush B 25 (v := 20) dX2_lose_23 (by decide) rfl ?_
      refine x_iadd B 26 dX2_lose_25 rfl ?_
      refine x_iload2 B 27 dX2_lose_26 rfl ?_
      refine x_iadd B 28 dX2_lose_27 rfl ?_
      rw [show nI base + 20 + nI k = nI (base + 20 + 10 * (k / 10) + k % 10) by rw [show nI base + 20 = nI (base + 20) from nI_add _ 20, nI_add]; congr 1; omega]
      refine x_istore4 B 30 dX2_lose_28 rfl ?_
      refine x_aload0 B 31 dX2_lose_30 rfl (by first | rfl | exact xisR_rf _) ?_
      refine x_iload1 B 32 dX2_lose_31 rfl ?_
      refine x_iload3 B 33 dX2_lose_32 rfl ?_
      refine x_callV B 36 (m_X2_isOpen base (k / 10) S1.2.2.2.2.1 (by omega) hT'.2.2.2.1 (by rw [e2]; omega) (by omega)) [0, 1] rfl ⟨_, _, _, (by repeat (first | with_reducible exact xr_h | refine xr_t ?_)), rfl, rfl⟩ q2027 q2029 qs65 q92 q2030 hd_X2_isOpen (by decide) ⟨by first | decide | omega, by first | decide | omega⟩ ⟨by first | decide | omega, by first | decide | omega⟩ rfl (Nat.le_of_ble_eq_true rfl) dX2_lose_33 rfl (fun _ _ _ h => h.elim) ?_
      rintro _ _ ⟨rfl, rfl⟩
      simp only [xst, xput, xpre, List.set_cons_zero, List.set_cons_succ]
      by_cases c3 : S1.2.2.2.2.1.testBit (k / 10) = true
      · rw [if_pos c3]
        refine x_if_eq_t B 80 dX2_lose_36 (by decide) rfl ?_
        exact next row' _ _ (by rw [e1]; unfold hLose1; rw [if_neg (by simp [c3])]; exact hT') hR'
      · rw [if_neg c3]
        refine x_if_eq_f (tp := 80) B 39 dX2_lose_36 (by decide) rfl (by decide) ?_
        refine x_aload0 B 40 dX2_lose_39 rfl (by first | rfl | exact xisR_rf _) ?_
        refine g_X2_7_X2 B 43 (by repeat (first | with_reducible exact xr_h | refine xr_t ?_)) dX2_lose_40 rfl ?_
        refine x_iload4 B 45 dX2_lose_43 rfl ?_
        refine x_ialdv B 46 (by repeat (first | with_reducible exact xr_h | refine xr_t ?_)) rfl ⟨by first | omega | decide, by first | decide | omega⟩ eK dX2_lose_45 rfl ?_
        refine x_i2l B 47 dX2_lose_46 rfl ?_
        refine x_lconst B 48 (v := 1) dX2_lose_47 (by decide) rfl ?_
        refine x_ldc2 B 51 dX2_lose_48 q2061 rfl ?_
        refine x_callS B 54 (m_X2_in _ _ _) [] rfl q1869 q1870 q92 q1871 hd_X2_in rfl ⟨by first | decide | omega, by first | decide | omega⟩ ⟨by first | decide | omega, by first | decide | omega⟩ rfl (Nat.le_of_ble_eq_true rfl) dX2_lose_51 rfl (fun _ _ _ h => h.elim) ?_
        rintro _ _ ⟨rfl, rfl⟩
        simp only [xst, xput, xpre]
        rw [show x_in (nI (S1.1 (k / 10) (k % 10))).toInt64 1 4 = if 1 ≤ S1.1 (k / 10) (k % 10) ∧ S1.1 (k / 10) (k % 10) ≤ 4 then 1 else 0 from x_in_small (by omega) (by decide) (by decide)]
        by_cases c : 1 ≤ S1.1 (k / 10) (k % 10) ∧ S1.1 (k / 10) (k % 10) ≤ 4
        · rw [if_pos c]
          refine x_if_eq_f (tp := 80) B 57 dX2_lose_54 (by decide) rfl (by decide) ?_
          refine x_aload0 B 58 dX2_lose_57 rfl (by first | rfl | exact xisR_rf _) ?_
          refine g_X2_7_X2 B 61 (by repeat (first | with_reducible exact xr_h | refine xr_t ?_)) dX2_lose_58 rfl ?_
          refine x_iload4 B 63 dX2_lose_61 rfl ?_
          refine x_dup2 B 64 dX2_lose_63 rfl rfl rfl ?_
          refine x_ialdv B 65 (by repeat (first | with_reducible exact xr_h | refine xr_t ?_)) rfl ⟨by first | omega | decide, by first | decide | omega⟩ eK dX2_lose_64 rfl ?_
          refine x_aload0 B 66 dX2_lose_65 rfl (by first | rfl | exact xisR_rf _) ?_
          refine g_X2_7_X2 B 69 (by repeat (first | with_reducible exact xr_h | refine xr_t ?_)) dX2_lose_66 rfl ?_
          refine x_iload1 B 70 dX2_lose_69 rfl ?_
          refine x_iconst B 71 (v := 4) dX2_lose_70 (by decide) rfl ?_
          refine x_iadd B 72 dX2_lose_71 rfl ?_
          refine x_iload3 B 73 dX2_lose_72 rfl ?_
          refine x_iadd B 74 dX2_lose_73 rfl ?_
          refine x_ialdv B 75 (by repeat (first | with_reducible exact xr_h | refine xr_t ?_)) (j := base + 4 + k / 10) (by first | (simp only [xlit, nI_add, pk_mul]; done) | rfl | (simp only [xlit, nI_add, pk_mul]; congr 1; omega)) ⟨by first | omega | decide, by first | decide | omega⟩ (hT'.2.2.2.2.1 _ hb') dX2_lose_74 rfl ?_
          refine x_callS B 78 (m_X2_loses _) [] rfl q2062 q2063 q92 q2064 hd_X2_loses rfl ⟨by first | decide | omega, by first | decide | omega⟩ ⟨by first | decide | omega, by first | decide | omega⟩ rfl (Nat.le_of_ble_eq_true rfl) dX2_lose_75 rfl (fun _ _ _ h => h.elim) ?_
          rintro _ _ ⟨rfl, rfl⟩
          simp only [xst, xput, xpre]
          have hL1 := hLoses_le (kd (k / 10))
          rw [t_loses_h _ (by omega)]
          refine x_isub B 79 dX2_lose_78 rfl ?_
          rw [show nI (S1.1 (k / 10) (k % 10)) - nI (hLoses (kd (k / 10))) = nI (S1.1 (k / 10) (k % 10) - hLoses (kd (k / 10))) from pk_sub (by omega)]
          refine x_iast B 80 (by repeat (first | with_reducible exact xu_h | apply xu_t)) rfl ⟨by first | omega | decide, by first | decide | omega⟩ dX2_lose_79 rfl ?_
          refine next _ _ _ ?_ (hR'.upd (by omega) (by omega))
          rw [e1]
          unfold hLose1
          rw [if_pos ⟨by simpa using c3, by omega, by omega⟩]
          exact hT'.setK hO'.1 hO'.2.1 hb' hw' _
        · rw [if_neg c]
          refine x_if_eq_t B 80 dX2_lose_54 (by decide) rfl ?_
          exact next row' _ _ (by rw [e1]; unfold hLose1; rw [if_neg (by omega)]; exact hT') hR'
  refine x_iconst B 1 (v := 0) dX2_lose_0 (by decide) rfl ?_
  refine x_istore2 B 2 dX2_lose_1 rfl ?_
  exact loop (10 * nb) 0 (by omega) row hT TSame.rf
/-- what is said on all perches below n -/
def SAll (sw sm : Nat → Int32) (L : Nat → List Nat) (n : Nat) : Prop := ∀ p, p < n → SRep sw sm p (L p)
theorem hPers_2 {kd : Nat → Nat} {nb : Nat} {S : HS} : ∀ p, (hPers kd nb S p).1.2 = S.2
  | 0 => rfl
  | p + 1 => by
    have ih := hPers_2 (kd := kd) (nb := nb) (S := S) p
    show (hPer kd nb (hPers kd nb S p).1 p).1.2 = S.2
    have t1 : ∀ (n : Nat) (b : Nat) (S1 : HS) (told : Nat) (L : List Nat), (hTalk kd nb p b n S1 told L).1.2 = S1.2 := by
      intro n
      induction n with
      | zero => intro b S1 told L; rfl
      | succ n ihn =>
        intro b S1 told L
        unfold hTalk
        split
        · rfl
        · rw [ihn]; exact hUp_say nb
    have t2 : ∀ (S1 : HS) (b : Nat), (hSpk kd nb p S1 b).1.2 = S1.2 := by
      intro S1 b
      induction b with
      | zero => rfl
      | succ b ihb =>
        unfold hSpk
        dsimp only
        split
        · rw [t1]; exact ihb
        · exact ihb
    unfold hPer
    split
    · exact ih
    · rw [t2]; exact ih
theorem hInh_CE {kd : Nat → Nat} {S : HS} : ∀ m, (hInh kd S m).2.2.2.2 = S.2.2.2.2
  | 0 => rfl
  | m + 1 => by
    have ih := hInh_CE (kd := kd) (S := S) m
    show (hInh1 kd (hInh kd S m) m).2.2.2.2 = S.2.2.2.2
    unfold hInh1
    split
    · exact ih
    · split <;> exact ih
theorem m_X2_passes (hT : TRep row base nb nm kd S) (hO : HOk nb nm kd S) (hB : base + 108 ≤ 1404) : XC D yX2_passes (ws_ yX2_passes cX2_passes 3 (Option.none : Option Jvm.ClassFile.FieldType)) 4 160 (0) (0) [.ref h, .int (nI base)] [tR D h ad iv, tI D ad 0 1404 row, tI D ad 36 64 sw, tI D ad 37 4 sm] (fun r cs' => r = none ∧ ∃ row' sw' sm', TRep row' base nb nm kd (hPass kd nb nm S).1 ∧ TSame base row row' ∧ SAll sw' sm' (hPass kd nb nm S).2 4 ∧ cs' = [tR D h ad iv, tI D ad 0 1404 row', tI D ad 36 64 sw', tI D ad 37 4 sm']) x0 := by
  refine XC.of (by decide) (by simp [Value.category]) (Nat.le_of_ble_eq_true rfl) fun X B => ?_
  show WX D X [tR D h ad iv, tI D ad 0 1404 row, tI D ad 36 64 sw, tI D ad 37 4 sm] 0 0 0 [some (.ref h), some (.int (nI base)), none] []
  have hnb := hO.1
  have hnm := hO.2.1
  have hE : S.2.2.2.2.2 < 100000 := hO.2.2.2.2.2.2.2.2.2
  generalize hS0 : hInh kd S nm = S0
  have hO0 : HOk nb nm kd S0 := by rw [← hS0]; exact hO.inh nm (Nat.le_refl _)
  have e0 : S0.2.2.2.2.2 = S.2.2.2.2.2 := by rw [← hS0]; exact congrArg (fun z => z.2) (hInh_CE nm)
  have fin : ∀ row' sw' sm' a2, TRep row' base nb nm kd (if S.2.2.2.2.2 % 3 = 2 then hLose kd (hPers kd nb S0 4).1 (10 * nb) else (hPers kd nb S0 4).1) → TSame base row row' → SAll sw' sm' (hPers kd nb S0 4).2 4 → WX D X [tR D h ad iv, tI D ad 0 1404 row', tI D ad 36 64 sw', tI D ad 37 4 sm'] 0 0 59 [some (.ref h), some (.int (nI base)), a2] [] := by
    intro row' sw' sm' a2 hT' hR' hS'
    have eE : (if S.2.2.2.2.2 % 3 = 2 then hLose kd (hPers kd nb S0 4).1 (10 * nb) else (hPers kd nb S0 4).1).2.2.2.2.2 = S.2.2.2.2.2 := by
      split
      · rw [hLose_snd, hPers_2]; exact e0
      · rw [hPers_2]; exact e0
    refine x_aload0 B 60 dX2_passes_59 rfl (by first | rfl | exact xisR_rf _) ?_
    refine g_X2_7_X2 B 63 (by repeat (first | with_reducible exact xr_h | refine xr_t ?_)) dX2_passes_60 rfl ?_
    refine x_iload1 B 64 dX2_passes_63 rfl ?_
    refine x_iconst B 65 (v := 2) dX2_passes_64 (by decide) rfl ?_
    refine x_iadd B 66 dX2_passes_65 rfl ?_
    refine x_dup2 B 67 dX2_passes_66 rfl rfl rfl ?_
    refine x_ialdv B 68 (by repeat (first | with_reducible exact xr_h | refine xr_t ?_)) (j := base + 2) (by first | (simp only [xlit, nI_add, pk_mul]; done) | rfl | (simp only [xlit, nI_add, pk_mul]; congr 1; omega)) ⟨by first | omega | decide, by first | decide | omega⟩ (hT'.2.2.1.trans (by rw [eE])) dX2_passes_67 rfl ?_
    refine x_iconst B 69 (v := 1) dX2_passes_68 (by decide) rfl ?_
    refine x_iadd B 70 dX2_passes_69 rfl ?_
    rw [show nI S.2.2.2.2.2 + 1 = nI (S.2.2.2.2.2 + 1) from nI_1 _]
    refine x_iast B 71 (by repeat (first | with_reducible exact xu_h | apply xu_t)) (j := base + 2) (by first | (simp only [xlit, nI_add, pk_mul]; done) | rfl | (simp only [xlit, nI_add, pk_mul]; congr 1; omega)) ⟨by first | omega | decide, by first | decide | omega⟩ dX2_passes_70 rfl ?_
    refine x_vret B rfl ⟨rfl, _, sw', sm', ?_, hR'.upd (by omega) (by omega), ?_, rfl⟩ dX2_passes_71 ⟨by first | omega | decide, by first | omega | decide⟩
    · have := hT'.setE hnb hnm (S.2.2.2.2.2 + 1)
      unfold hPass
      rw [hS0]
      exact this
    · unfold hPass
      rw [hS0]
      exact hS'
  have loop : ∀ (k p : Nat), p + k = 4 → ∀ row' sw' sm', TRep row' base nb nm kd (hPers kd nb S0 p).1 → TSame base row row' → SAll sw' sm' (hPers kd nb S0 p).2 p → WX D X [tR D h ad iv, tI D ad 0 1404 row', tI D ad 36 64 sw', tI D ad 37 4 sm'] 0 0 7 [some (.ref h), some (.int (nI base)), some (.int (nI p))] [] := by
    intro k
    induction k with
    | zero =>
      intro p hp row' sw' sm' hT' hR' hS'
      obtain rfl : p = 4 := by omega
      have hO4 := hO0.pers (kd := kd) 4
      have eE : (hPers kd nb S0 4).1.2.2.2.2.2 = S.2.2.2.2.2 := by rw [hPers_2]; exact e0
      refine x_iload2 B 8 dX2_passes_7 rfl ?_
      refine x_iconst B 9 (v := 4) dX2_passes_8 (by decide) rfl ?_
      refine x_icmp_ge_t B 40 dX2_passes_9 (by decide) (by (try simp only [xlit]); first | (rw [nI_leI (by omega) (by omega)]; omega) | (rw [nI_ltI (by omega) (by omega)]; omega) | (rw [nI_eq (by omega) (by omega)]; omega)) ?_
      refine x_aload0 B 41 dX2_passes_40 rfl (by first | rfl | exact xisR_rf _) ?_
      refine g_X2_7_X2 B 44 (by repeat (first | with_reducible exact xr_h | refine xr_t ?_)) dX2_passes_41 rfl ?_
      refine x_iload1 B 45 dX2_passes_44 rfl ?_
      refine x_iconst B 46 (v := 2) dX2_passes_45 (by decide) rfl ?_
      refine x_iadd B 47 dX2_passes_46 rfl ?_
      refine x_ialdv B 48 (by repeat (first | with_reducible exact xr_h | refine xr_t ?_)) (j := base + 2) (by first | (simp only [xlit, nI_add, pk_mul]; done) | rfl | (simp only [xlit, nI_add, pk_mul]; congr 1; omega)) ⟨by first | omega | decide, by first | decide | omega⟩ (hT'.2.2.1.trans (by rw [eE])) dX2_passes_47 rfl ?_
      refine x_iconst B 49 (v := 3) dX2_passes_48 (by decide) rfl ?_
      refine x_irem B 50 dX2_passes_49 (by decide) rfl ?_
      rw [show nI S.2.2.2.2.2 - nI S.2.2.2.2.2 / 3 * 3 = nI (S.2.2.2.2.2 % 3) from pk_rem (by omega) (by decide) (by decide)]
      refine x_iconst B 51 (v := 2) dX2_passes_50 (by decide) rfl ?_
      by_cases c : S.2.2.2.2.2 % 3 = 2
      · rw [c]
        refine x_icmp_ne_f (tp := 59) B 54 dX2_passes_51 (by decide) rfl (by decide) ?_
        refine x_aload0 B 55 dX2_passes_54 rfl (by first | rfl | exact xisR_rf _) ?_
        refine x_iload1 B 56 dX2_passes_55 rfl ?_
        refine x_callV B 59 (m_X2_lose hT' hO4 hB) [0, 1] rfl ⟨_, _, _, (by repeat (first | with_reducible exact xr_h | refine xr_t ?_)), rfl, rfl⟩ q2057 q2059 qs71 q92 q2060 hd_X2_lose (by decide) ⟨by first | decide | omega, by first | decide | omega⟩ ⟨by first | decide | omega, by first | decide | omega⟩ rfl (Nat.le_of_ble_eq_true rfl) dX2_passes_56 rfl (fun _ _ _ h => h.elim) ?_
        rintro _ _ ⟨rfl, row2, hT2, hR2, rfl⟩
        simp only [xst, xput, xpre, List.set_cons_zero, List.set_cons_succ]
        exact fin row2 sw' sm' _ (by rw [if_pos c]; exact hT2) (hR'.trans hR2) hS'
      · refine x_icmp_ne_t B 59 dX2_passes_51 (by decide) (by (try simp only [xlit]); first | (rw [nI_leI (by omega) (by omega)]; omega) | (rw [nI_ltI (by omega) (by omega)]; omega) | (rw [nI_eq (by omega) (by omega)]; omega)) ?_
        exact fin row' sw' sm' _ (by rw [if_neg c]; exact hT') hR' hS'
    | succ k ih =>
      intro p hp row' sw' sm' hT' hR' hS'
      have hp4 : p < 4 := by omega
      have hO' := hO0.pers (kd := kd) p
      have e1 : hPers kd nb S0 (p + 1) = ((hPer kd nb (hPers kd nb S0 p).1 p).1, fUp (hPers kd nb S0 p).2 p (hPer kd nb (hPers kd nb S0 p).1 p).2) := rfl
      generalize hPers kd nb S0 p = r at *
      obtain ⟨S1, L1⟩ := r
      dsimp only at hT' hS' hO' e1
      have hz : SRep sw' (upd sm' p 0) p [] := ⟨pk_us, by simp, fun i hi => by simp at hi⟩
      have hold : ∀ q, q < p → SRep sw' (upd sm' p 0) q (L1 q) := fun q hq => by
        obtain ⟨a, b, c⟩ := hS' q hq
        exact ⟨by rw [pk_un (by omega)]; exact a, b, c⟩
      have all : ∀ sw2 sm2 Lp, SRep sw2 sm2 p Lp → SSame p sw' sw2 (upd sm' p 0) sm2 → SAll sw2 sm2 (fUp L1 p Lp) (p + 1) := by
        intro sw2 sm2 Lp h1 h2 q hq
        unfold fUp
        by_cases e : q = p
        · subst e; rw [if_pos rfl]; exact h1
        · rw [if_neg e]; exact (hold q (by omega)).keep h2 (Ne.symm e)
      refine x_iload2 B 8 dX2_passes_7 rfl ?_
      refine x_iconst B 9 (v := 4) dX2_passes_8 (by decide) rfl ?_
      refine x_icmp_ge_f (tp := 40) B 12 dX2_passes_9 (by decide) rfl (by (try simp only [xlit]); first | (rw [nI_leI (by omega) (by omega)]; omega) | (rw [nI_ltI (by omega) (by omega)]; omega) | (rw [nI_eq (by omega) (by omega)]; omega)) ?_
      refine x_aload0 B 13 dX2_passes_12 rfl (by first | rfl | exact xisR_rf _) ?_
      refine g_X2_92_X2 B 16 (by repeat (first | with_reducible exact xr_h | refine xr_t ?_)) dX2_passes_13 rfl ?_
      refine x_iload2 B 17 dX2_passes_16 rfl ?_
      refine x_iconst B 18 (v := 0) dX2_passes_17 (by decide) rfl ?_
      refine x_iast B 19 (by repeat (first | with_reducible exact xu_h | apply xu_t)) rfl ⟨by first | omega | decide, by first | decide | omega⟩ dX2_passes_18 rfl ?_
      refine x_aload0 B 20 dX2_passes_19 rfl (by first | rfl | exact xisR_rf _) ?_
      refine x_iload1 B 21 dX2_passes_20 rfl ?_
      refine x_iload2 B 22 dX2_passes_21 rfl ?_
      refine x_callV B 25 (m_X2_isSilent hT' hO' hB p (by omega)) [0, 1] rfl ⟨_, _, _, (by repeat (first | with_reducible exact xr_h | refine xr_t ?_)), rfl, rfl⟩ q2035 q2037 qs67 q92 q2038 hd_X2_isSilent (by decide) ⟨by first | decide | omega, by first | decide | omega⟩ ⟨by first | decide | omega, by first | decide | omega⟩ rfl (Nat.le_of_ble_eq_true rfl) dX2_passes_22 rfl (fun _ _ _ h => h.elim) ?_
      rintro _ _ ⟨rfl, rfl⟩
      simp only [xst, xput, xpre, List.set_cons_zero, List.set_cons_succ]
      by_cases c : hSil kd S1 p nb = true
      · rw [show bI (hSil kd S1 p nb) = 1 by rw [c]; rfl]
        refine x_if_ne_t B 34 dX2_passes_25 (by decide) (by decide) ?_
        refine x_iinc2 B 37 dX2_passes_34 rfl (by first | exact xinc _ | rfl) ?_
        refine x_goto B 7 dX2_passes_37 (by decide) ?_
        have e2 : hPer kd nb S1 p = (S1, []) := by unfold hPer; rw [if_pos c]
        rw [e2] at e1
        exact ih (p + 1) (by omega) row' sw' _ (by rw [e1]; exact hT') hR' (by rw [e1]; exact all sw' _ [] hz SSame.rf)
      · rw [show bI (hSil kd S1 p nb) = 0 by simp [bI, c]]
        refine x_if_ne_f (tp := 34) B 28 dX2_passes_25 (by decide) rfl rfl ?_
        refine x_aload0 B 29 dX2_passes_28 rfl (by first | rfl | exact xisR_rf _) ?_
        refine x_iload1 B 30 dX2_passes_29 rfl ?_
        refine x_iload2 B 31 dX2_passes_30 rfl ?_
        refine x_callV B 34 (m_X2_speak hT' hO' hB p hp4 hz) [0, 1, 2, 3] rfl ⟨_, _, _, (by repeat (first | with_reducible exact xr_h | refine xr_t ?_)), rfl, rfl⟩ q2039 q2041 qs68 q92 q2042 hd_X2_speak (by decide) ⟨by first | decide | omega, by first | decide | omega⟩ ⟨by first | decide | omega, by first | decide | omega⟩ rfl (Nat.le_of_ble_eq_true rfl) dX2_passes_31 rfl (fun _ _ _ h => h.elim) ?_
        rintro _ _ ⟨rfl, row2, sw2, sm2, hT2, hR2, hS2, hSS2, rfl⟩
        simp only [xst, xput, xpre, List.set_cons_zero, List.set_cons_succ]
        refine x_iinc2 B 37 dX2_passes_34 rfl (by first | exact xinc _ | rfl) ?_
        refine x_goto B 7 dX2_passes_37 (by decide) ?_
        have e2 : hPer kd nb S1 p = hSpk kd nb p S1 nb := by unfold hPer; rw [if_neg c]
        rw [e2] at e1
        exact ih (p + 1) (by omega) row2 sw2 sm2 (by rw [e1]; exact hT2) (hR'.trans hR2) (by rw [e1]; exact all sw2 sm2 _ hS2 hSS2)
  refine x_aload0 B 1 dX2_passes_0 rfl (by first | rfl | exact xisR_rf _) ?_
  refine x_iload1 B 2 dX2_passes_1 rfl ?_
  refine x_callV B 5 (m_X2_handOver hT hO hB) [0, 1] rfl ⟨_, _, _, (by repeat (first | with_reducible exact xr_h | refine xr_t ?_)), rfl, rfl⟩ q2023 q2025 qs64 q92 q2026 hd_X2_handOver (by decide) ⟨by first | decide | omega, by first | decide | omega⟩ ⟨by first | decide | omega, by first | decide | omega⟩ rfl (Nat.le_of_ble_eq_true rfl) dX2_passes_2 rfl (fun _ _ _ h => h.elim) ?_
  rintro _ _ ⟨rfl, row2, hT2, hR2, rfl⟩
  simp only [xst, xput, xpre, List.set_cons_zero, List.set_cons_succ]
  refine x_iconst B 6 (v := 0) dX2_passes_5 (by decide) rfl ?_
  refine x_istore2 B 7 dX2_passes_6 rfl ?_
  exact loop 4 0 rfl row2 sw sm (by rw [hS0] at hT2; exact hT2) hR2 (fun q hq => by omega)
theorem HOk.passE {nb nm : Nat} {kd : Nat → Nat} {S : HS} (h : HOk nb nm kd S) (hE : S.2.2.2.2.2 + 1 < 100000) : HOk nb nm kd (hPass kd nb nm S).1 := by
  have h1 := (h.inh (kd := kd) nm (Nat.le_refl _)).pers (kd := kd) 4
  have h2 : HOk nb nm kd (if S.2.2.2.2.2 % 3 = 2 then hLose kd (hPers kd nb (hInh kd S nm) 4).1 (10 * nb) else (hPers kd nb (hInh kd S nm) 4).1) := by
    split
    · exact h1.lose _
    · exact h1
  obtain ⟨a1, a2, a3, a4, a5, a6, a7, a8, a9, -⟩ := h2
  exact ⟨a1, a2, a3, a4, a5, a6, a7, a8, a9, hE⟩
theorem hGo_E {nb nm : Nat} {kd : Nat → Nat} {S : HS} : ∀ n, (hGo kd nb nm S n).2.2.2.2.2 = S.2.2.2.2.2 + n
  | 0 => rfl
  | n + 1 => by
    show (hGo kd nb nm S n).2.2.2.2.2 + 1 = _
    rw [hGo_E n]; omega
theorem HOk.go {nb nm : Nat} {kd : Nat → Nat} {S : HS} (h : HOk nb nm kd S) : ∀ n, S.2.2.2.2.2 + n < 100000 → HOk nb nm kd (hGo kd nb nm S n)
  | 0, _ => h
  | n + 1, hn => (HOk.go h n (by omega)).passE (by rw [hGo_E]; omega)
end T4
