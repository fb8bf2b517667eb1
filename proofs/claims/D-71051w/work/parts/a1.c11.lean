/-! THE COMPONENT, 13: an evening, on -/
theorem xfit_i8 : ∀ v, v ≤ 9 → ∀ l, l ≤ v → (nI v - (nI l).toInt8.toInt32).toInt8.toInt32 = nI (v - l) := by decide
theorem nar_sub {v l : Nat} (h : v ≤ 9) : vp_nar .byte (nI (v - l)) = nI (v - l) := nar9 _ (by omega)
section C11
variable {D : xG} {h : Nat} {ad sa : Nat → Nat} {iv : Nat → Int32} {tg : Option Nat} {kn : Nat → Nat → Int32} {pf hf yf : Nat → Int32} {cov ev : Int32} {bf : Nat → Option Nat} {bp : va_W} {nb nm : Nat} {kd : Nat → Nat} {S : HS}
theorem m_X1_speak {sf : Nat → Int32} (hT : CRep kn pf hf yf cov ev nb nm S) (hF : CFit kn) (hO : HOk nb nm kd S) (hiv : iv 1 = nI nb) (hB : BKn bf bp nb kd) (p : Nat) (hp : p < 4) (lis : Option Nat) (h5 : iv 5 = oI lis) (hls : ∀ z, lis = some z → z < 4) (L : List Nat) (hL : SdR iv sf L) (hl : lis = some p → L = []) : XC D yX1_speak (ws_ yX1_speak cX1_speak 6 (Option.none : Option Jvm.ClassFile.FieldType)) 6 240 (0) (0) [.ref (sa 0), .int (nI p)] [cS0 h sa cov ev, cS1 D sa, cK D sa kn, cSI D sa 2 8 pf, cR h ad iv tg, cBr D ad bf, bp, cSd D ad sf] (fun r cs' => r = none ∧ ∃ kn' iv' sf', CRep kn' pf hf yf cov ev nb nm (hSpk kd nb p S nb).1 ∧ CFit kn' ∧ SdR iv' sf' (if lis = some p then (hSpk kd nb p S nb).2 else L) ∧ J4 iv iv' ∧ cs' = [cS0 h sa cov ev, cS1 D sa, cK D sa kn', cSI D sa 2 8 pf, cR h ad iv' tg, cBr D ad bf, bp, cSd D ad sf']) x0 := by
  refine XC.of (by decide) (by simp [Value.category]) (Nat.le_of_ble_eq_true rfl) fun X B => ?_
  show WX D X [cS0 h sa cov ev, cS1 D sa, cK D sa kn, cSI D sa 2 8 pf, cR h ad iv tg, cBr D ad bf, bp, cSd D ad sf] 0 0 0 [some (.ref (sa 0)), some (.int (nI p)), none, none, none, none] []
  have hnb := hO.1
  have loop : ∀ (j b : Nat), b + j = nb → ∀ kn1 iv1 sf1 a3 a4 a5, CRep kn1 pf hf yf cov ev nb nm (hSpk kd nb p S b).1 → CFit kn1 → SdR iv1 sf1 (if lis = some p then (hSpk kd nb p S b).2 else L) → J4 iv iv1 → WX D X [cS0 h sa cov ev, cS1 D sa, cK D sa kn1, cSI D sa 2 8 pf, cR h ad iv1 tg, cBr D ad bf, bp, cSd D ad sf1] 0 0 2 [some (.ref (sa 0)), some (.int (nI p)), some (.int (nI b)), a3, a4, a5] [] := by
    intro j
    induction j with
    | zero =>
      intro b hb kn1 iv1 sf1 a3 a4 a5 hT1 hF1 hL1 hJ1
      obtain rfl : b = nb := by omega
      refine x_iload2 B 3 dX1_speak_2 rfl ?_
      refine x_aload0 B 4 dX1_speak_3 rfl (by first | rfl | exact xisR_rf _) ?_
      refine g_X1_3_X1 B 7 (by repeat (first | with_reducible exact xr_h | refine xr_t ?_)) dX1_speak_4 rfl ?_
      refine g_X1_75_X0 B 10 (by repeat (first | with_reducible exact xr_h | refine xr_t ?_)) dX1_speak_7 rfl ?_
      rw [(hJ1 1 (by omega)).trans hiv]
      refine x_icmp_ge_t B 92 dX1_speak_10 (by decide) (by (try simp only [xlit]); first | (rw [nI_leI (by omega) (by omega)]; omega) | (rw [nI_ltI (by omega) (by omega)]; omega) | (rw [nI_eq (by omega) (by omega)]; omega)) ?_
      exact x_vret B rfl ⟨rfl, kn1, iv1, sf1, hT1, hF1, hL1, hJ1, rfl⟩ dX1_speak_92 ⟨by first | omega | decide, by first | omega | decide⟩
    | succ j ih =>
      intro b hb kn1 iv1 sf1 a3 a4 a5 hT1 hF1 hL1 hJ1
      have hb' : b < nb := by omega
      have hO1 := hO.spk (kd := kd) p b
      have hlen := hSpk_len (kd := kd) (nb := nb) (p := p) (S := S) b
      have e1 : hSpk kd nb p S (b + 1) = if hUp (hSpk kd nb p S b).1 b p = true then hTalk kd nb p b (hSays (kd b)) (hSpk kd nb p S b).1 0 (hSpk kd nb p S b).2 else hSpk kd nb p S b := rfl
      generalize hr : hSpk kd nb p S b = r at *
      obtain ⟨S1, L1⟩ := r
      dsimp only at hT1 hL1 hO1 e1 hlen
      obtain ⟨q, hq1, hq2⟩ := hB b hb'
      have hk := hO1.2.2.1 b hb'
      have hP := hO1.2.2.2.2.1 b hb'
      obtain ⟨hcov, -, hPf, -⟩ := id hT1
      have hC : S1.2.2.2.2.1 < 256 := Nat.lt_of_lt_of_le hO1.2.2.2.2.2.2.2.2.1 (pow_nb hnb)
      have hs2 := hSays_le (kd b)
      have talk : ∀ (n : Nat), n ≤ 2 → ∀ S2 told L2 kn2 iv2 sf2 a5, HOk nb nm kd S2 → told < 1024 → CRep kn2 pf hf yf cov ev nb nm S2 → CFit kn2 → SdR iv2 sf2 (if lis = some p then L2 else L) → J4 iv iv2 → L2.length + n ≤ 2 * b + 2 → hTalk kd nb p b n S2 told L2 = hSpk kd nb p S (b + 1) → WX D X [cS0 h sa cov ev, cS1 D sa, cK D sa kn2, cSI D sa 2 8 pf, cR h ad iv2 tg, cBr D ad bf, bp, cSd D ad sf2] 0 0 41 [some (.ref (sa 0)), some (.int (nI p)), some (.int (nI b)), some (.int (nI told)), some (.int (nI n)), a5] [] := by
        intro n
        induction n with
        | zero =>
          intro hn S2 told L2 kn2 iv2 sf2 a5 hO2 htold hT2 hF2 hL2 hJ2 hln e2
          have e2 : (S2, L2) = hSpk kd nb p S (b + 1) := e2
          refine x_iload4 B 43 dX1_speak_41 rfl ?_
          refine x_if_le_t B 86 dX1_speak_43 (by decide) (by decide) ?_
          refine x_iinc2 B 89 dX1_speak_86 rfl (by first | exact xinc _ | rfl) ?_
          refine x_goto B 2 dX1_speak_89 (by decide) ?_
          exact ih (b + 1) (by omega) kn2 iv2 sf2 _ _ _ (by rw [← e2]; exact hT2) hF2 (by rw [← e2]; exact hL2) hJ2
        | succ n ihn =>
          intro hn S2 told L2 kn2 iv2 sf2 a5 hO2 htold hT2 hF2 hL2 hJ2 hln e2
          have e3 : hTalk kd nb p b (n + 1) S2 told L2 = match hBest (S2.1 b) told 10 with
            | none => (S2, L2)
            | some w => hTalk kd nb p b n (hSay kd S2 p b w nb) (told ||| 2 ^ w) (L2 ++ [w]) := rfl
          have dec : nI (n + 1) + Int32.ofInt (-1) = nI n := by
            rw [← nI_1, show Int32.ofInt (-1) = -1 from by decide, Int32.add_assoc, show (1 : Int32) + -1 = 0 from by decide]
            exact Int32.add_zero _
          refine x_iload4 B 43 dX1_speak_41 rfl ?_
          refine x_if_le_f (tp := 86) B 46 dX1_speak_43 (by decide) rfl (by (try simp only [xlit]); first | (rw [nI_leI (by omega) (by omega)]; omega) | (rw [nI_ltI (by omega) (by omega)]; omega) | (rw [nI_eq (by omega) (by omega)]; omega)) ?_
          refine x_aload0 B 47 dX1_speak_46 rfl (by first | rfl | exact xisR_rf _) ?_
          refine x_aload0 B 48 dX1_speak_47 rfl (by first | rfl | exact xisR_rf _) ?_
          refine g_X1_17_X1 B 51 (by repeat (first | with_reducible exact xr_h | refine xr_t ?_)) dX1_speak_48 rfl ?_
          refine x_iload2 B 52 dX1_speak_51 rfl ?_
          refine x_aalds B 53 (f := (fun b => some (sa (5 + b)))) (t0 := 4) rfl rfl (by repeat (first | with_reducible exact xr_h | refine xr_t ?_)) (j := b) (by first | (simp only [xlit, nI_add, pk_mul]; done) | rfl | (simp only [xlit, nI_add, pk_mul]; congr 1; omega)) ⟨by first | omega | decide, by first | decide | omega⟩ rfl dX1_speak_52 rfl ?_
          refine x_iload3 B 54 dX1_speak_53 rfl ?_
          refine x_callV B 57 (m_X1_best b told (S2.1 b) (by omega) (fun w hw => ⟨hT2.2.2.2.1 b w hb' hw, hO2.2.2.2.1 b w hb' hw⟩) htold) [2] rfl ⟨_, _, _, (by repeat (first | with_reducible exact xr_h | refine xr_t ?_)), rfl, rfl⟩ q1356 q1358 qs28 q89 q1359 hd_X1_best (by decide) ⟨by first | decide | omega, by first | decide | omega⟩ ⟨by first | decide | omega, by first | decide | omega⟩ rfl (Nat.le_of_ble_eq_true rfl) dX1_speak_54 rfl (fun _ _ _ h => h.elim) ?_
          rintro _ _ ⟨rfl, rfl⟩
          try simp only [xst, xput, xpre, List.set_cons_zero, List.set_cons_succ]
          cases eB : hBest (S2.1 b) told 10 with
          | none =>
            rw [eB] at e3
            dsimp only at e3
            refine x_istore5 B 59 dX1_speak_57 rfl ?_
            refine x_iload5 B 61 dX1_speak_59 rfl ?_
            refine x_iconst B 62 (v := (-1)) dX1_speak_61 (by decide) rfl ?_
            refine x_icmp_eq_t B 80 dX1_speak_62 (by decide) rfl ?_
            refine x_iinc4 B 83 dX1_speak_80 rfl dec ?_
            refine x_goto B 41 dX1_speak_83 (by decide) ?_
            refine ihn (by omega) S2 told L2 kn2 iv2 sf2 _ hO2 htold hT2 hF2 hL2 hJ2 (by omega) ?_
            rw [← e2, e3]
            cases n with
            | zero => rfl
            | succ n => unfold hTalk; rw [eB]
          | some w =>
            rw [eB] at e3
            dsimp only at e3
            have hw := (hBest_lt eB).1
            rw [show oI (some w) = nI w from rfl]
            refine x_istore5 B 59 dX1_speak_57 rfl ?_
            refine x_iload5 B 61 dX1_speak_59 rfl ?_
            refine x_iconst B 62 (v := (-1)) dX1_speak_61 (by decide) rfl ?_
            refine x_icmp_eq_f (tp := 80) B 65 dX1_speak_62 (by decide) rfl (ne_m1 (by omega)) ?_
            refine x_iload3 B 66 dX1_speak_65 rfl ?_
            refine x_iconst B 67 (v := 1) dX1_speak_66 (by decide) rfl ?_
            refine x_iload5 B 69 dX1_speak_67 rfl ?_
            refine x_ishl B 70 dX1_speak_69 rfl ?_
            rw [xshl1 (by omega)]
            refine x_ior B 71 dX1_speak_70 rfl ?_
            rw [xor_nI]
            have htold2 : told ||| 2 ^ w < 1024 := Nat.or_lt_two_pow (n := 10) htold (Nat.pow_lt_pow_right (by decide) hw)
            refine x_istore3 B 72 dX1_speak_71 rfl ?_
            refine x_aload0 B 73 dX1_speak_72 rfl (by first | rfl | exact xisR_rf _) ?_
            refine x_iload2 B 74 dX1_speak_73 rfl ?_
            refine x_iload5 B 76 dX1_speak_74 rfl ?_
            refine x_iload1 B 77 dX1_speak_76 rfl ?_
            refine x_callV B 80 (m_X1_say (sf := sf2) hT2 hF2 hO2 ((hJ2 1 (by omega)).trans hiv) hB p b w hp hb' hw lis ((hJ2 5 (by omega)).trans h5) hls (if lis = some p then L2 else L) hL2 (fun c => by rw [if_pos c]; omega)) [0, 1, 2, 3, 4, 5, 6, 7] rfl ⟨_, _, _, (by repeat (first | with_reducible exact xr_h | refine xr_t ?_)), rfl, rfl⟩ q1360 q1362 qs29 q89 q1363 hd_X1_say (by decide) ⟨by first | decide | omega, by first | decide | omega⟩ ⟨by first | decide | omega, by first | decide | omega⟩ rfl (Nat.le_of_ble_eq_true rfl) dX1_speak_77 rfl (fun _ _ _ h => h.elim) ?_
            rintro _ _ ⟨rfl, kn3, iv3, sf3, hT3, hF3, hL3, hJ3, rfl⟩
            try simp only [xst, xput, xpre, List.set_cons_zero, List.set_cons_succ]
            refine x_iinc4 B 83 dX1_speak_80 rfl dec ?_
            refine x_goto B 41 dX1_speak_83 (by decide) ?_
            refine ihn (by omega) (hSay kd S2 p b w nb) (told ||| 2 ^ w) (L2 ++ [w]) kn3 iv3 sf3 _ (hO2.say (kd := kd) p b w nb) htold2 hT3 hF3 ?_ (fun j hj => (hJ3 j hj).trans (hJ2 j hj)) (by rw [List.length_append, List.length_singleton]; omega) (by rw [← e3]; exact e2)
            by_cases c : lis = some p
            · simp only [if_pos c] at hL3 ⊢; exact hL3
            · simp only [if_neg c] at hL3 ⊢; exact hL3
      refine x_iload2 B 3 dX1_speak_2 rfl ?_
      refine x_aload0 B 4 dX1_speak_3 rfl (by first | rfl | exact xisR_rf _) ?_
      refine g_X1_3_X1 B 7 (by repeat (first | with_reducible exact xr_h | refine xr_t ?_)) dX1_speak_4 rfl ?_
      refine g_X1_75_X0 B 10 (by repeat (first | with_reducible exact xr_h | refine xr_t ?_)) dX1_speak_7 rfl ?_
      rw [(hJ1 1 (by omega)).trans hiv]
      refine x_icmp_ge_f (tp := 92) B 13 dX1_speak_10 (by decide) rfl (by (try simp only [xlit]); first | (rw [nI_leI (by omega) (by omega)]; omega) | (rw [nI_ltI (by omega) (by omega)]; omega) | (rw [nI_eq (by omega) (by omega)]; omega)) ?_
      refine x_iconst B 14 (v := 0) dX1_speak_13 (by decide) rfl ?_
      refine x_istore3 B 15 dX1_speak_14 rfl ?_
      refine x_aload0 B 16 dX1_speak_15 rfl (by first | rfl | exact xisR_rf _) ?_
      refine x_iload2 B 17 dX1_speak_16 rfl ?_
      refine x_iload1 B 18 dX1_speak_17 rfl ?_
      refine x_callV B 21 (m_X1_isUp b p S1.2.2.2.2.1 (S1.2.1 b) (by omega) hp (by omega) hC (hPf b hb') hcov) [0, 3] rfl ⟨_, _, _, (by repeat (first | with_reducible exact xr_h | refine xr_t ?_)), rfl, rfl⟩ q1313 q1314 q1315 q89 q1316 hd_X1_isUp (by decide) ⟨by first | decide | omega, by first | decide | omega⟩ ⟨by first | decide | omega, by first | decide | omega⟩ rfl (Nat.le_of_ble_eq_true rfl) dX1_speak_18 rfl (fun _ _ _ h => h.elim) ?_
      rintro _ _ ⟨rfl, rfl⟩
      try simp only [xst, xput, xpre, List.set_cons_zero, List.set_cons_succ]
      rw [show (decide (S1.2.1 b = p) && !S1.2.2.2.2.1.testBit b) = hUp S1 b p from rfl]
      cases c1 : hUp S1 b p with
      | false =>
        rw [if_neg (by rw [c1]; simp)] at e1
        refine x_if_eq_t B 38 dX1_speak_21 (by decide) rfl ?_
        refine x_iconst B 39 (v := 0) dX1_speak_38 (by decide) rfl ?_
        refine x_istore4 B 41 dX1_speak_39 rfl ?_
        refine x_iload4 B 43 dX1_speak_41 rfl ?_
        refine x_if_le_t B 86 dX1_speak_43 (by decide) (by decide) ?_
        refine x_iinc2 B 89 dX1_speak_86 rfl (by first | exact xinc _ | rfl) ?_
        refine x_goto B 2 dX1_speak_89 (by decide) ?_
        exact ih (b + 1) (by omega) kn1 iv1 sf1 _ _ _ (by rw [e1]; exact hT1) hF1 (by rw [e1]; exact hL1) hJ1
      | true =>
        rw [if_pos c1] at e1
        refine x_if_eq_f (tp := 38) B 24 dX1_speak_21 (by decide) rfl (by decide) ?_
        refine x_aload0 B 25 dX1_speak_24 rfl (by first | rfl | exact xisR_rf _) ?_
        refine g_X1_3_X1 B 28 (by repeat (first | with_reducible exact xr_h | refine xr_t ?_)) dX1_speak_25 rfl ?_
        refine x_iload2 B 29 dX1_speak_28 rfl ?_
        refine x_callVN B 32 (m_X0_bird_2 b q (kd b) b (by omega) hq1 hq2 hk) [4, 5, 6] rfl ⟨_, _, _, (by repeat (first | with_reducible exact xr_h | refine xr_t ?_)), rfl, rfl⟩ q1262 q1198 qs23 q88 q1199 hd_X0_bird_2 (by decide) ⟨by first | decide | omega, by first | decide | omega⟩ ⟨by first | decide | omega, by first | decide | omega⟩ rfl (Nat.le_of_ble_eq_true rfl) dX1_speak_29 rfl (fun _ _ _ h => h.elim) ?_
        rintro _ _ ⟨rfl, rfl⟩
        try simp only [xst, xput, xpre, List.set_cons_zero, List.set_cons_succ]
        refine x_bSays_X1 B 35 (i := 6) rfl hq2 hk (by omega) (by omega) (Nat.le_of_ble_eq_true rfl) dX1_speak_32 rfl ?_
        refine x_goto B 39 dX1_speak_35 (by decide) ?_
        refine x_istore4 B 41 dX1_speak_39 rfl ?_
        exact talk (hSays (kd b)) hs2 S1 0 L1 kn1 iv1 sf1 _ hO1 (by decide) hT1 hF1 hL1 hJ1 (by omega) e1.symm
  refine x_iconst B 1 (v := 0) dX1_speak_0 (by decide) rfl ?_
  refine x_istore2 B 2 dX1_speak_1 rfl ?_
  refine loop nb 0 (by omega) kn iv sf none none none hT hF ?_ (fun j hj => rfl)
  by_cases c : lis = some p
  · rw [if_pos c]; rw [hl c] at hL; exact hL
  · rw [if_neg c]; exact hL
theorem m_X1_lose (hT : CRep kn pf hf yf cov ev nb nm S) (hF : CFit kn) (hO : HOk nb nm kd S) (hiv : iv 1 = nI nb) (hB : BKn bf bp nb kd) : XC D yX1_lose (ws_ yX1_lose cX1_lose 3 (Option.none : Option Jvm.ClassFile.FieldType)) 5 200 (0) (0) [.ref (sa 0)] [cS0 h sa cov ev, cS1 D sa, cK D sa kn, cR h ad iv tg, cBr D ad bf, bp] (fun r cs' => r = none ∧ ∃ kn', CRep kn' pf hf yf cov ev nb nm (hLose kd S (10 * nb)) ∧ CFit kn' ∧ cs' = [cS0 h sa cov ev, cS1 D sa, cK D sa kn', cR h ad iv tg, cBr D ad bf, bp]) x0 := by
  refine XC.of (by decide) (by simp [Value.category]) (Nat.le_of_ble_eq_true rfl) fun X B => ?_
  show WX D X [cS0 h sa cov ev, cS1 D sa, cK D sa kn, cR h ad iv tg, cBr D ad bf, bp] 0 0 0 [some (.ref (sa 0)), none, none] []
  have hnb := hO.1
  have hcov := hT.1
  have hC : S.2.2.2.2.1 < 256 := Nat.lt_of_lt_of_le hO.2.2.2.2.2.2.2.2.1 (pow_nb hnb)
  have loop : ∀ (j b : Nat), b + j = nb → ∀ kn1 a2, CRep kn1 pf hf yf cov ev nb nm (hLose kd S (10 * b)) → CFit kn1 → WX D X [cS0 h sa cov ev, cS1 D sa, cK D sa kn1, cR h ad iv tg, cBr D ad bf, bp] 0 0 2 [some (.ref (sa 0)), some (.int (nI b)), a2] [] := by
    intro j
    induction j with
    | zero =>
      intro b hb kn1 a2 hT1 hF1
      obtain rfl : b = nb := by omega
      refine x_iload1 B 3 dX1_lose_2 rfl ?_
      refine x_aload0 B 4 dX1_lose_3 rfl (by first | rfl | exact xisR_rf _) ?_
      refine g_X1_3_X1 B 7 (by repeat (first | with_reducible exact xr_h | refine xr_t ?_)) dX1_lose_4 rfl ?_
      refine g_X1_75_X0 B 10 (by repeat (first | with_reducible exact xr_h | refine xr_t ?_)) dX1_lose_7 rfl ?_
      rw [hiv]
      refine x_icmp_ge_t B 91 dX1_lose_10 (by decide) (by (try simp only [xlit]); first | (rw [nI_leI (by omega) (by omega)]; omega) | (rw [nI_ltI (by omega) (by omega)]; omega) | (rw [nI_eq (by omega) (by omega)]; omega)) ?_
      exact x_vret B rfl ⟨rfl, kn1, hT1, hF1, rfl⟩ dX1_lose_91 ⟨by first | omega | decide, by first | omega | decide⟩
    | succ j ih =>
      intro b hb kn1 a2 hT1 hF1
      have hb' : b < nb := by omega
      obtain ⟨q, hq1, hq2⟩ := hB b hb'
      have hk := hO.2.2.1 b hb'
      have hl1 := hLoses_le (kd b)
      have inner : ∀ (i w : Nat), w + i = 10 → ∀ kn2, CRep kn2 pf hf yf cov ev nb nm (hLose kd S (10 * b + w)) → CFit kn2 → WX D X [cS0 h sa cov ev, cS1 D sa, cK D sa kn2, cR h ad iv tg, cBr D ad bf, bp] 0 0 15 [some (.ref (sa 0)), some (.int (nI b)), some (.int (nI w))] [] := by
        intro i
        induction i with
        | zero =>
          intro w hw kn2 hT2 hF2
          obtain rfl : w = 10 := by omega
          refine x_iload2 B 16 dX1_lose_15 rfl ?_
          refine x_bipush B 18 (v := 10) dX1_lose_16 (by decide) rfl ?_
          refine x_icmp_ge_t B 85 dX1_lose_18 (by decide) (by (try simp only [xlit]); first | (rw [nI_leI (by omega) (by omega)]; omega) | (rw [nI_ltI (by omega) (by omega)]; omega) | (rw [nI_eq (by omega) (by omega)]; omega)) ?_
          refine x_iinc1 B 88 dX1_lose_85 rfl (by first | exact xinc _ | rfl) ?_
          refine x_goto B 2 dX1_lose_88 (by decide) ?_
          exact ih (b + 1) (by omega) kn2 _ (by rw [show 10 * (b + 1) = 10 * b + 10 by omega]; exact hT2) hF2
        | succ i ihi =>
          intro w hw kn2 hT2 hF2
          have hw' : w < 10 := by omega
          have hO2 := hO.lose (kd := kd) (10 * b + w)
          have e2 := hLose_snd (kd := kd) (S := S) (10 * b + w)
          have e1 : hLose kd S (10 * b + (w + 1)) = hLose1 kd (hLose kd S (10 * b + w)) ((10 * b + w) / 10) ((10 * b + w) % 10) := rfl
          rw [show (10 * b + w) / 10 = b by omega, show (10 * b + w) % 10 = w by omega] at e1
          have ecov : S.2.2.2.2.1.testBit b = true → hLose kd S (10 * (b + 1)) = hLose kd S (10 * b + w) := fun c => by
            rw [show 10 * (b + 1) = 10 * b + 10 by omega, hLose_cov c 10 (Nat.le_refl _), hLose_cov c w (by omega)]
          generalize hLose kd S (10 * b + w) = S2 at *
          have e3 : hLose1 kd S2 b w = if S2.2.2.2.2.1.testBit b = false ∧ 0 < S2.1 b w ∧ S2.1 b w < 5 then (kUp S2.1 b w (S2.1 b w - hLoses (kd b)), S2.2) else S2 := rfl
          have hv := hO2.2.2.2.1 b w hb' hw'
          have k1 := hT2.2.2.2.1 b w hb' hw'
          have next : ∀ kn3, CRep kn3 pf hf yf cov ev nb nm (hLose1 kd S2 b w) → CFit kn3 → WX D X [cS0 h sa cov ev, cS1 D sa, cK D sa kn3, cR h ad iv tg, cBr D ad bf, bp] 0 0 79 [some (.ref (sa 0)), some (.int (nI b)), some (.int (nI w))] [] := by
            intro kn3 hT3 hF3
            refine x_iinc2 B 82 dX1_lose_79 rfl (by first | exact xinc _ | rfl) ?_
            refine x_goto B 15 dX1_lose_82 (by decide) ?_
            exact ihi (w + 1) (by omega) kn3 (by rw [e1]; exact hT3) hF3
          refine x_iload2 B 16 dX1_lose_15 rfl ?_
          refine x_bipush B 18 (v := 10) dX1_lose_16 (by decide) rfl ?_
          refine x_icmp_ge_f (tp := 85) B 21 dX1_lose_18 (by decide) rfl (by (try simp only [xlit]); first | (rw [nI_leI (by omega) (by omega)]; omega) | (rw [nI_ltI (by omega) (by omega)]; omega) | (rw [nI_eq (by omega) (by omega)]; omega)) ?_
          refine x_aload0 B 22 dX1_lose_21 rfl (by first | rfl | exact xisR_rf _) ?_
          refine g_X1_36_X1 B 25 (by repeat (first | with_reducible exact xr_h | refine xr_t ?_)) dX1_lose_22 rfl ?_
          refine x_iload1 B 26 dX1_lose_25 rfl ?_
          refine x_callSN B 29 (m_X0_has _ _) [] rfl q1259 q1260 q88 q1261 hd_X0_has rfl ⟨by first | decide | omega, by first | decide | omega⟩ ⟨by first | decide | omega, by first | decide | omega⟩ rfl (Nat.le_of_ble_eq_true rfl) dX1_lose_26 rfl (fun _ _ _ h => h.elim) ?_
          rintro _ _ ⟨rfl, rfl⟩
          try simp only [xst, xput, xpre, List.set_cons_zero, List.set_cons_succ]
          rw [show x_has cov (nI b) = if S.2.2.2.2.1.testBit b = true then 1 else 0 by rw [hcov]; exact xhas_bit (by omega) (by omega)]
          cases c2 : S.2.2.2.2.1.testBit b with
          | true =>
            rw [if_pos rfl]
            refine x_if_ne_t B 85 dX1_lose_29 (by decide) (by decide) ?_
            refine x_iinc1 B 88 dX1_lose_85 rfl (by first | exact xinc _ | rfl) ?_
            refine x_goto B 2 dX1_lose_88 (by decide) ?_
            exact ih (b + 1) (by omega) kn2 _ (by rw [ecov c2]; exact hT2) hF2
          | false =>
            rw [if_neg (by simp)]
            refine x_if_ne_f (tp := 85) B 32 dX1_lose_29 (by decide) rfl rfl ?_
            refine x_aload0 B 33 dX1_lose_32 rfl (by first | rfl | exact xisR_rf _) ?_
            refine g_X1_17_X1 B 36 (by repeat (first | with_reducible exact xr_h | refine xr_t ?_)) dX1_lose_33 rfl ?_
            refine x_iload1 B 37 dX1_lose_36 rfl ?_
            refine x_aalds B 38 (f := (fun b => some (sa (5 + b)))) (t0 := 4) rfl rfl (by repeat (first | with_reducible exact xr_h | refine xr_t ?_)) (j := b) (by first | (simp only [xlit, nI_add, pk_mul]; done) | rfl | (simp only [xlit, nI_add, pk_mul]; congr 1; omega)) ⟨by first | omega | decide, by first | decide | omega⟩ rfl dX1_lose_37 rfl ?_
            refine x_iload2 B 39 dX1_lose_38 rfl ?_
            refine x_baldv B 40 (by repeat (first | exact xr_m (cK_get (show b < 8 by omega)) | apply xr_t)) (j := w) (by first | (simp only [xlit, nI_add, pk_mul]; done) | rfl | (simp only [xlit, nI_add, pk_mul]; congr 1; omega)) ⟨by first | omega | decide, by first | decide | omega⟩ k1 dX1_lose_39 rfl ?_
            by_cases c3 : 0 < S2.1 b w
            · refine x_if_le_f (tp := 79) B 43 dX1_lose_40 (by decide) rfl (by (try simp only [xlit]); rw [nI_leI (by omega) (by omega)]; omega) ?_
              refine x_aload0 B 44 dX1_lose_43 rfl (by first | rfl | exact xisR_rf _) ?_
              refine g_X1_17_X1 B 47 (by repeat (first | with_reducible exact xr_h | refine xr_t ?_)) dX1_lose_44 rfl ?_
              refine x_iload1 B 48 dX1_lose_47 rfl ?_
              refine x_aalds B 49 (f := (fun b => some (sa (5 + b)))) (t0 := 4) rfl rfl (by repeat (first | with_reducible exact xr_h | refine xr_t ?_)) (j := b) (by first | (simp only [xlit, nI_add, pk_mul]; done) | rfl | (simp only [xlit, nI_add, pk_mul]; congr 1; omega)) ⟨by first | omega | decide, by first | decide | omega⟩ rfl dX1_lose_48 rfl ?_
              refine x_iload2 B 50 dX1_lose_49 rfl ?_
              refine x_baldv B 51 (by repeat (first | exact xr_m (cK_get (show b < 8 by omega)) | apply xr_t)) (j := w) (by first | (simp only [xlit, nI_add, pk_mul]; done) | rfl | (simp only [xlit, nI_add, pk_mul]; congr 1; omega)) ⟨by first | omega | decide, by first | decide | omega⟩ k1 dX1_lose_50 rfl ?_
              by_cases c4 : S2.1 b w < 5
              · refine x_iconst B 52 (v := 5) dX1_lose_51 (by decide) rfl ?_
                refine x_icmp_ge_f (tp := 79) B 55 dX1_lose_52 (by decide) rfl (by (try simp only [xlit]); first | (rw [nI_leI (by omega) (by omega)]; omega) | (rw [nI_ltI (by omega) (by omega)]; omega) | (rw [nI_eq (by omega) (by omega)]; omega)) ?_
                rw [if_pos ⟨by rw [e2]; exact c2, c3, c4⟩] at e3
                refine x_aload0 B 56 dX1_lose_55 rfl (by first | rfl | exact xisR_rf _) ?_
                refine g_X1_17_X1 B 59 (by repeat (first | with_reducible exact xr_h | refine xr_t ?_)) dX1_lose_56 rfl ?_
                refine x_iload1 B 60 dX1_lose_59 rfl ?_
                refine x_aalds B 61 (f := (fun b => some (sa (5 + b)))) (t0 := 4) rfl rfl (by repeat (first | with_reducible exact xr_h | refine xr_t ?_)) (j := b) (by first | (simp only [xlit, nI_add, pk_mul]; done) | rfl | (simp only [xlit, nI_add, pk_mul]; congr 1; omega)) ⟨by first | omega | decide, by first | decide | omega⟩ rfl dX1_lose_60 rfl ?_
                refine x_iload2 B 62 dX1_lose_61 rfl ?_
                refine x_dup2 B 63 dX1_lose_62 rfl rfl rfl ?_
                refine x_baldv B 64 (by repeat (first | exact xr_m (cK_get (show b < 8 by omega)) | apply xr_t)) (j := w) (by first | (simp only [xlit, nI_add, pk_mul]; done) | rfl | (simp only [xlit, nI_add, pk_mul]; congr 1; omega)) ⟨by first | omega | decide, by first | decide | omega⟩ k1 dX1_lose_63 rfl ?_
                refine x_aload0 B 65 dX1_lose_64 rfl (by first | rfl | exact xisR_rf _) ?_
                refine g_X1_3_X1 B 68 (by repeat (first | with_reducible exact xr_h | refine xr_t ?_)) dX1_lose_65 rfl ?_
                refine x_iload1 B 69 dX1_lose_68 rfl ?_
                refine x_callVN B 72 (m_X0_bird_2 b q (kd b) b (by omega) hq1 hq2 hk) [3, 4, 5] rfl ⟨_, _, _, (by repeat (first | with_reducible exact xr_h | refine xr_t ?_)), rfl, rfl⟩ q1262 q1198 qs23 q88 q1199 hd_X0_bird_2 (by decide) ⟨by first | decide | omega, by first | decide | omega⟩ ⟨by first | decide | omega, by first | decide | omega⟩ rfl (Nat.le_of_ble_eq_true rfl) dX1_lose_69 rfl (fun _ _ _ h => h.elim) ?_
                rintro _ _ ⟨rfl, rfl⟩
                try simp only [xst, xput, xpre, List.set_cons_zero, List.set_cons_succ]
                refine x_bLoses_X1 B 75 (i := 5) rfl hq2 hk (by omega) (by omega) (Nat.le_of_ble_eq_true rfl) dX1_lose_72 rfl ?_
                refine x_i2b B 76 dX1_lose_75 rfl ?_
                refine x_isub B 77 dX1_lose_76 rfl ?_
                refine x_i2b B 78 dX1_lose_77 rfl ?_
                rw [xfit_i8 _ hv (hLoses (kd b)) (by omega)]
                refine x_bast B 79 (by repeat (first | exact xu_m (cK_set (show b < 8 by omega) _) | apply xu_t)) (j := w) (by first | (simp only [xlit, nI_add, pk_mul]; done) | rfl | (simp only [xlit, nI_add, pk_mul]; congr 1; omega)) ⟨by first | omega | decide, by first | decide | omega⟩ (nar_sub hv) dX1_lose_78 rfl ?_
                exact next _ (by rw [e3]; exact hT2.setK b w _) (hF2.gain b w (by omega))
              · refine x_iconst B 52 (v := 5) dX1_lose_51 (by decide) rfl ?_
                refine x_icmp_ge_t B 79 dX1_lose_52 (by decide) (by (try simp only [xlit]); first | (rw [nI_leI (by omega) (by omega)]; omega) | (rw [nI_ltI (by omega) (by omega)]; omega) | (rw [nI_eq (by omega) (by omega)]; omega)) ?_
                rw [if_neg (fun z => c4 z.2.2)] at e3
                exact next kn2 (by rw [e3]; exact hT2) hF2
            · refine x_if_le_t B 79 dX1_lose_40 (by decide) (by (try simp only [xlit]); rw [nI_leI (by omega) (by omega)]; omega) ?_
              rw [if_neg (fun z => c3 z.2.1)] at e3
              exact next kn2 (by rw [e3]; exact hT2) hF2
      refine x_iload1 B 3 dX1_lose_2 rfl ?_
      refine x_aload0 B 4 dX1_lose_3 rfl (by first | rfl | exact xisR_rf _) ?_
      refine g_X1_3_X1 B 7 (by repeat (first | with_reducible exact xr_h | refine xr_t ?_)) dX1_lose_4 rfl ?_
      refine g_X1_75_X0 B 10 (by repeat (first | with_reducible exact xr_h | refine xr_t ?_)) dX1_lose_7 rfl ?_
      rw [hiv]
      refine x_icmp_ge_f (tp := 91) B 13 dX1_lose_10 (by decide) rfl (by (try simp only [xlit]); first | (rw [nI_leI (by omega) (by omega)]; omega) | (rw [nI_ltI (by omega) (by omega)]; omega) | (rw [nI_eq (by omega) (by omega)]; omega)) ?_
      refine x_iconst B 14 (v := 0) dX1_lose_13 (by decide) rfl ?_
      refine x_istore2 B 15 dX1_lose_14 rfl ?_
      exact inner 10 0 rfl kn1 hT1 hF1
  refine x_iconst B 1 (v := 0) dX1_lose_0 (by decide) rfl ?_
  refine x_istore1 B 2 dX1_lose_1 rfl ?_
  exact loop nb 0 (by omega) kn none hT hF
theorem m_X1_pass {sf : Nat → Int32} (hT : CRep kn pf hf yf cov ev nb nm S) (hF : CFit kn) (hO : HOk nb nm kd S) (h1 : iv 1 = nI nb) (h2 : iv 2 = nI nm) (hB : BKn bf bp nb kd) (lis : Option Nat) (h5 : iv 5 = oI lis) (hls : ∀ z, lis = some z → z < 4) : XC D yX1_pass (ws_ yX1_pass cX1_pass 2 (Option.some (Jvm.ClassFile.FieldType.object "ParrotSpeech$State"))) 7 280 (0) (0) [.ref (sa 0)] [cS0 h sa cov ev, cS1 D sa, cK D sa kn, cSI D sa 2 8 pf, cSI D sa 3 4 hf, cSI D sa 4 4 yf, cR h ad iv tg, cBr D ad bf, bp, cSd D ad sf] (fun r cs' => r = some (.ref (sa 0)) ∧ ∃ kn' hf' iv' sf' ev', CRep kn' pf hf' yf cov ev' nb nm (hPass kd nb nm S).1 ∧ CFit kn' ∧ SdR iv' sf' (lisL lis (hPass kd nb nm S).2) ∧ J4 iv iv' ∧ cs' = [cS0 h sa cov ev', cS1 D sa, cK D sa kn', cSI D sa 2 8 pf, cSI D sa 3 4 hf', cSI D sa 4 4 yf, cR h ad iv' tg, cBr D ad bf, bp, cSd D ad sf']) x0 := by
  refine XC.of (by decide) (by simp [Value.category]) (Nat.le_of_ble_eq_true rfl) fun X B => ?_
  show WX D X [cS0 h sa cov ev, cS1 D sa, cK D sa kn, cSI D sa 2 8 pf, cSI D sa 3 4 hf, cSI D sa 4 4 yf, cR h ad iv tg, cBr D ad bf, bp, cSd D ad sf] 0 0 0 [some (.ref (sa 0)), none] []
  have hnb := hO.1
  have hE : S.2.2.2.2.2 < 100000 := hO.2.2.2.2.2.2.2.2.2
  have hev := hT.2.1
  subst hev
  have hO0 := hO.inh (kd := kd) nm (Nat.le_refl _)
  have hCE := hInh_CE (kd := kd) (S := S) nm
  have ep : hPass kd nb nm S = (((if S.2.2.2.2.2 % 3 = 2 then hLose kd (hPers kd nb (hInh kd S nm) 4).1 (10 * nb) else (hPers kd nb (hInh kd S nm) 4).1).1, (if S.2.2.2.2.2 % 3 = 2 then hLose kd (hPers kd nb (hInh kd S nm) 4).1 (10 * nb) else (hPers kd nb (hInh kd S nm) 4).1).2.1, (if S.2.2.2.2.2 % 3 = 2 then hLose kd (hPers kd nb (hInh kd S nm) 4).1 (10 * nb) else (hPers kd nb (hInh kd S nm) 4).1).2.2.1, (if S.2.2.2.2.2 % 3 = 2 then hLose kd (hPers kd nb (hInh kd S nm) 4).1 (10 * nb) else (hPers kd nb (hInh kd S nm) 4).1).2.2.2.1, (if S.2.2.2.2.2 % 3 = 2 then hLose kd (hPers kd nb (hInh kd S nm) 4).1 (10 * nb) else (hPers kd nb (hInh kd S nm) 4).1).2.2.2.2.1, S.2.2.2.2.2 + 1), (hPers kd nb (hInh kd S nm) 4).2) := rfl
  generalize hS0 : hInh kd S nm = S0 at *
  have fin : ∀ kn1 hf1 iv1 sf1 a1, CRep kn1 pf hf1 yf cov (nI S.2.2.2.2.2) nb nm (if S.2.2.2.2.2 % 3 = 2 then hLose kd (hPers kd nb S0 4).1 (10 * nb) else (hPers kd nb S0 4).1) → CFit kn1 → SdR iv1 sf1 (lisL lis (hPers kd nb S0 4).2) → J4 iv iv1 → WX D X [cS0 h sa cov (nI S.2.2.2.2.2), cS1 D sa, cK D sa kn1, cSI D sa 2 8 pf, cSI D sa 3 4 hf1, cSI D sa 4 4 yf, cR h ad iv1 tg, cBr D ad bf, bp, cSd D ad sf1] 0 0 52 [some (.ref (sa 0)), a1] [] := by
    intro kn1 hf1 iv1 sf1 a1 hT1 hF1 hL1 hJ1
    generalize hz : (if S.2.2.2.2.2 % 3 = 2 then hLose kd (hPers kd nb S0 4).1 (10 * nb) else (hPers kd nb S0 4).1) = S3 at *
    obtain ⟨g1, g2, g3, g4, g5, g6⟩ := hT1
    refine x_aload0 B 53 dX1_pass_52 rfl (by first | rfl | exact xisR_rf _) ?_
    refine x_dup B 54 dX1_pass_53 rfl rfl ?_
    refine g_X1_40_X1 B 57 (by repeat (first | with_reducible exact xr_h | refine xr_t ?_)) dX1_pass_54 rfl ?_
    refine x_iconst B 58 (v := 1) dX1_pass_57 (by decide) rfl ?_
    refine x_iadd B 59 dX1_pass_58 rfl ?_
    rw [nI_1]
    refine s_X1_40_X1 B 62 (by repeat (first | with_reducible exact xu_h | apply xu_t)) dX1_pass_59 rfl ?_
    refine x_aload0 B 63 dX1_pass_62 rfl (by first | rfl | exact xisR_rf _) ?_
    exact x_aret B rfl rfl (by first | rfl | exact xisR_rf _) ⟨rfl, kn1, hf1, iv1, sf1, nI (S.2.2.2.2.2 + 1), by rw [ep]; exact ⟨g1, rfl, g3, g4, g5, g6⟩, hF1, by rw [ep]; exact hL1, hJ1, rfl⟩ dX1_pass_63 ⟨by first | omega | decide, by first | omega | decide⟩
  have hO4 := hO0.pers (kd := kd) 4
  have loop : ∀ (j p : Nat), p + j = 4 → ∀ kn1 hf1 iv1 sf1, CRep kn1 pf hf1 yf cov (nI S.2.2.2.2.2) nb nm (hPers kd nb S0 p).1 → CFit kn1 → SdR iv1 sf1 (lisL lis (hPers kd nb S0 p).2) → J4 iv iv1 → WX D X [cS0 h sa cov (nI S.2.2.2.2.2), cS1 D sa, cK D sa kn1, cSI D sa 2 8 pf, cSI D sa 3 4 hf1, cSI D sa 4 4 yf, cR h ad iv1 tg, cBr D ad bf, bp, cSd D ad sf1] 0 0 14 [some (.ref (sa 0)), some (.int (nI p))] [] := by
    intro j
    induction j with
    | zero =>
      intro p hp kn1 hf1 iv1 sf1 hT1 hF1 hL1 hJ1
      obtain rfl : p = 4 := by omega
      refine x_iload1 B 15 dX1_pass_14 rfl ?_
      refine x_iconst B 16 (v := 4) dX1_pass_15 (by decide) rfl ?_
      refine x_icmp_ge_t B 38 dX1_pass_16 (by decide) (by (try simp only [xlit]); first | (rw [nI_leI (by omega) (by omega)]; omega) | (rw [nI_ltI (by omega) (by omega)]; omega) | (rw [nI_eq (by omega) (by omega)]; omega)) ?_
      refine x_aload0 B 39 dX1_pass_38 rfl (by first | rfl | exact xisR_rf _) ?_
      refine g_X1_40_X1 B 42 (by repeat (first | with_reducible exact xr_h | refine xr_t ?_)) dX1_pass_39 rfl ?_
      refine x_iconst B 43 (v := 3) dX1_pass_42 (by decide) rfl ?_
      refine x_irem B 44 dX1_pass_43 (by decide) rfl ?_
      rw [show nI S.2.2.2.2.2 - nI S.2.2.2.2.2 / 3 * 3 = nI (S.2.2.2.2.2 % 3) from pk_rem (by omega) (by decide) (by decide)]
      by_cases c : S.2.2.2.2.2 % 3 = 2
      · rw [c]
        refine x_iconst B 45 (v := 2) dX1_pass_44 (by decide) rfl ?_
        refine x_icmp_ne_f (tp := 52) B 48 dX1_pass_45 (by decide) rfl (by decide) ?_
        refine x_aload0 B 49 dX1_pass_48 rfl (by first | rfl | exact xisR_rf _) ?_
        refine x_callV B 52 (m_X1_lose hT1 hF1 hO4 ((hJ1 1 (by omega)).trans h1) hB) [0, 1, 2, 6, 7, 8] rfl ⟨_, _, _, (by repeat (first | with_reducible exact xr_h | refine xr_t ?_)), rfl, rfl⟩ q1364 q1366 qs30 q89 q1367 hd_X1_lose (by decide) ⟨by first | decide | omega, by first | decide | omega⟩ ⟨by first | decide | omega, by first | decide | omega⟩ rfl (Nat.le_of_ble_eq_true rfl) dX1_pass_49 rfl (fun _ _ _ h => h.elim) ?_
        rintro _ _ ⟨rfl, kn2, hT2, hF2, rfl⟩
        try simp only [xst, xput, xpre, List.set_cons_zero, List.set_cons_succ]
        exact fin kn2 hf1 iv1 sf1 _ (by rw [if_pos c]; exact hT2) hF2 hL1 hJ1
      · refine x_iconst B 45 (v := 2) dX1_pass_44 (by decide) rfl ?_
        refine x_icmp_ne_t B 52 dX1_pass_45 (by decide) (by (try simp only [xlit]); first | (rw [nI_leI (by omega) (by omega)]; omega) | (rw [nI_ltI (by omega) (by omega)]; omega) | (rw [nI_eq (by omega) (by omega)]; omega)) ?_
        exact fin kn1 hf1 iv1 sf1 _ (by rw [if_neg c]; exact hT1) hF1 hL1 hJ1
    | succ j ih =>
      intro p hp kn1 hf1 iv1 sf1 hT1 hF1 hL1 hJ1
      have hp4 : p < 4 := by omega
      have hO' := hO0.pers (kd := kd) p
      have hnil : lis = some p → (lisL lis (hPers kd nb S0 p).2) = [] := fun c => by rw [c]; exact hPers_nil p p (Nat.le_refl _)
      have e1 : hPers kd nb S0 (p + 1) = ((hPer kd nb (hPers kd nb S0 p).1 p).1, fUp (hPers kd nb S0 p).2 p (hPer kd nb (hPers kd nb S0 p).1 p).2) := rfl
      generalize hPers kd nb S0 p = r at *
      obtain ⟨S1, L1⟩ := r
      dsimp only at hT1 hL1 hO' e1 hnil
      refine x_iload1 B 15 dX1_pass_14 rfl ?_
      refine x_iconst B 16 (v := 4) dX1_pass_15 (by decide) rfl ?_
      refine x_icmp_ge_f (tp := 38) B 19 dX1_pass_16 (by decide) rfl (by (try simp only [xlit]); first | (rw [nI_leI (by omega) (by omega)]; omega) | (rw [nI_ltI (by omega) (by omega)]; omega) | (rw [nI_eq (by omega) (by omega)]; omega)) ?_
      refine x_aload0 B 20 dX1_pass_19 rfl (by first | rfl | exact xisR_rf _) ?_
      refine x_iload1 B 21 dX1_pass_20 rfl ?_
      refine x_callV B 24 (m_X1_isSilenced hT1 hO' ((hJ1 1 (by omega)).trans h1) hB p hp4) [0, 3, 6, 7, 8] rfl ⟨_, _, _, (by repeat (first | with_reducible exact xr_h | refine xr_t ?_)), rfl, rfl⟩ q1309 q1311 qs26 q89 q1312 hd_X1_isSilenced (by decide) ⟨by first | decide | omega, by first | decide | omega⟩ ⟨by first | decide | omega, by first | decide | omega⟩ rfl (Nat.le_of_ble_eq_true rfl) dX1_pass_21 rfl (fun _ _ _ h => h.elim) ?_
      rintro _ _ ⟨rfl, rfl⟩
      try simp only [xst, xput, xpre, List.set_cons_zero, List.set_cons_succ]
      cases c1 : hSil kd S1 p nb with
      | true =>
        have e2 : hPer kd nb S1 p = (S1, []) := by unfold hPer; rw [if_pos c1]
        rw [e2] at e1
        refine x_if_ne_t B 32 dX1_pass_24 (by decide) (by decide) ?_
        refine x_iinc1 B 35 dX1_pass_32 rfl (by first | exact xinc _ | rfl) ?_
        refine x_goto B 14 dX1_pass_35 (by decide) ?_
        refine ih (p + 1) (by omega) kn1 hf1 iv1 sf1 (by rw [e1]; exact hT1) hF1 ?_ hJ1
        rw [e1]
        dsimp only
        rw [lisL_up]
        by_cases c : lis = some p
        · rw [if_pos c, ← hnil c]; exact hL1
        · rw [if_neg c]; exact hL1
      | false =>
        have e2 : hPer kd nb S1 p = hSpk kd nb p S1 nb := by unfold hPer; rw [if_neg (by rw [c1]; simp)]
        rw [e2] at e1
        refine x_if_ne_f (tp := 32) B 27 dX1_pass_24 (by decide) rfl rfl ?_
        refine x_aload0 B 28 dX1_pass_27 rfl (by first | rfl | exact xisR_rf _) ?_
        refine x_iload1 B 29 dX1_pass_28 rfl ?_
        refine x_callV B 32 (m_X1_speak (sf := sf1) hT1 hF1 hO' ((hJ1 1 (by omega)).trans h1) hB p hp4 lis ((hJ1 5 (by omega)).trans h5) hls _ hL1 hnil) [0, 1, 2, 3, 6, 7, 8, 9] rfl ⟨_, _, _, (by repeat (first | with_reducible exact xr_h | refine xr_t ?_)), rfl, rfl⟩ q1352 q1354 qs27 q89 q1355 hd_X1_speak (by decide) ⟨by first | decide | omega, by first | decide | omega⟩ ⟨by first | decide | omega, by first | decide | omega⟩ rfl (Nat.le_of_ble_eq_true rfl) dX1_pass_29 rfl (fun _ _ _ h => h.elim) ?_
        rintro _ _ ⟨rfl, kn2, iv2, sf2, hT2, hF2, hL2, hJ2, rfl⟩
        try simp only [xst, xput, xpre, List.set_cons_zero, List.set_cons_succ]
        refine x_iinc1 B 35 dX1_pass_32 rfl (by first | exact xinc _ | rfl) ?_
        refine x_goto B 14 dX1_pass_35 (by decide) ?_
        refine ih (p + 1) (by omega) kn2 hf1 iv2 sf2 (by rw [e1]; exact hT2) hF2 ?_ (fun j hj => (hJ2 j hj).trans (hJ1 j hj))
        rw [e1]
        dsimp only
        rw [lisL_up]
        exact hL2
  refine x_aload0 B 1 dX1_pass_0 rfl (by first | rfl | exact xisR_rf _) ?_
  refine g_X1_3_X1 B 4 (by repeat (first | with_reducible exact xr_h | refine xr_t ?_)) dX1_pass_1 rfl ?_
  refine x_iconst B 5 (v := 0) dX1_pass_4 (by decide) rfl ?_
  refine s_X1_91_X0 B 8 (by repeat (first | with_reducible exact xu_h | apply xu_t)) dX1_pass_5 rfl ?_
  refine x_aload0 B 9 dX1_pass_8 rfl (by first | rfl | exact xisR_rf _) ?_
  refine x_callV B 12 (m_X1_inherit hT hF hO (by rw [pk_un (by omega)]; exact h2) hB) [0, 1, 2, 4, 5, 6, 7, 8] rfl ⟨_, _, _, (by repeat (first | with_reducible exact xr_h | refine xr_t ?_)), rfl, rfl⟩ q1255 q1257 qs25 q89 q1258 hd_X1_inherit (by decide) ⟨by first | decide | omega, by first | decide | omega⟩ ⟨by first | decide | omega, by first | decide | omega⟩ rfl (Nat.le_of_ble_eq_true rfl) dX1_pass_9 rfl (fun _ _ _ h => h.elim) ?_
  rintro _ _ ⟨rfl, kn1, hf1, hT1, hF1, rfl⟩
  try simp only [xst, xput, xpre, List.set_cons_zero, List.set_cons_succ]
  refine x_iconst B 13 (v := 0) dX1_pass_12 (by decide) rfl ?_
  refine x_istore1 B 14 dX1_pass_13 rfl ?_
  refine loop 4 0 rfl kn1 hf1 _ sf (by rw [hS0] at hT1; exact hT1) hF1 ?_ (fun j hj => pk_un hj)
  refine ⟨?_, ?_, ?_⟩
  · rw [pk_us]
    cases lis <;> rfl
  · cases lis <;> exact Nat.zero_le _
  · intro k v hk
    cases lis <;> cases hk
theorem m_X1_go {sf : Nat → Int32} (n : Nat) (hn : n < 1000) (hT : CRep kn pf hf yf cov ev nb nm S) (hF : CFit kn) (hO : HOk nb nm kd S) (hE : S.2.2.2.2.2 + n < 100000) (h1 : iv 1 = nI nb) (h2 : iv 2 = nI nm) (hB : BKn bf bp nb kd) (h5 : iv 5 = -1) : XC D yX1_go (ws_ yX1_go cX1_go 3 (Option.some (Jvm.ClassFile.FieldType.object "ParrotSpeech$State"))) 8 320 (0) (0) [.ref (sa 0), .int (nI n)] [cS0 h sa cov ev, cS1 D sa, cK D sa kn, cSI D sa 2 8 pf, cSI D sa 3 4 hf, cSI D sa 4 4 yf, cR h ad iv tg, cBr D ad bf, bp, cSd D ad sf] (fun r cs' => r = some (.ref (sa 0)) ∧ ∃ kn' hf' iv' sf' ev', CRep kn' pf hf' yf cov ev' nb nm (hGo kd nb nm S n) ∧ CFit kn' ∧ J4 iv iv' ∧ cs' = [cS0 h sa cov ev', cS1 D sa, cK D sa kn', cSI D sa 2 8 pf, cSI D sa 3 4 hf', cSI D sa 4 4 yf, cR h ad iv' tg, cBr D ad bf, bp, cSd D ad sf']) x0 := by
  refine XC.of (by decide) (by simp [Value.category]) (Nat.le_of_ble_eq_true rfl) fun X B => ?_
  show WX D X [cS0 h sa cov ev, cS1 D sa, cK D sa kn, cSI D sa 2 8 pf, cSI D sa 3 4 hf, cSI D sa 4 4 yf, cR h ad iv tg, cBr D ad bf, bp, cSd D ad sf] 0 0 0 [some (.ref (sa 0)), some (.int (nI n)), none] []
  have loop : ∀ (j i : Nat), i + j = n → ∀ kn1 hf1 iv1 sf1 ev1, CRep kn1 pf hf1 yf cov ev1 nb nm (hGo kd nb nm S i) → CFit kn1 → J4 iv iv1 → WX D X [cS0 h sa cov ev1, cS1 D sa, cK D sa kn1, cSI D sa 2 8 pf, cSI D sa 3 4 hf1, cSI D sa 4 4 yf, cR h ad iv1 tg, cBr D ad bf, bp, cSd D ad sf1] 0 0 2 [some (.ref (sa 0)), some (.int (nI n)), some (.int (nI i))] [] := by
    intro j
    induction j with
    | zero =>
      intro i hi kn1 hf1 iv1 sf1 ev1 hT1 hF1 hJ1
      obtain rfl : i = n := by omega
      refine x_iload2 B 3 dX1_go_2 rfl ?_
      refine x_iload1 B 4 dX1_go_3 rfl ?_
      refine x_icmp_ge_t B 18 dX1_go_4 (by decide) (by (try simp only [xlit]); first | (rw [nI_leI (by omega) (by omega)]; omega) | (rw [nI_ltI (by omega) (by omega)]; omega) | (rw [nI_eq (by omega) (by omega)]; omega)) ?_
      refine x_aload0 B 19 dX1_go_18 rfl (by first | rfl | exact xisR_rf _) ?_
      exact x_aret B rfl rfl (by first | rfl | exact xisR_rf _) ⟨rfl, kn1, hf1, iv1, sf1, ev1, hT1, hF1, hJ1, rfl⟩ dX1_go_19 ⟨by first | omega | decide, by first | omega | decide⟩
    | succ j ih =>
      intro i hi kn1 hf1 iv1 sf1 ev1 hT1 hF1 hJ1
      refine x_iload2 B 3 dX1_go_2 rfl ?_
      refine x_iload1 B 4 dX1_go_3 rfl ?_
      refine x_icmp_ge_f (tp := 18) B 7 dX1_go_4 (by decide) rfl (by (try simp only [xlit]); first | (rw [nI_leI (by omega) (by omega)]; omega) | (rw [nI_ltI (by omega) (by omega)]; omega) | (rw [nI_eq (by omega) (by omega)]; omega)) ?_
      refine x_aload0 B 8 dX1_go_7 rfl (by first | rfl | exact xisR_rf _) ?_
      refine x_callV B 11 (m_X1_pass (sf := sf1) hT1 hF1 (hO.go i (by omega)) ((hJ1 1 (by omega)).trans h1) ((hJ1 2 (by omega)).trans h2) hB none ((hJ1 5 (by omega)).trans h5) (fun z e => by cases e)) [0, 1, 2, 3, 4, 5, 6, 7, 8, 9] rfl ⟨_, _, _, (by repeat (first | with_reducible exact xr_h | refine xr_t ?_)), rfl, rfl⟩ q1251 q1252 q1253 q89 q1254 hd_X1_pass (by decide) ⟨by first | decide | omega, by first | decide | omega⟩ ⟨by first | decide | omega, by first | decide | omega⟩ rfl (Nat.le_of_ble_eq_true rfl) dX1_go_8 rfl (fun _ _ _ h => h.elim) ?_
      rintro _ _ ⟨rfl, kn2, hf2, iv2, sf2, ev2, hT2, hF2, -, hJ2, rfl⟩
      try simp only [xst, xput, xpre, List.set_cons_zero, List.set_cons_succ]
      refine x_pop B 12 dX1_go_11 rfl rfl ?_
      refine x_iinc2 B 15 dX1_go_12 rfl (by first | exact xinc _ | rfl) ?_
      refine x_goto B 2 dX1_go_15 (by decide) ?_
      exact ih (i + 1) (by omega) kn2 hf2 iv2 sf2 ev2 hT2 hF2 (fun j hj => (hJ2 j hj).trans (hJ1 j hj))
  refine x_iconst B 1 (v := 0) dX1_go_0 (by decide) rfl ?_
  refine x_istore2 B 2 dX1_go_1 rfl ?_
  exact loop n 0 (by omega) kn hf iv sf ev hT hF (fun j hj => rfl)
end C11
