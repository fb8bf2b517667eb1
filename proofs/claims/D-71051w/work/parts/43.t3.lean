/-! the twin, 3: an evening, on -/
section T3
variable {D : xG} {h : Nat} {ad : Nat → Nat} {iv row : Nat → Int32} {base nb nm : Nat} {kd : Nat → Nat} {S : HS} {sw sm : Nat → Int32}
theorem ne_m1 {b : Nat} (hb : b < 2147483648) : ¬ nI b = -1 := by intro z; have := nI_toInt (n := b) (by omega); rw [z] at this; rw [show ((-1 : Int32)).toInt = -1 from by decide] at this; omega
theorem m_X2_isSilent (hT : TRep row base nb nm kd S) (hO : HOk nb nm kd S) (hB : base + 108 ≤ 1404) (p : Nat) (hp : p < 100) : XC D yX2_isSilent (ws_ yX2_isSilent cX2_isSilent 5 (Option.some Jvm.ClassFile.FieldType.boolean)) 2 80 (0) (0) [.ref h, .int (nI base), .int (nI p)] [tR D h ad iv, tI D ad 0 1404 row] (fun r cs' => r = some (.int (bI (hSil kd S p nb))) ∧ cs' = [tR D h ad iv, tI D ad 0 1404 row]) x0 := by
  refine XC.of (by decide) (by simp [Value.category]) (Nat.le_of_ble_eq_true rfl) fun X B => ?_
  show WX D X [tR D h ad iv, tI D ad 0 1404 row] 0 0 0 [some (.ref h), some (.int (nI base)), some (.int (nI p)), none, none] []
  have hnb := hO.1
  have hC : S.2.2.2.2.1 < 256 := Nat.lt_of_lt_of_le hO.2.2.2.2.2.2.2.2.1 (pow_nb hnb)
  have loop : ∀ (k b : Nat), b + k = nb → WX D X [tR D h ad iv, tI D ad 0 1404 row] 0 0 5 [some (.ref h), some (.int (nI base)), some (.int (nI p)), some (.int (bI (hSil kd S p b))), some (.int (nI b))] [] := by
    intro k
    induction k with
    | zero =>
      intro b hb
      obtain rfl : b = nb := by omega
      refine x_iload4 B 7 dX2_isSilent_5 rfl ?_
      refine x_aload0 B 8 dX2_isSilent_7 rfl (by first | rfl | exact xisR_rf _) ?_
      refine g_X2_7_X2 B 11 (by repeat (first | with_reducible exact xr_h | refine xr_t ?_)) dX2_isSilent_8 rfl ?_
      refine x_iload1 B 12 dX2_isSilent_11 rfl ?_
      refine x_iconst B 13 (v := 0) dX2_isSilent_12 (by decide) rfl ?_
      refine x_iadd B 14 dX2_isSilent_13 rfl ?_
      refine x_ialdv B 15 (by repeat (first | with_reducible exact xr_h | refine xr_t ?_)) (j := base + 0) (by first | (simp only [xlit, nI_add, pk_mul]; done) | rfl | (simp only [xlit, nI_add, pk_mul]; congr 1; omega)) ⟨by first | omega | decide, by first | decide | omega⟩ hT.1 dX2_isSilent_14 rfl ?_
      refine x_icmp_ge_t B 75 dX2_isSilent_15 (by decide) (by (try simp only [xlit]); first | (rw [nI_leI (by omega) (by omega)]; omega) | (rw [nI_ltI (by omega) (by omega)]; omega) | (rw [nI_eq (by omega) (by omega)]; omega)) ?_
      refine x_iload3 B 76 dX2_isSilent_75 rfl ?_
      exact x_zret B rfl ⟨rfl, rfl⟩  dX2_isSilent_76 ⟨by first | omega | decide, by first | omega | decide⟩ (bI01 _)
    | succ k ih =>
      intro b hb
      have hb' : b < nb := by omega
      have hP := hO.2.2.2.2.1 b hb'
      have hk := hO.2.2.1 b hb'
      have e1 : hSil kd S p (b + 1) = (hSil kd S p b || (hUp S b p && decide (kd b = 3))) := rfl
      have j1 : bI (hSil kd S p (b + 1)) = 1 → WX D X [tR D h ad iv, tI D ad 0 1404 row] 0 0 63 [some (.ref h), some (.int (nI base)), some (.int (nI p)), some (.int (bI (hSil kd S p b))), some (.int (nI b))] [] := by
        intro e
        refine x_iconst B 64 (v := 1) dX2_isSilent_63 (by decide) rfl ?_
        refine x_goto B 68 dX2_isSilent_64 (by decide) ?_
        refine x_istore3 B 69 dX2_isSilent_68 rfl ?_
        refine x_iinc4 B 72 dX2_isSilent_69 rfl (by first | exact xinc _ | rfl) ?_
        refine x_goto B 5 dX2_isSilent_72 (by decide) ?_
        rw [← e]
        exact ih (b + 1) (by omega)
      have j0 : bI (hSil kd S p (b + 1)) = 0 → WX D X [tR D h ad iv, tI D ad 0 1404 row] 0 0 67 [some (.ref h), some (.int (nI base)), some (.int (nI p)), some (.int (bI (hSil kd S p b))), some (.int (nI b))] [] := by
        intro e
        refine x_iconst B 68 (v := 0) dX2_isSilent_67 (by decide) rfl ?_
        refine x_istore3 B 69 dX2_isSilent_68 rfl ?_
        refine x_iinc4 B 72 dX2_isSilent_69 rfl (by first | exact xinc _ | rfl) ?_
        refine x_goto B 5 dX2_isSilent_72 (by decide) ?_
        rw [← e]
        exact ih (b + 1) (by omega)
      refine x_iload4 B 7 dX2_isSilent_5 rfl ?_
      refine x_aload0 B 8 dX2_isSilent_7 rfl (by first | rfl | exact xisR_rf _) ?_
      refine g_X2_7_X2 B 11 (by repeat (first | with_reducible exact xr_h | refine xr_t ?_)) dX2_isSilent_8 rfl ?_
      refine x_iload1 B 12 dX2_isSilent_11 rfl ?_
      refine x_iconst B 13 (v := 0) dX2_isSilent_12 (by decide) rfl ?_
      refine x_iadd B 14 dX2_isSilent_13 rfl ?_
      refine x_ialdv B 15 (by repeat (first | with_reducible exact xr_h | refine xr_t ?_)) (j := base + 0) (by first | (simp only [xlit, nI_add, pk_mul]; done) | rfl | (simp only [xlit, nI_add, pk_mul]; congr 1; omega)) ⟨by first | omega | decide, by first | decide | omega⟩ hT.1 dX2_isSilent_14 rfl ?_
      refine x_icmp_ge_f (tp := 75) B 18 dX2_isSilent_15 (by decide) rfl (by (try simp only [xlit]); first | (rw [nI_leI (by omega) (by omega)]; omega) | (rw [nI_ltI (by omega) (by omega)]; omega) | (rw [nI_eq (by omega) (by omega)]; omega)) ?_
      refine x_iload3 B 19 dX2_isSilent_18 rfl ?_
      by_cases c0 : hSil kd S p b = true
      · refine x_if_ne_t B 63 dX2_isSilent_19 (by decide) (by rw [c0]; decide) ?_
        exact j1 (by rw [e1, c0]; rfl)
      · refine x_if_ne_f (tp := 63) B 22 dX2_isSilent_19 (by decide) rfl (by simp [bI, c0]) ?_
        rw [Bool.not_eq_true] at c0
        refine x_aload0 B 23 dX2_isSilent_22 rfl (by first | rfl | exact xisR_rf _) ?_
        refine g_X2_7_X2 B 26 (by repeat (first | with_reducible exact xr_h | refine xr_t ?_)) dX2_isSilent_23 rfl ?_
        refine x_iload1 B 27 dX2_isSilent_26 rfl ?_
        refine x_bipush B 29 (v := 12) dX2_isSilent_27 (by decide) rfl ?_
        refine x_iadd B 30 dX2_isSilent_29 rfl ?_
        refine x_iload4 B 32 dX2_isSilent_30 rfl ?_
        refine x_iadd B 33 dX2_isSilent_32 rfl ?_
        refine x_ialdv B 34 (by repeat (first | with_reducible exact xr_h | refine xr_t ?_)) (j := base + 12 + b) (by first | (simp only [xlit, nI_add, pk_mul]; done) | rfl | (simp only [xlit, nI_add, pk_mul]; congr 1; omega)) ⟨by first | omega | decide, by first | decide | omega⟩ (hT.2.2.2.2.2.1 b hb') dX2_isSilent_33 rfl ?_
        refine x_iload2 B 35 dX2_isSilent_34 rfl ?_
        by_cases c1 : S.2.1 b = p
        · refine x_icmp_ne_f (tp := 67) B 38 dX2_isSilent_35 (by decide) rfl (by (try simp only [xlit]); first | (rw [nI_leI (by omega) (by omega)]; omega) | (rw [nI_ltI (by omega) (by omega)]; omega) | (rw [nI_eq (by omega) (by omega)]; omega)) ?_
          refine x_aload0 B 39 dX2_isSilent_38 rfl (by first | rfl | exact xisR_rf _) ?_
          refine g_X2_7_X2 B 42 (by repeat (first | with_reducible exact xr_h | refine xr_t ?_)) dX2_isSilent_39 rfl ?_
          refine x_iload1 B 43 dX2_isSilent_42 rfl ?_
          refine x_iconst B 44 (v := 4) dX2_isSilent_43 (by decide) rfl ?_
          refine x_iadd B 45 dX2_isSilent_44 rfl ?_
          refine x_iload4 B 47 dX2_isSilent_45 rfl ?_
          refine x_iadd B 48 dX2_isSilent_47 rfl ?_
          refine x_ialdv B 49 (by repeat (first | with_reducible exact xr_h | refine xr_t ?_)) (j := base + 4 + b) (by first | (simp only [xlit, nI_add, pk_mul]; done) | rfl | (simp only [xlit, nI_add, pk_mul]; congr 1; omega)) ⟨by first | omega | decide, by first | decide | omega⟩ (hT.2.2.2.2.1 b hb') dX2_isSilent_48 rfl ?_
          refine x_iconst B 50 (v := 3) dX2_isSilent_49 (by decide) rfl ?_
          by_cases c2 : kd b = 3
          · refine x_icmp_ne_f (tp := 67) B 53 dX2_isSilent_50 (by decide) rfl (by (try simp only [xlit]); first | (rw [nI_leI (by omega) (by omega)]; omega) | (rw [nI_ltI (by omega) (by omega)]; omega) | (rw [nI_eq (by omega) (by omega)]; omega)) ?_
            refine x_aload0 B 54 dX2_isSilent_53 rfl (by first | rfl | exact xisR_rf _) ?_
            refine x_iload1 B 55 dX2_isSilent_54 rfl ?_
            refine x_iload4 B 57 dX2_isSilent_55 rfl ?_
            refine x_callV B 60 (m_X2_isOpen base b S.2.2.2.2.1 (by omega) hT.2.2.2.1 (by omega) (by omega)) [0, 1] rfl ⟨_, _, _, (by repeat (first | with_reducible exact xr_h | refine xr_t ?_)), rfl, rfl⟩ q2027 q2029 qs65 q92 q2030 hd_X2_isOpen (by decide) ⟨by first | decide | omega, by first | decide | omega⟩ ⟨by first | decide | omega, by first | decide | omega⟩ rfl (Nat.le_of_ble_eq_true rfl) dX2_isSilent_57 rfl (fun _ _ _ h => h.elim) ?_
            rintro _ _ ⟨rfl, rfl⟩
            simp only [xst, xput, xpre, List.set_cons_zero, List.set_cons_succ]
            by_cases c3 : S.2.2.2.2.1.testBit b = true
            · rw [if_pos c3]
              refine x_if_eq_t B 67 dX2_isSilent_60 (by decide) rfl ?_
              exact j0 (by rw [e1, c0]; simp [hUp, c3, bI])
            · rw [if_neg c3]
              refine x_if_eq_f (tp := 67) B 63 dX2_isSilent_60 (by decide) rfl (by decide) ?_
              exact j1 (by rw [e1, c0]; simp [hUp, c3, bI, c1, c2])
          · refine x_icmp_ne_t B 67 dX2_isSilent_50 (by decide) (by (try simp only [xlit]); first | (rw [nI_leI (by omega) (by omega)]; omega) | (rw [nI_ltI (by omega) (by omega)]; omega) | (rw [nI_eq (by omega) (by omega)]; omega)) ?_
            exact j0 (by rw [e1, c0]; simp [c2, bI])
        · refine x_icmp_ne_t B 67 dX2_isSilent_35 (by decide) (by (try simp only [xlit]); first | (rw [nI_leI (by omega) (by omega)]; omega) | (rw [nI_ltI (by omega) (by omega)]; omega) | (rw [nI_eq (by omega) (by omega)]; omega)) ?_
          exact j0 (by rw [e1, c0]; simp [hUp, c1, bI])
  refine x_iconst B 1 (v := 0) dX2_isSilent_0 (by decide) rfl ?_
  refine x_istore3 B 2 dX2_isSilent_1 rfl ?_
  refine x_iconst B 3 (v := 0) dX2_isSilent_2 (by decide) rfl ?_
  refine x_istore4 B 5 dX2_isSilent_3 rfl ?_
  exact loop nb 0 (by omega)
theorem m_X2_bestWord (hT : TRep row base nb nm kd S) (hO : HOk nb nm kd S) (hB : base + 108 ≤ 1404) (b but : Nat) (hb : b < nb) (hbut : but < 1024) : XC D yX2_bestWord (ws_ yX2_bestWord cX2_bestWord 8 (Option.some Jvm.ClassFile.FieldType.int)) 1 40 (0) (0) [.ref h, .int (nI base), .int (nI b), .int (nI but)] [tR D h ad iv, tI D ad 0 1404 row] (fun r cs' => r = some (.int (oI (hBest (S.1 b) but 10))) ∧ cs' = [tR D h ad iv, tI D ad 0 1404 row]) x0 := by
  refine XC.of (by decide) (by simp [Value.category]) (Nat.le_of_ble_eq_true rfl) fun X B => ?_
  show WX D X [tR D h ad iv, tI D ad 0 1404 row] 0 0 0 [some (.ref h), some (.int (nI base)), some (.int (nI b)), some (.int (nI but)), none, none, none, none] []
  have hnb := hO.1
  have hK := hO.2.2.2.1 b
  have loop : ∀ (k w : Nat), w + k = 10 → WX D X [tR D h ad iv, tI D ad 0 1404 row] 0 0 9 [some (.ref h), some (.int (nI base)), some (.int (nI b)), some (.int (nI but)), some (.int (oI (hBest (S.1 b) but w))), some (.int (nI (hMost (S.1 b) but w))), some (.int (nI w)), none] [] := by
    intro k
    induction k with
    | zero =>
      intro w hw
      obtain rfl : w = 10 := by omega
      refine x_iload6 B 11 dX2_bestWord_9 rfl ?_
      refine x_bipush B 13 (v := 10) dX2_bestWord_11 (by decide) rfl ?_
      refine x_icmp_ge_t B 86 dX2_bestWord_13 (by decide) (by (try simp only [xlit]); first | (rw [nI_leI (by omega) (by omega)]; omega) | (rw [nI_ltI (by omega) (by omega)]; omega) | (rw [nI_eq (by omega) (by omega)]; omega)) ?_
      refine x_iload4 B 88 dX2_bestWord_86 rfl ?_
      exact x_iret B rfl ⟨rfl, rfl⟩ dX2_bestWord_88 ⟨by first | omega | decide, by first | omega | decide⟩
    | succ k ih =>
      intro w hw
      have hw' : w < 10 := by omega
      have hm := hMost_le (k := S.1 b) (but := but) (w := w) (fun w h => hK w hb h) (by omega)
      have hkw := hK w hb hw'
      obtain ⟨s1, s2⟩ := hBest_step (k := S.1 b) (but := but) (w := w)
      have join : ∀ y, y = (if but.testBit w = true then 0 else S.1 b w) → WX D X [tR D h ad iv, tI D ad 0 1404 row] 0 0 46 [some (.ref h), some (.int (nI base)), some (.int (nI b)), some (.int (nI but)), some (.int (oI (hBest (S.1 b) but w))), some (.int (nI (hMost (S.1 b) but w))), some (.int (nI w)), none] [.int (nI y)] := by
        intro y hy
        rw [← hy] at s1 s2
        have hy9 : y ≤ 9 := by rw [hy]; split <;> omega
        refine x_istore7 B 48 dX2_bestWord_46 rfl ?_
        refine x_iload7 B 50 dX2_bestWord_48 rfl ?_
        refine x_iload5 B 52 dX2_bestWord_50 rfl ?_
        by_cases c : hMost (S.1 b) but w < y
        · have ey : y = S.1 b w := by rw [hy] at c ⊢; split at c <;> rename_i q <;> simp [q] at c ⊢
          rw [if_pos c] at s1 s2
          refine x_icmp_le_f (tp := 60) B 55 dX2_bestWord_52 (by decide) rfl (by (try simp only [xlit]); first | (rw [nI_leI (by omega) (by omega)]; omega) | (rw [nI_ltI (by omega) (by omega)]; omega) | (rw [nI_eq (by omega) (by omega)]; omega)) ?_
          refine x_iload6 B 57 dX2_bestWord_55 rfl ?_
          refine x_goto B 62 dX2_bestWord_57 (by decide) ?_
          refine x_istore4 B 64 dX2_bestWord_62 rfl ?_
          refine x_iload7 B 66 dX2_bestWord_64 rfl ?_
          refine x_iload5 B 68 dX2_bestWord_66 rfl ?_
          refine x_icmp_le_f (tp := 76) B 71 dX2_bestWord_68 (by decide) rfl (by (try simp only [xlit]); first | (rw [nI_leI (by omega) (by omega)]; omega) | (rw [nI_ltI (by omega) (by omega)]; omega) | (rw [nI_eq (by omega) (by omega)]; omega)) ?_
          refine x_iload7 B 73 dX2_bestWord_71 rfl ?_
          refine x_goto B 78 dX2_bestWord_73 (by decide) ?_
          refine x_istore5 B 80 dX2_bestWord_78 rfl ?_
          refine x_iinc6 B 83 dX2_bestWord_80 rfl (by first | exact xinc _ | rfl) ?_
          refine x_goto B 9 dX2_bestWord_83 (by decide) ?_
          rw [show nI w = oI (hBest (S.1 b) but (w + 1)) by rw [s1]; rfl, show nI y = nI (hMost (S.1 b) but (w + 1)) by rw [s2, ey]]
          exact x_fg (by repeat (first | exact xfg_nil | apply xfg_same | apply xfg_none)) (ih (w + 1) (by omega))
        · rw [if_neg c] at s1 s2
          refine x_icmp_le_t B 60 dX2_bestWord_52 (by decide) (by (try simp only [xlit]); first | (rw [nI_leI (by omega) (by omega)]; omega) | (rw [nI_ltI (by omega) (by omega)]; omega) | (rw [nI_eq (by omega) (by omega)]; omega)) ?_
          refine x_iload4 B 62 dX2_bestWord_60 rfl ?_
          refine x_istore4 B 64 dX2_bestWord_62 rfl ?_
          refine x_iload7 B 66 dX2_bestWord_64 rfl ?_
          refine x_iload5 B 68 dX2_bestWord_66 rfl ?_
          refine x_icmp_le_t B 76 dX2_bestWord_68 (by decide) (by (try simp only [xlit]); first | (rw [nI_leI (by omega) (by omega)]; omega) | (rw [nI_ltI (by omega) (by omega)]; omega) | (rw [nI_eq (by omega) (by omega)]; omega)) ?_
          refine x_iload5 B 78 dX2_bestWord_76 rfl ?_
          refine x_istore5 B 80 dX2_bestWord_78 rfl ?_
          refine x_iinc6 B 83 dX2_bestWord_80 rfl (by first | exact xinc _ | rfl) ?_
          refine x_goto B 9 dX2_bestWord_83 (by decide) ?_
          rw [← s1, ← s2]
          exact x_fg (by repeat (first | exact xfg_nil | apply xfg_same | apply xfg_none)) (ih (w + 1) (by omega))
      refine x_iload6 B 11 dX2_bestWord_9 rfl ?_
      refine x_bipush B 13 (v := 10) dX2_bestWord_11 (by decide) rfl ?_
      refine x_icmp_ge_f (tp := 86) B 16 dX2_bestWord_13 (by decide) rfl (by (try simp only [xlit]); first | (rw [nI_leI (by omega) (by omega)]; omega) | (rw [nI_ltI (by omega) (by omega)]; omega) | (rw [nI_eq (by omega) (by omega)]; omega)) ?_
      refine x_iload3 B 17 dX2_bestWord_16 rfl ?_
      refine x_iload6 B 19 dX2_bestWord_17 rfl ?_
      refine x_callS B 22 (m_X2_has _ _) [] rfl q1938 q1939 q92 q1940 hd_X2_has rfl ⟨by first | decide | omega, by first | decide | omega⟩ ⟨by first | decide | omega, by first | decide | omega⟩ rfl (Nat.le_of_ble_eq_true rfl) dX2_bestWord_19 rfl (fun _ _ _ h => h.elim) ?_
      rintro _ _ ⟨rfl, rfl⟩
      simp only [xst, xput, xpre]
      rw [xhas_bit (by omega) (by omega)]
      by_cases c : but.testBit w = true
      · rw [if_pos c]
        refine x_if_eq_f (tp := 29) B 25 dX2_bestWord_22 (by decide) rfl (by decide) ?_
        refine x_iconst B 26 (v := 0) dX2_bestWord_25 (by decide) rfl ?_
        refine x_goto B 46 dX2_bestWord_26 (by decide) ?_
        exact join 0 (by rw [if_pos c])
      · rw [if_neg c]
        refine x_if_eq_t B 29 dX2_bestWord_22 (by decide) rfl ?_
        refine x_aload0 B 30 dX2_bestWord_29 rfl (by first | rfl | exact xisR_rf _) ?_
        refine g_X2_7_X2 B 33 (by repeat (first | with_reducible exact xr_h | refine xr_t ?_)) dX2_bestWord_30 rfl ?_
        refine x_iload1 B 34 dX2_bestWord_33 rfl ?_
        refine x_bipush B 36 (v := 20) dX2_bestWord_34 (by decide) rfl ?_
        refine x_iadd B 37 dX2_bestWord_36 rfl ?_
        refine x_bipush B 39 (v := 10) dX2_bestWord_37 (by decide) rfl ?_
        refine x_iload2 B 40 dX2_bestWord_39 rfl ?_
        refine x_imul B 41 dX2_bestWord_40 rfl ?_
        refine x_iadd B 42 dX2_bestWord_41 rfl ?_
        refine x_iload6 B 44 dX2_bestWord_42 rfl ?_
        refine x_iadd B 45 dX2_bestWord_44 rfl ?_
        refine x_ialdv B 46 (by repeat (first | with_reducible exact xr_h | refine xr_t ?_)) (j := base + 20 + 10 * b + w) (by first | (simp only [xlit, nI_add, pk_mul]; done) | rfl | (simp only [xlit, nI_add, pk_mul]; congr 1; omega)) ⟨by first | omega | decide, by first | decide | omega⟩ (hT.2.2.2.2.2.2.1 b w hb hw') dX2_bestWord_45 rfl ?_
        exact join _ (by rw [if_neg c])
  refine x_iconst B 1 (v := (-1)) dX2_bestWord_0 (by decide) rfl ?_
  refine x_istore4 B 3 dX2_bestWord_1 rfl ?_
  refine x_iconst B 4 (v := 0) dX2_bestWord_3 (by decide) rfl ?_
  refine x_istore5 B 6 dX2_bestWord_4 rfl ?_
  refine x_iconst B 7 (v := 0) dX2_bestWord_6 (by decide) rfl ?_
  refine x_istore6 B 9 dX2_bestWord_7 rfl ?_
  exact loop 10 0 rfl
end T3
