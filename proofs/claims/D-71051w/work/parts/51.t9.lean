/-! the twin, 9: clean, odds, seen, kinds, counts -/
section T9
variable {D : xG} {h : Nat} {ad : Nat → Nat} {iv row zk tx : Nat → Int32} {base nb nm : Nat} {kd : Nat → Nat} {S N : HS} {sw sm : Nat → Int32} {U : List HS} {Kp : HKp} {sp sl sq rz rs rp : Nat → Int32} {L : HSe} {R : HR} {T : List Nat}
theorem HOk.orC {C v nb b : Nat} (h : C < 2 ^ nb) (hv : v < 2 ^ nb) : C ||| v < 2 ^ nb := Nat.or_lt_two_pow h hv
theorem m_X2_clean (hW : TW row iv nb nm kd N U) (b w n : Int32) : XC D yX2_clean (ws_ yX2_clean cX2_clean 7 (Option.some Jvm.ClassFile.FieldType.int)) 6 240 (0) (0) [.ref h, .int b, .int w, .int n] [tR D h ad iv, tI D ad 0 1404 row, tI D ad 36 64 sw, tI D ad 37 4 sm] (fun r cs' => r = some (.int (sClean nb nm kd N b w n)) ∧ ∃ row' sw' sm', TS 1296 1404 row row' ∧ cs' = [tR D h ad iv, tI D ad 0 1404 row', tI D ad 36 64 sw', tI D ad 37 4 sm']) x0 := by
  refine XC.of (by decide) (by simp [Value.category]) (Nat.le_of_ble_eq_true rfl) fun X B => ?_
  show WX D X [tR D h ad iv, tI D ad 0 1404 row, tI D ad 36 64 sw, tI D ad 37 4 sm] 0 0 0 [some (.ref h), some (.int b), some (.int w), some (.int n), none, none, none] []
  have hT := hW.1
  have hO := hW.2.1.1
  have hE := hW.2.1.2
  have hnb := hO.1
  have hnm := hO.2.1
  have h256 := pow_nb hnb
  have hC0 : N.2.2.2.2.1 < 2 ^ nb := hO.2.2.2.2.2.2.2.2.1
  refine x_aload0 B 1 dX2_clean_0 rfl (by first | rfl | exact xisR_rf _) ?_
  refine x_iload1 B 2 dX2_clean_1 rfl ?_
  refine x_callV B 5 (m_isBird b hT.1 hnb) [0, 1] rfl ⟨_, _, _, (by repeat (first | with_reducible exact xr_h | refine xr_t ?_)), rfl, rfl⟩ q1974 q1976 qs57 q92 q1977 hd_X2_isBird (by decide) ⟨by first | decide | omega, by first | decide | omega⟩ ⟨by first | decide | omega, by first | decide | omega⟩ rfl (Nat.le_of_ble_eq_true rfl) dX2_clean_2 rfl (fun _ _ _ h => h.elim) ?_
  rintro _ _ ⟨rfl, rfl⟩
  try simp only [xst, xput, xpre, List.set_cons_zero, List.set_cons_succ]
  rcases toR_c b 0 nb (by omega) with ⟨e, e'⟩ | ⟨j, -, hj, rfl, e, e'⟩
  · rw [e']
    refine x_if_eq_t B 15 dX2_clean_5 (by decide) rfl ?_
    refine x_bipush B 17 (v := (-2)) dX2_clean_15 (by decide) rfl ?_
    exact x_iret B rfl ⟨by simp only [sClean, e], row, sw, sm, TS.rf, rfl⟩ dX2_clean_17 ⟨by first | omega | decide, by first | omega | decide⟩
  rw [e']
  refine x_if_eq_f (tp := 15) B 8 dX2_clean_5 (by decide) rfl (by decide) ?_
  refine x_iload2 B 9 dX2_clean_8 rfl ?_
  refine x_callS B 12 (m_isWordNumber w) [] rfl q2006 q2007 q92 q2008 hd_X2_isWordNumber rfl ⟨by first | decide | omega, by first | decide | omega⟩ ⟨by first | decide | omega, by first | decide | omega⟩ rfl (Nat.le_of_ble_eq_true rfl) dX2_clean_9 rfl (fun _ _ _ h => h.elim) ?_
  rintro _ _ ⟨rfl, rfl⟩
  try simp only [xst, xput, xpre, List.set_cons_zero, List.set_cons_succ]
  rcases toR_c w 0 10 (by omega) with ⟨e2, e2'⟩ | ⟨q, -, hq, rfl, e2, e2'⟩
  · rw [e2']
    refine x_if_ne_f (tp := 18) B 15 dX2_clean_12 (by decide) rfl rfl ?_
    refine x_bipush B 17 (v := (-2)) dX2_clean_15 (by decide) rfl ?_
    exact x_iret B rfl ⟨by simp only [sClean, e, e2], row, sw, sm, TS.rf, rfl⟩ dX2_clean_17 ⟨by first | omega | decide, by first | omega | decide⟩
  rw [e2']
  refine x_if_ne_t B 18 dX2_clean_12 (by decide) (by decide) ?_
  refine x_iload3 B 19 dX2_clean_18 rfl ?_
  refine x_i2l B 20 dX2_clean_19 rfl ?_
  refine x_lconst B 21 (v := 1) dX2_clean_20 (by decide) rfl ?_
  refine x_ldc2 B 24 dX2_clean_21 q2128 rfl ?_
  refine x_callS B 27 (m_X2_in _ _ _) [] rfl q1869 q1870 q92 q1871 hd_X2_in rfl ⟨by first | decide | omega, by first | decide | omega⟩ ⟨by first | decide | omega, by first | decide | omega⟩ rfl (Nat.le_of_ble_eq_true rfl) dX2_clean_24 rfl (fun _ _ _ h => h.elim) ?_
  rintro _ _ ⟨rfl, rfl⟩
  try simp only [xst, xput, xpre, List.set_cons_zero, List.set_cons_succ]
  rw [show x_in n.toInt64 1 20 = bI (toR n 1 21).isSome from xinR n 1 20 rfl rfl (by decide) (by decide)]
  rcases toR_c n 1 21 (by omega) with ⟨e3, e3'⟩ | ⟨n, hn0, hn, rfl, e3, e3'⟩
  · rw [e3']
    refine x_if_ne_f (tp := 33) B 30 dX2_clean_27 (by decide) rfl rfl ?_
    refine x_bipush B 32 (v := (-3)) dX2_clean_30 (by decide) rfl ?_
    exact x_iret B rfl ⟨by simp only [sClean, e, e2, e3], row, sw, sm, TS.rf, rfl⟩ dX2_clean_32 ⟨by first | omega | decide, by first | omega | decide⟩
  rw [e3']
  refine x_if_ne_t B 33 dX2_clean_27 (by decide) (by decide) ?_
  have hs : sClean nb nm kd N (nI j) (nI q) (nI n) = oI (hClean kd nb nm N j q n (2 ^ nb)) := by simp only [sClean, e, e2, e3]
  rw [hs] at B
  have hpj : 2 ^ j < 2 ^ nb := Nat.pow_lt_pow_right (by decide) hj
  have hnv := HOk.orC (b := 0) hC0 hpj
  refine x_iconst B 34 (v := (-1)) dX2_clean_33 (by decide) rfl ?_
  refine x_istore4 B 36 dX2_clean_34 rfl ?_
  refine x_aload0 B 37 dX2_clean_36 rfl (by first | rfl | exact xisR_rf _) ?_
  refine g_X2_7_X2 B 40 (by repeat (first | with_reducible exact xr_h | refine xr_t ?_)) dX2_clean_37 rfl ?_
  refine x_iconst B 41 (v := 3) dX2_clean_40 (by decide) rfl ?_
  refine x_ialdv B 42 (by repeat (first | with_reducible exact xr_h | refine xr_t ?_)) rfl ⟨by first | omega | decide, by first | decide | omega⟩ hT.2.2.2.1 dX2_clean_41 rfl ?_
  refine x_iconst B 43 (v := 1) dX2_clean_42 (by decide) rfl ?_
  refine x_iload1 B 44 dX2_clean_43 rfl ?_
  refine x_ishl B 45 dX2_clean_44 rfl ?_
  rw [xshl1 (by omega)]
  refine x_ior B 46 dX2_clean_45 rfl ?_
  rw [show nI N.2.2.2.2.1 ||| nI (2 ^ j) = nI (N.2.2.2.2.1 ||| 2 ^ j) from xor_nI _ _]
  have loop : ∀ (m s : Nat), s + m = 2 ^ nb → ∀ row' sw' sm', TRep row' 0 nb nm kd N → TS 1296 1404 row row' → WX D X [tR D h ad iv, tI D ad 0 1404 row', tI D ad 36 64 sw', tI D ad 37 4 sm'] 0 0 51 [some (.ref h), some (.int (nI j)), some (.int (nI q)), some (.int (nI n)), some (.int (oI (hClean kd nb nm N j q n s))), some (.int (nI (N.2.2.2.2.1 ||| 2 ^ j))), some (.int (nI s))] [] := by
    intro m
    induction m with
    | zero =>
      intro s hs' row' sw' sm' h1 h2
      obtain rfl : s = 2 ^ nb := by omega
      refine x_iload6 B 53 dX2_clean_51 rfl ?_
      refine x_iconst B 54 (v := 1) dX2_clean_53 (by decide) rfl ?_
      refine x_aload0 B 55 dX2_clean_54 rfl (by first | rfl | exact xisR_rf _) ?_
      refine g_X2_7_X2 B 58 (by repeat (first | with_reducible exact xr_h | refine xr_t ?_)) dX2_clean_55 rfl ?_
      refine x_iconst B 59 (v := 0) dX2_clean_58 (by decide) rfl ?_
      refine x_ialdv B 60 (by repeat (first | with_reducible exact xr_h | refine xr_t ?_)) (j := 0) (by first | (simp only [xlit, nI_add, pk_mul]; done) | rfl | (simp only [xlit, nI_add, pk_mul]; congr 1; omega)) ⟨by first | omega | decide, by first | decide | omega⟩ h1.1 dX2_clean_59 rfl ?_
      refine x_ishl B 61 dX2_clean_60 rfl ?_
      rw [xshl1 (by omega)]
      refine x_icmp_ge_t B 147 dX2_clean_61 (by decide) (by (try simp only [xlit]); first | (rw [nI_leI (by omega) (by omega)]; omega) | (rw [nI_ltI (by omega) (by omega)]; omega) | (rw [nI_eq (by omega) (by omega)]; omega)) ?_
      refine x_iload4 B 149 dX2_clean_147 rfl ?_
      exact x_iret B rfl ⟨rfl, row', sw', sm', h2, rfl⟩ dX2_clean_149 ⟨by first | omega | decide, by first | omega | decide⟩
    | succ m ih =>
      intro s hs' row' sw' sm' h1 h2
      have hs2 : s < 2 ^ nb := by omega
      have e1 : hClean kd nb nm N j q n (s + 1) = hClean1 kd nb nm N j q n (hClean kd nb nm N j q n s) s := rfl
      have hlt : ∀ v, hClean kd nb nm N j q n s = some v → v < s := fun v z => hClean_lt z
      generalize hClean kd nb nm N j q n s = best at *
      have next : ∀ row2 sw2 sm2 y, y = hClean kd nb nm N j q n (s + 1) → TRep row2 0 nb nm kd N → TS 1296 1404 row row2 → WX D X [tR D h ad iv, tI D ad 0 1404 row2, tI D ad 36 64 sw2, tI D ad 37 4 sm2] 0 0 141 [some (.ref h), some (.int (nI j)), some (.int (nI q)), some (.int (nI n)), some (.int (oI y)), some (.int (nI (N.2.2.2.2.1 ||| 2 ^ j))), some (.int (nI s))] [] := by
        intro row2 sw2 sm2 y hy h3 h4
        refine x_iinc6 B 144 dX2_clean_141 rfl (by first | exact xinc _ | rfl) ?_
        refine x_goto B 51 dX2_clean_144 (by decide) ?_
        rw [hy]
        exact ih (s + 1) (by omega) row2 sw2 sm2 h3 h4
      have tryit : s &&& (N.2.2.2.2.1 ||| 2 ^ j) = 0 → (best = none ∨ ∃ v, best = some v ∧ hBits s 10 < hBits v 10) → WX D X [tR D h ad iv, tI D ad 0 1404 row', tI D ad 36 64 sw', tI D ad 37 4 sm'] 0 0 91 [some (.ref h), some (.int (nI j)), some (.int (nI q)), some (.int (nI n)), some (.int (oI best)), some (.int (nI (N.2.2.2.2.1 ||| 2 ^ j))), some (.int (nI s))] [] := by
        intro g1 g2
        unfold hClean1 at e1
        rw [if_pos ⟨g1, g2⟩] at e1
        have hC2 := HOk.orC (b := 0) hC0 hs2
        have hO1 := hO.setC hC2
        refine x_aload0 B 92 dX2_clean_91 rfl (by first | rfl | exact xisR_rf _) ?_
        refine x_callV B 95 (m_X2_layTried h1 hO) [0, 1] rfl ⟨_, _, _, (by repeat (first | with_reducible exact xr_h | refine xr_t ?_)), rfl, rfl⟩ q2011 q2013 qs61 q92 q2014 hd_X2_layTried (by decide) ⟨by first | decide | omega, by first | decide | omega⟩ ⟨by first | decide | omega, by first | decide | omega⟩ rfl (Nat.le_of_ble_eq_true rfl) dX2_clean_92 rfl (fun _ _ _ h => h.elim) ?_
        rintro _ _ ⟨rfl, row1, t1, s1, rfl⟩
        try simp only [xst, xput, xpre, List.set_cons_zero, List.set_cons_succ]
        refine x_aload0 B 96 dX2_clean_95 rfl (by first | rfl | exact xisR_rf _) ?_
        refine g_X2_7_X2 B 99 (by repeat (first | with_reducible exact xr_h | refine xr_t ?_)) dX2_clean_96 rfl ?_
        refine x_sipush B 102 (v := 1299) dX2_clean_99 (by decide) rfl ?_
        refine x_dup2 B 103 dX2_clean_102 rfl rfl rfl ?_
        refine x_ialdv B 104 (by repeat (first | with_reducible exact xr_h | refine xr_t ?_)) (j := 1299) (by first | (simp only [xlit, nI_add, pk_mul]; done) | rfl | (simp only [xlit, nI_add, pk_mul]; congr 1; omega)) ⟨by first | omega | decide, by first | decide | omega⟩ t1.2.2.2.1 dX2_clean_103 rfl ?_
        refine x_iload6 B 106 dX2_clean_104 rfl ?_
        refine x_ior B 107 dX2_clean_106 rfl ?_
        rw [show nI N.2.2.2.2.1 ||| nI s = nI (N.2.2.2.2.1 ||| s) from xor_nI _ _]
        refine x_iast B 108 (by repeat (first | with_reducible exact xu_h | apply xu_t)) (j := 1296 + 3) (by first | (simp only [xlit, nI_add, pk_mul]; done) | rfl | (simp only [xlit, nI_add, pk_mul]; congr 1; omega)) ⟨by first | omega | decide, by first | decide | omega⟩ dX2_clean_107 rfl ?_
        have t2 := t1.setC hnb hnm (N.2.2.2.2.1 ||| s)
        have s2 : TS 1296 1404 row1 (upd row1 (1296 + 3) (nI (N.2.2.2.2.1 ||| s))) := TS.rf.upd (by omega) (by omega)
        refine x_aload0 B 109 dX2_clean_108 rfl (by first | rfl | exact xisR_rf _) ?_
        refine x_iload3 B 110 dX2_clean_109 rfl ?_
        refine x_callV B 113 (m_X2_passTried t2 hO1 n (by omega) (by show N.2.2.2.2.2 + n < _; omega) (fun _ _ _ => True) trivial (fun _ _ _ _ _ => trivial)) [0, 1, 2, 3] rfl ⟨_, _, _, (by repeat (first | with_reducible exact xr_h | refine xr_t ?_)), rfl, rfl⟩ q2015 q2017 qs62 q92 q2018 hd_X2_passTried (by decide) ⟨by first | decide | omega, by first | decide | omega⟩ ⟨by first | decide | omega, by first | decide | omega⟩ rfl (Nat.le_of_ble_eq_true rfl) dX2_clean_110 rfl (fun _ _ _ h => h.elim) ?_
        rintro _ _ ⟨rfl, row3, sw3, sm3, t3, s3, -, rfl⟩
        try simp only [xst, xput, xpre, List.set_cons_zero, List.set_cons_succ]
        have hk1 := (hO1.go n (by show N.2.2.2.2.2 + n < _; omega)).2.2.2.1 j q hj hq
        have r3 : TS 1296 1404 row' row3 := (s1.trans s2).trans s3
        refine x_aload0 B 114 dX2_clean_113 rfl (by first | rfl | exact xisR_rf _) ?_
        refine g_X2_7_X2 B 117 (by repeat (first | with_reducible exact xr_h | refine xr_t ?_)) dX2_clean_114 rfl ?_
        refine x_sipush B 120 (v := 1316) dX2_clean_117 (by decide) rfl ?_
        refine x_bipush B 122 (v := 10) dX2_clean_120 (by decide) rfl ?_
        refine x_iload1 B 123 dX2_clean_122 rfl ?_
        refine x_imul B 124 dX2_clean_123 rfl ?_
        refine x_iadd B 125 dX2_clean_124 rfl ?_
        refine x_iload2 B 126 dX2_clean_125 rfl ?_
        refine x_iadd B 127 dX2_clean_126 rfl ?_
        rw [show (1316 : Int32) + 10 * nI j + nI q = nI (1296 + 20 + 10 * j + q) by simp only [xlit, nI_add, pk_mul]]
        refine x_ialdv B 128 (by repeat (first | with_reducible exact xr_h | refine xr_t ?_)) (j := 1296 + 20 + 10 * j + q) (by first | (simp only [xlit, nI_add, pk_mul]; done) | rfl | (simp only [xlit, nI_add, pk_mul]; congr 1; omega)) ⟨by first | omega | decide, by first | decide | omega⟩ (t3.2.2.2.2.2.2.1 j q hj hq) dX2_clean_127 rfl ?_
        have h3 := h1.keep hnb hnm r3 (by omega)
        by_cases c : (hGo kd nb nm (N.1, N.2.1, N.2.2.1, N.2.2.2.1, N.2.2.2.2.1 ||| s, N.2.2.2.2.2) n).1 j q < 5
        · rw [if_pos c] at e1
          refine x_iconst B 129 (v := 5) dX2_clean_128 (by decide) rfl ?_
          refine x_icmp_ge_f (tp := 137) B 132 dX2_clean_129 (by decide) rfl (by (try simp only [xlit]); first | (rw [nI_leI (by omega) (by omega)]; omega) | (rw [nI_ltI (by omega) (by omega)]; omega) | (rw [nI_eq (by omega) (by omega)]; omega)) ?_
          refine x_iload6 B 134 dX2_clean_132 rfl ?_
          refine x_goto B 139 dX2_clean_134 (by decide) ?_
          refine x_istore4 B 141 dX2_clean_139 rfl ?_
          exact next row3 sw3 sm3 (some s) e1.symm h3 (h2.trans r3)
        · rw [if_neg c] at e1
          refine x_iconst B 129 (v := 5) dX2_clean_128 (by decide) rfl ?_
          refine x_icmp_ge_t B 137 dX2_clean_129 (by decide) (by (try simp only [xlit]); first | (rw [nI_leI (by omega) (by omega)]; omega) | (rw [nI_ltI (by omega) (by omega)]; omega) | (rw [nI_eq (by omega) (by omega)]; omega)) ?_
          refine x_iload4 B 139 dX2_clean_137 rfl ?_
          refine x_istore4 B 141 dX2_clean_139 rfl ?_
          exact next row3 sw3 sm3 best e1.symm h3 (h2.trans r3)
      refine x_iload6 B 53 dX2_clean_51 rfl ?_
      refine x_iconst B 54 (v := 1) dX2_clean_53 (by decide) rfl ?_
      refine x_aload0 B 55 dX2_clean_54 rfl (by first | rfl | exact xisR_rf _) ?_
      refine g_X2_7_X2 B 58 (by repeat (first | with_reducible exact xr_h | refine xr_t ?_)) dX2_clean_55 rfl ?_
      refine x_iconst B 59 (v := 0) dX2_clean_58 (by decide) rfl ?_
      refine x_ialdv B 60 (by repeat (first | with_reducible exact xr_h | refine xr_t ?_)) (j := 0) (by first | (simp only [xlit, nI_add, pk_mul]; done) | rfl | (simp only [xlit, nI_add, pk_mul]; congr 1; omega)) ⟨by first | omega | decide, by first | decide | omega⟩ h1.1 dX2_clean_59 rfl ?_
      refine x_ishl B 61 dX2_clean_60 rfl ?_
      rw [xshl1 (by omega)]
      refine x_icmp_ge_f (tp := 147) B 64 dX2_clean_61 (by decide) rfl (by (try simp only [xlit]); first | (rw [nI_leI (by omega) (by omega)]; omega) | (rw [nI_ltI (by omega) (by omega)]; omega) | (rw [nI_eq (by omega) (by omega)]; omega)) ?_
      refine x_iload6 B 66 dX2_clean_64 rfl ?_
      refine x_iload5 B 68 dX2_clean_66 rfl ?_
      refine x_iand B 69 dX2_clean_68 rfl ?_
      rw [xand_nI]
      have hle : s &&& (N.2.2.2.2.1 ||| 2 ^ j) ≤ s := Nat.and_le_left
      by_cases c0 : s &&& (N.2.2.2.2.1 ||| 2 ^ j) = 0
      · refine x_if_ne_f (tp := 141) B 72 dX2_clean_69 (by decide) rfl (by rw [c0]; rfl) ?_
        cases best with
        | none =>
          refine x_iload4 B 74 dX2_clean_72 rfl ?_
          refine x_iconst B 75 (v := (-1)) dX2_clean_74 (by decide) rfl ?_
          refine x_icmp_eq_t B 91 dX2_clean_75 (by decide) rfl ?_
          exact tryit c0 (Or.inl rfl)
        | some v =>
          have hv := hlt v rfl
          refine x_iload4 B 74 dX2_clean_72 rfl ?_
          refine x_iconst B 75 (v := (-1)) dX2_clean_74 (by decide) rfl ?_
          refine x_icmp_eq_f (tp := 91) B 78 dX2_clean_75 (by decide) rfl (ne_m1 (by omega)) ?_
          refine x_iload6 B 80 dX2_clean_78 rfl ?_
          refine x_callS B 83 (m_X2_bits _) [] rfl q2133 q2134 q92 q2135 hd_X2_bits rfl ⟨by first | decide | omega, by first | decide | omega⟩ ⟨by first | decide | omega, by first | decide | omega⟩ rfl (Nat.le_of_ble_eq_true rfl) dX2_clean_80 rfl (fun _ _ _ h => h.elim) ?_
          rintro _ _ ⟨rfl, rfl⟩
          try simp only [xst, xput, xpre, List.set_cons_zero, List.set_cons_succ]
          rw [t_bits_h (by omega) 10 (by omega), show oI (some v) = nI v from rfl]
          refine x_iload4 B 85 dX2_clean_83 rfl ?_
          refine x_callS B 88 (m_X2_bits _) [] rfl q2133 q2134 q92 q2135 hd_X2_bits rfl ⟨by first | decide | omega, by first | decide | omega⟩ ⟨by first | decide | omega, by first | decide | omega⟩ rfl (Nat.le_of_ble_eq_true rfl) dX2_clean_85 rfl (fun _ _ _ h => h.elim) ?_
          rintro _ _ ⟨rfl, rfl⟩
          try simp only [xst, xput, xpre, List.set_cons_zero, List.set_cons_succ]
          rw [t_bits_h (by omega) 10 (by omega)]
          have b1 := hBits_le s 10
          have b2 := hBits_le v 10
          by_cases c1 : hBits s 10 < hBits v 10
          · refine x_icmp_ge_f (tp := 141) B 91 dX2_clean_88 (by decide) rfl (by (try simp only [xlit]); first | (rw [nI_leI (by omega) (by omega)]; omega) | (rw [nI_ltI (by omega) (by omega)]; omega) | (rw [nI_eq (by omega) (by omega)]; omega)) ?_
            exact tryit c0 (Or.inr ⟨v, rfl, c1⟩)
          · refine x_icmp_ge_t B 141 dX2_clean_88 (by decide) (by (try simp only [xlit]); first | (rw [nI_leI (by omega) (by omega)]; omega) | (rw [nI_ltI (by omega) (by omega)]; omega) | (rw [nI_eq (by omega) (by omega)]; omega)) ?_
            unfold hClean1 at e1
            rw [if_neg (fun z => z.2.elim (fun z => by cases z) (fun ⟨v', z, z'⟩ => by cases z; exact c1 z'))] at e1
            exact next row' sw' sm' (some v) e1.symm h1 h2
      · refine x_if_ne_t B 141 dX2_clean_69 (by decide) (nI_ne0 (by omega) (by omega)) ?_
        unfold hClean1 at e1
        rw [if_neg (fun z => c0 z.1)] at e1
        exact next row' sw' sm' best e1.symm h1 h2
  refine x_istore5 B 48 dX2_clean_46 rfl ?_
  refine x_iconst B 49 (v := 0) dX2_clean_48 (by decide) rfl ?_
  refine x_istore6 B 51 dX2_clean_49 rfl ?_
  exact loop (2 ^ nb) 0 (by omega) row sw sm hT TS.rf
theorem m_X2_left (hW : TW row iv nb nm kd N U) (w q part : Int32) : XC D yX2_left (ws_ yX2_left cX2_left 9 (Option.some Jvm.ClassFile.FieldType.int)) 2 80 (0) (0) [.ref h, .int w, .int q, .int part] [tR D h ad iv, tI D ad 0 1404 row] (fun r cs' => r = some (.int (sLeft nb N w q part)) ∧ cs' = [tR D h ad iv, tI D ad 0 1404 row]) x0 := by
  refine XC.of (by decide) (by simp [Value.category]) (Nat.le_of_ble_eq_true rfl) fun X B => ?_
  show WX D X [tR D h ad iv, tI D ad 0 1404 row] 0 0 0 [some (.ref h), some (.int w), some (.int q), some (.int part), none, none, none, none, none] []
  have hT := hW.1
  have hO := hW.2.1.1
  have hnb := hO.1
  refine x_iload1 B 1 dX2_left_0 rfl ?_
  refine x_callS B 4 (m_isWordNumber w) [] rfl q2006 q2007 q92 q2008 hd_X2_isWordNumber rfl ⟨by first | decide | omega, by first | decide | omega⟩ ⟨by first | decide | omega, by first | decide | omega⟩ rfl (Nat.le_of_ble_eq_true rfl) dX2_left_1 rfl (fun _ _ _ h => h.elim) ?_
  rintro _ _ ⟨rfl, rfl⟩
  try simp only [xst, xput, xpre, List.set_cons_zero, List.set_cons_succ]
  rcases toR_c w 0 10 (by omega) with ⟨e, e'⟩ | ⟨w, -, hw, rfl, e, e'⟩
  · rw [e']
    refine x_if_ne_f (tp := 10) B 7 dX2_left_4 (by decide) rfl rfl ?_
    refine x_bipush B 9 (v := (-2)) dX2_left_7 (by decide) rfl ?_
    exact x_iret B rfl ⟨by simp only [sLeft, e], rfl⟩ dX2_left_9 ⟨by first | omega | decide, by first | omega | decide⟩
  rw [e']
  refine x_if_ne_t B 10 dX2_left_4 (by decide) (by decide) ?_
  refine x_iload2 B 11 dX2_left_10 rfl ?_
  refine x_i2l B 12 dX2_left_11 rfl ?_
  refine x_lconst B 13 (v := 0) dX2_left_12 (by decide) rfl ?_
  refine x_ldc2 B 16 dX2_left_13 q2176 rfl ?_
  refine x_callS B 19 (m_X2_in _ _ _) [] rfl q1869 q1870 q92 q1871 hd_X2_in rfl ⟨by first | decide | omega, by first | decide | omega⟩ ⟨by first | decide | omega, by first | decide | omega⟩ rfl (Nat.le_of_ble_eq_true rfl) dX2_left_16 rfl (fun _ _ _ h => h.elim) ?_
  rintro _ _ ⟨rfl, rfl⟩
  try simp only [xst, xput, xpre, List.set_cons_zero, List.set_cons_succ]
  rw [show x_in q.toInt64 0 10 = bI (toR q 0 11).isSome from xinR q 0 10 rfl rfl (by decide) (by decide)]
  rcases toR_c q 0 11 (by omega) with ⟨e2, e2'⟩ | ⟨q, -, hq, rfl, e2, e2'⟩
  · rw [e2']
    refine x_if_eq_t B 32 dX2_left_19 (by decide) rfl ?_
    refine x_bipush B 34 (v := (-3)) dX2_left_32 (by decide) rfl ?_
    exact x_iret B rfl ⟨by simp only [sLeft, e, e2], rfl⟩ dX2_left_34 ⟨by first | omega | decide, by first | omega | decide⟩
  rw [e2']
  refine x_if_eq_f (tp := 32) B 22 dX2_left_19 (by decide) rfl (by decide) ?_
  refine x_iload3 B 23 dX2_left_22 rfl ?_
  refine x_i2l B 24 dX2_left_23 rfl ?_
  refine x_lconst B 25 (v := 0) dX2_left_24 (by decide) rfl ?_
  refine x_lconst B 26 (v := 1) dX2_left_25 (by decide) rfl ?_
  refine x_callS B 29 (m_X2_in _ _ _) [] rfl q1869 q1870 q92 q1871 hd_X2_in rfl ⟨by first | decide | omega, by first | decide | omega⟩ ⟨by first | decide | omega, by first | decide | omega⟩ rfl (Nat.le_of_ble_eq_true rfl) dX2_left_26 rfl (fun _ _ _ h => h.elim) ?_
  rintro _ _ ⟨rfl, rfl⟩
  try simp only [xst, xput, xpre, List.set_cons_zero, List.set_cons_succ]
  rw [show x_in part.toInt64 0 1 = bI (toR part 0 2).isSome from xinR part 0 1 rfl rfl (by decide) (by decide)]
  rcases toR_c part 0 2 (by omega) with ⟨e3, e3'⟩ | ⟨part, -, hp, rfl, e3, e3'⟩
  · rw [e3']
    refine x_if_ne_f (tp := 35) B 32 dX2_left_29 (by decide) rfl rfl ?_
    refine x_bipush B 34 (v := (-3)) dX2_left_32 (by decide) rfl ?_
    exact x_iret B rfl ⟨by simp only [sLeft, e, e2, e3], rfl⟩ dX2_left_34 ⟨by first | omega | decide, by first | omega | decide⟩
  rw [e3']
  refine x_if_ne_t B 35 dX2_left_29 (by decide) (by decide) ?_
  have hA := hOdds_lt8 N w (n := nb) hnb
  have hP := hOdds_pos N w nb
  have hle := hOdds_le N w (x := q) (by omega) nb
  have hg : 0 < Nat.gcd (hOdds N w 10 nb - hOdds N w q nb) (hOdds N w 10 nb) := Nat.gcd_pos_of_pos_right _ hP
  have hs : sLeft nb N (nI w) (nI q) (nI part) = nI ((if part = 0 then hOdds N w 10 nb - hOdds N w q nb else hOdds N w 10 nb) / Nat.gcd (hOdds N w 10 nb - hOdds N w q nb) (hOdds N w 10 nb)) := by simp only [sLeft, e, e2, e3]
  rw [hs] at B
  have fin : ∀ (f x y : Nat) a7 a8, y < f → y < 2147483648 → x < 2147483648 → Nat.gcd x y = Nat.gcd (hOdds N w 10 nb - hOdds N w q nb) (hOdds N w 10 nb) → a7 = nI y → WX D X [tR D h ad iv, tI D ad 0 1404 row] 0 0 116 [some (.ref h), some (.int (nI w)), some (.int (nI q)), some (.int (nI part)), some (.int (nI (hOdds N w q nb))), some (.int (nI (hOdds N w 10 nb))), some (.int (nI x)), some (.int a7), a8] [] := by
    intro f
    induction f with
    | zero => intro x y a7 a8 h1; omega
    | succ f ih =>
      intro x y a7 a8 h1 h2 h3 h4 h5
      subst h5
      rcases Nat.eq_zero_or_pos y with c | c
      · subst c
        rw [Nat.gcd_zero_right] at h4
        refine x_iload7 B 118 dX2_left_116 rfl ?_
        refine x_if_eq_t B 139 dX2_left_118 (by decide) rfl ?_
        rw [← h4] at B hg
        have e5 : nI (hOdds N w 10 nb) - nI (hOdds N w q nb) = nI (hOdds N w 10 nb - hOdds N w q nb) := pk_sub hle
        by_cases cp : part = 0
        · refine x_iload3 B 140 dX2_left_139 rfl ?_
          refine x_if_ne_f (tp := 154) B 143 dX2_left_140 (by decide) rfl (by rw [cp]; rfl) ?_
          refine x_iload5 B 145 dX2_left_143 rfl ?_
          refine x_iload4 B 147 dX2_left_145 rfl ?_
          refine x_isub B 148 dX2_left_147 rfl ?_
          rw [e5]
          refine x_iload6 B 150 dX2_left_148 rfl ?_
          refine x_idiv B 151 dX2_left_150 (nI_ne0 (by omega) (by omega)) rfl ?_
          rw [pk_div (a := hOdds N w 10 nb - hOdds N w q nb) (d := x) (by omega) (by omega) (by omega)]
          refine x_goto B 159 dX2_left_151 (by decide) ?_
          exact x_iret B rfl ⟨by rw [if_pos cp], rfl⟩ dX2_left_159 ⟨by first | omega | decide, by first | omega | decide⟩
        · refine x_iload3 B 140 dX2_left_139 rfl ?_
          refine x_if_ne_t B 154 dX2_left_140 (by decide) (nI_ne0 (by omega) (by omega)) ?_
          refine x_iload5 B 156 dX2_left_154 rfl ?_
          refine x_iload6 B 158 dX2_left_156 rfl ?_
          refine x_idiv B 159 dX2_left_158 (nI_ne0 (by omega) (by omega)) rfl ?_
          rw [pk_div (a := hOdds N w 10 nb) (d := x) (by omega) (by omega) (by omega)]
          exact x_iret B rfl ⟨by rw [if_neg cp], rfl⟩ dX2_left_159 ⟨by first | omega | decide, by first | omega | decide⟩
      · refine x_iload7 B 118 dX2_left_116 rfl ?_
        refine x_if_eq_f (tp := 139) B 121 dX2_left_118 (by decide) rfl (nI_ne0 (by omega) (by omega)) ?_
        refine x_iload6 B 123 dX2_left_121 rfl ?_
        refine x_iload7 B 125 dX2_left_123 rfl ?_
        refine x_irem B 126 dX2_left_125 (nI_ne0 (by omega) (by omega)) rfl ?_
        rw [pk_rem (a := x) (d := y) (by omega) (by omega) (by omega)]
        have hm := Nat.mod_lt x c
        refine x_istore8 B 128 dX2_left_126 rfl ?_
        refine x_iload7 B 130 dX2_left_128 rfl ?_
        refine x_istore6 B 132 dX2_left_130 rfl ?_
        refine x_iload8 B 134 dX2_left_132 rfl ?_
        refine x_istore7 B 136 dX2_left_134 rfl ?_
        refine x_goto B 116 dX2_left_136 (by decide) ?_
        exact ih y (x % y) _ _ (by omega) (by omega) (by omega) (by rw [← h4, Nat.gcd_comm x y, Nat.gcd_rec y x, Nat.gcd_comm]) rfl
  have loop : ∀ (m b : Nat), b + m = nb → ∀ a7 a8, WX D X [tR D h ad iv, tI D ad 0 1404 row] 0 0 44 [some (.ref h), some (.int (nI w)), some (.int (nI q)), some (.int (nI part)), some (.int (nI (hOdds N w q b))), some (.int (nI (hOdds N w 10 b))), some (.int (nI b)), a7, a8] [] := by
    intro m
    induction m with
    | zero =>
      intro b hb a7 a8
      obtain rfl : b = nb := by omega
      refine x_iload6 B 46 dX2_left_44 rfl ?_
      refine x_aload0 B 47 dX2_left_46 rfl (by first | rfl | exact xisR_rf _) ?_
      refine g_X2_7_X2 B 50 (by repeat (first | with_reducible exact xr_h | refine xr_t ?_)) dX2_left_47 rfl ?_
      refine x_iconst B 51 (v := 0) dX2_left_50 (by decide) rfl ?_
      refine x_ialdv B 52 (by repeat (first | with_reducible exact xr_h | refine xr_t ?_)) (j := 0) (by first | (simp only [xlit, nI_add, pk_mul]; done) | rfl | (simp only [xlit, nI_add, pk_mul]; congr 1; omega)) ⟨by first | omega | decide, by first | decide | omega⟩ hT.1 dX2_left_51 rfl ?_
      refine x_icmp_ge_t B 105 dX2_left_52 (by decide) (by (try simp only [xlit]); first | (rw [nI_leI (by omega) (by omega)]; omega) | (rw [nI_ltI (by omega) (by omega)]; omega) | (rw [nI_eq (by omega) (by omega)]; omega)) ?_
      refine x_iload5 B 107 dX2_left_105 rfl ?_
      refine x_iload4 B 109 dX2_left_107 rfl ?_
      refine x_isub B 110 dX2_left_109 rfl ?_
      rw [show nI (hOdds N w 10 b) - nI (hOdds N w q b) = nI (hOdds N w 10 b - hOdds N w q b) from pk_sub hle]
      refine x_istore6 B 112 dX2_left_110 rfl ?_
      refine x_iload5 B 114 dX2_left_112 rfl ?_
      refine x_istore7 B 116 dX2_left_114 rfl ?_
      exact fin (hOdds N w 10 b + 1) _ _ _ _ (by omega) (by omega) (by omega) rfl rfl
    | succ m ih =>
      intro b hb a7 a8
      have hb' : b < nb := by omega
      refine x_iload6 B 46 dX2_left_44 rfl ?_
      refine x_aload0 B 47 dX2_left_46 rfl (by first | rfl | exact xisR_rf _) ?_
      refine g_X2_7_X2 B 50 (by repeat (first | with_reducible exact xr_h | refine xr_t ?_)) dX2_left_47 rfl ?_
      refine x_iconst B 51 (v := 0) dX2_left_50 (by decide) rfl ?_
      refine x_ialdv B 52 (by repeat (first | with_reducible exact xr_h | refine xr_t ?_)) (j := 0) (by first | (simp only [xlit, nI_add, pk_mul]; done) | rfl | (simp only [xlit, nI_add, pk_mul]; congr 1; omega)) ⟨by first | omega | decide, by first | decide | omega⟩ hT.1 dX2_left_51 rfl ?_
      refine x_icmp_ge_f (tp := 105) B 55 dX2_left_52 (by decide) rfl (by (try simp only [xlit]); first | (rw [nI_leI (by omega) (by omega)]; omega) | (rw [nI_ltI (by omega) (by omega)]; omega) | (rw [nI_eq (by omega) (by omega)]; omega)) ?_
      have hWl := hWell_lt (N.1 b) 10
      refine x_aload0 B 56 dX2_left_55 rfl (by first | rfl | exact xisR_rf _) ?_
      refine x_iconst B 57 (v := 0) dX2_left_56 (by decide) rfl ?_
      refine x_iload6 B 59 dX2_left_57 rfl ?_
      refine x_callV B 62 (m_X2_wellKnown hT hO (by omega) b hb') [0, 1] rfl ⟨_, _, _, (by repeat (first | with_reducible exact xr_h | refine xr_t ?_)), rfl, rfl⟩ q1982 q1984 qs59 q92 q1985 hd_X2_wellKnown (by decide) ⟨by first | decide | omega, by first | decide | omega⟩ ⟨by first | decide | omega, by first | decide | omega⟩ rfl (Nat.le_of_ble_eq_true rfl) dX2_left_59 rfl (fun _ _ _ h => h.elim) ?_
      rintro _ _ ⟨rfl, rfl⟩
      try simp only [xst, xput, xpre, List.set_cons_zero, List.set_cons_succ]
      refine x_iload1 B 63 dX2_left_62 rfl ?_
      refine x_callS B 66 (m_X2_has _ _) [] rfl q1938 q1939 q92 q1940 hd_X2_has rfl ⟨by first | decide | omega, by first | decide | omega⟩ ⟨by first | decide | omega, by first | decide | omega⟩ rfl (Nat.le_of_ble_eq_true rfl) dX2_left_63 rfl (fun _ _ _ h => h.elim) ?_
      rintro _ _ ⟨rfl, rfl⟩
      try simp only [xst, xput, xpre, List.set_cons_zero, List.set_cons_succ]
      rw [xhas_bit (by omega) (by omega), hWell_bit _ _ _ hw]
      have e6 : ∀ x, hOdds N w x (b + 1) = hOdds N w x b * (if 4 < N.1 b w then x else 1) := fun x => rfl
      by_cases c : 4 < N.1 b w
      · rw [if_pos (by simp [c])]
        simp only [if_pos c] at e6
        refine x_istore7 B 68 dX2_left_66 rfl ?_
        refine x_iload4 B 70 dX2_left_68 rfl ?_
        refine x_iload7 B 72 dX2_left_70 rfl ?_
        refine x_if_eq_f (tp := 79) B 75 dX2_left_72 (by decide) rfl (by decide) ?_
        refine x_iload2 B 76 dX2_left_75 rfl ?_
        refine x_goto B 80 dX2_left_76 (by decide) ?_
        refine x_imul B 81 dX2_left_80 rfl ?_
        rw [show nI (hOdds N w q b) * nI q = nI (hOdds N w q (b + 1)) by rw [e6, pk_mul]]
        refine x_istore4 B 83 dX2_left_81 rfl ?_
        refine x_iload5 B 85 dX2_left_83 rfl ?_
        refine x_iload7 B 87 dX2_left_85 rfl ?_
        refine x_if_eq_f (tp := 95) B 90 dX2_left_87 (by decide) rfl (by decide) ?_
        refine x_bipush B 92 (v := 10) dX2_left_90 (by decide) rfl ?_
        refine x_goto B 96 dX2_left_92 (by decide) ?_
        refine x_imul B 97 dX2_left_96 rfl ?_
        rw [show nI (hOdds N w 10 b) * 10 = nI (hOdds N w 10 (b + 1)) by rw [e6]; exact pk_mul _ 10]
        refine x_istore5 B 99 dX2_left_97 rfl ?_
        refine x_iinc6 B 102 dX2_left_99 rfl (by first | exact xinc _ | rfl) ?_
        refine x_goto B 44 dX2_left_102 (by decide) ?_
        exact ih (b + 1) (by omega) _ _
      · rw [if_neg (by simp [c])]
        simp only [if_neg c] at e6
        refine x_istore7 B 68 dX2_left_66 rfl ?_
        refine x_iload4 B 70 dX2_left_68 rfl ?_
        refine x_iload7 B 72 dX2_left_70 rfl ?_
        refine x_if_eq_t B 79 dX2_left_72 (by decide) rfl ?_
        refine x_iconst B 80 (v := 1) dX2_left_79 (by decide) rfl ?_
        refine x_imul B 81 dX2_left_80 rfl ?_
        rw [show nI (hOdds N w q b) * 1 = nI (hOdds N w q (b + 1)) by rw [e6]; exact pk_mul _ 1]
        refine x_istore4 B 83 dX2_left_81 rfl ?_
        refine x_iload5 B 85 dX2_left_83 rfl ?_
        refine x_iload7 B 87 dX2_left_85 rfl ?_
        refine x_if_eq_t B 95 dX2_left_87 (by decide) rfl ?_
        refine x_iconst B 96 (v := 1) dX2_left_95 (by decide) rfl ?_
        refine x_imul B 97 dX2_left_96 rfl ?_
        rw [show nI (hOdds N w 10 b) * 1 = nI (hOdds N w 10 (b + 1)) by rw [e6]; exact pk_mul _ 1]
        refine x_istore5 B 99 dX2_left_97 rfl ?_
        refine x_iinc6 B 102 dX2_left_99 rfl (by first | exact xinc _ | rfl) ?_
        refine x_goto B 44 dX2_left_102 (by decide) ?_
        exact ih (b + 1) (by omega) _ _
  refine x_iconst B 36 (v := 1) dX2_left_35 (by decide) rfl ?_
  refine x_istore4 B 38 dX2_left_36 rfl ?_
  refine x_iconst B 39 (v := 1) dX2_left_38 (by decide) rfl ?_
  refine x_istore5 B 41 dX2_left_39 rfl ?_
  refine x_iconst B 42 (v := 0) dX2_left_41 (by decide) rfl ?_
  refine x_istore6 B 44 dX2_left_42 rfl ?_
  exact loop nb 0 (by omega) _ _
end T9
