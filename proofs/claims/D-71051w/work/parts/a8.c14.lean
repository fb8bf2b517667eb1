/-! THE COMPONENT, 18: answers, what is done -/
def CB (iv : Nat → Int32) (rn : SR) (bf : Nat → Option Nat) (bp : va_W) (nb nm : Nat) (kd : Nat → Nat) (N : HS) : Prop := iv 1 = nI nb ∧ iv 2 = nI nm ∧ iv 5 = -1 ∧ SRp nb nm rn N ∧ HG nb nm kd N ∧ BKn bf bp nb kd
/-- only what is said, those to come back to -/
def JX (iv iv' : Nat → Int32) : Prop := ∀ j, j ≠ 4 → j ≠ 11 → iv' j = iv j
theorem JX.rf {iv : Nat → Int32} : JX iv iv := fun _ _ _ => rfl
theorem JX.j11 {a b : Nat → Int32} (h : ∀ j, j ≠ 11 → b j = a j) : JX a b := fun j _ h2 => h j h2
theorem JX.j4 {a b c : Nat → Int32} (h : JX a b) (h2 : J4 b c) : JX a c := fun j h3 h4 => (h2 j h3).trans (h j h3 h4)
theorem CB.mk2 {iv iv' : Nat → Int32} {rn rn' : SR} {bf : Nat → Option Nat} {bp : va_W} {nb nm : Nat} {kd : Nat → Nat} {N N' : HS} (h : CB iv rn bf bp nb nm kd N) (hJ : JX iv iv') (hS : SRp nb nm rn' N') (hG : HG nb nm kd N') : CB iv' rn' bf bp nb nm kd N' :=
  ⟨(hJ 1 (by omega) (by omega)).trans h.1, (hJ 2 (by omega) (by omega)).trans h.2.1, (hJ 5 (by omega) (by omega)).trans h.2.2.1, hS, hG, h.2.2.2.2.2⟩
theorem CRep.setP {kn : Nat → Nat → Int32} {pf hf yf : Nat → Int32} {cov ev : Int32} {nb nm : Nat} {S : HS} (h : CRep kn pf hf yf cov ev nb nm S) (b x : Nat) : CRep kn (upd pf b (nI x)) hf yf cov ev nb nm (S.1, fUp S.2.1 b x, S.2.2) := by
  obtain ⟨h1, h2, h3, h4, h5, h6⟩ := h
  refine ⟨h1, h2, fun b' hb => ?_, h4, h5, h6⟩
  show upd pf b (nI x) b' = nI (fUp S.2.1 b x b')
  unfold fUp
  by_cases c : b' = b
  · rw [c, pk_us, if_pos rfl]
  · rw [pk_un c, if_neg c]; exact h3 b' hb
theorem CRep.setC {kn : Nat → Nat → Int32} {pf hf yf : Nat → Int32} {cov ev : Int32} {nb nm : Nat} {S : HS} (h : CRep kn pf hf yf cov ev nb nm S) (c : Nat) : CRep kn pf hf yf (nI c) ev nb nm (S.1, S.2.1, S.2.2.1, S.2.2.2.1, c, S.2.2.2.2.2) := by
  obtain ⟨h1, h2, h3, h4, h5, h6⟩ := h
  exact ⟨rfl, h2, h3, h4, h5, h6⟩
theorem CU.pop {bs : List (Option SR)} {nb nm : Nat} {kd : Nat → Nat} {U : List HS} (h : CU bs nb nm kd U) : CU bs nb nm kd U.dropLast := by
  refine ⟨h.1, by rw [List.length_dropLast]; have := h.2.1; omega, fun k S hk => h.2.2 k S ?_⟩
  rw [List.getElem?_dropLast] at hk
  split at hk
  · exact hk
  · cases hk
section C14
variable {D : xG} {h : Nat} {ad : Nat → Nat} {iv : Nat → Int32} {tg : Option Nat} {bf : Nat → Option Nat} {bp : va_W} {nb nm : Nat} {kd : Nat → Nat} {rn rt : SR} {N : HS} {sf : Nat → Int32} {bs : List (Option SR)} {U : List HS}
theorem m_X0_bird (hC : CB iv rn bf bp nb nm kd N) (e7 : ad 7 = rn.1 0) (b w : Int32) : XC D yX0_bird (ws_ yX0_bird cX0_bird 3 (Option.some Jvm.ClassFile.FieldType.int)) 5 200 (0) (0) [.ref h, .int b, .int w] [cR h ad iv tg, cT D h rn, cBr D ad bf, bp] (fun r cs' => r = some (.int (sBird nb nm kd N b w)) ∧ cs' = [cR h ad iv tg, cT D h rn, cBr D ad bf, bp]) x0 := by
  refine XC.of (by decide) (by simp [Value.category]) (Nat.le_of_ble_eq_true rfl) fun X B => ?_
  show WX D X [cR h ad iv tg, cT D h rn, cBr D ad bf, bp] 0 0 0 [some (.ref h), some (.int b), some (.int w)] []
  obtain ⟨h1, h2, h5, hT, hG, hB⟩ := hC
  have hO := hG.1
  have hnb := hO.1
  have hCv : N.2.2.2.2.1 < 256 := Nat.lt_of_lt_of_le hO.2.2.2.2.2.2.2.2.1 (pow_nb hnb)
  refine x_aload0 B 1 dX0_bird_0 rfl (by first | rfl | exact xisR_rf _) ?_
  refine x_iload1 B 2 dX0_bird_1 rfl ?_
  refine x_callV B 5 (m_X0_isBird b nb h1 hnb) [0] rfl ⟨_, _, _, (by repeat (first | with_reducible exact xr_h | with_reducible exact xr_m cT_0 | with_reducible exact xr_m cT_1 | with_reducible exact xr_m cT_2 | with_reducible exact xr_m cT_3 | with_reducible exact xr_m cT_4 | refine xr_t ?_)), rfl, rfl⟩ q1192 q1194 qs22 q88 q1195 hd_X0_isBird (by decide) ⟨by first | decide | omega, by first | decide | omega⟩ ⟨by first | decide | omega, by first | decide | omega⟩ rfl (Nat.le_of_ble_eq_true rfl) dX0_bird_2 rfl (fun _ _ _ h => h.elim) ?_
  rintro _ _ ⟨rfl, rfl⟩
  try simp only [xst, xput, xpre, List.set_cons_zero, List.set_cons_succ]
  rcases toR_c b 0 nb (by omega) with ⟨e, e'⟩ | ⟨j, -, hj, rfl, e, e'⟩
  · rw [e']
    refine x_if_ne_f (tp := 11) B 8 dX0_bird_5 (by decide) rfl rfl ?_
    refine x_bipush B 10 (v := (-2)) dX0_bird_8 (by decide) rfl ?_
    exact x_iret B rfl ⟨by simp only [sBird, e], rfl⟩ dX0_bird_10 ⟨by first | omega | decide, by first | omega | decide⟩
  · rw [e']
    refine x_if_ne_t B 11 dX0_bird_5 (by decide) (by decide) ?_
    obtain ⟨q, hq1, hq2⟩ := hB j hj
    have hk := hO.2.2.1 j hj
    by_cases w0 : w = 0
    · subst w0
      refine x_iload2 B 12 dX0_bird_11 rfl ?_
      refine x_tsw B 48 (36) dX0_bird_12 (by decide) (by decide) ?_
      refine x_aload0 B 49 dX0_bird_48 rfl (by first | rfl | exact xisR_rf _) ?_
      refine x_iload1 B 50 dX0_bird_49 rfl ?_
      refine x_callV B 53 (m_X0_bird_2 j q (kd j) j (by omega) hq1 hq2 hk) [0, 2, 3] rfl ⟨_, _, _, (by repeat (first | with_reducible exact xr_h | with_reducible exact xr_m cT_0 | with_reducible exact xr_m cT_1 | with_reducible exact xr_m cT_2 | with_reducible exact xr_m cT_3 | with_reducible exact xr_m cT_4 | refine xr_t ?_)), rfl, rfl⟩ q1196 q1198 qs23 q88 q1199 hd_X0_bird_2 (by decide) ⟨by first | decide | omega, by first | decide | omega⟩ ⟨by first | decide | omega, by first | decide | omega⟩ rfl (Nat.le_of_ble_eq_true rfl) dX0_bird_50 rfl (fun _ _ _ h => h.elim) ?_
      rintro _ _ ⟨rfl, rfl⟩
      try simp only [xst, xput, xpre, List.set_cons_zero, List.set_cons_succ]
      refine x_bKind_X0 B 56 (i := 3) rfl hq2 hk (by omega) (by omega) (Nat.le_of_ble_eq_true rfl) dX0_bird_53 rfl ?_
      exact x_iret B rfl ⟨by simp only [sBird, e]; rfl, rfl⟩ dX0_bird_56 ⟨by first | omega | decide, by first | omega | decide⟩
    by_cases w1 : w = 1
    · subst w1
      refine x_iload2 B 12 dX0_bird_11 rfl ?_
      refine x_tsw B 57 (45) dX0_bird_12 (by decide) (by decide) ?_
      refine x_aload0 B 58 dX0_bird_57 rfl (by first | rfl | exact xisR_rf _) ?_
      refine g_X0_27_X0 B 61 (by repeat (first | with_reducible exact xr_h | with_reducible exact xr_m cT_0 | with_reducible exact xr_m cT_1 | with_reducible exact xr_m cT_2 | with_reducible exact xr_m cT_3 | with_reducible exact xr_m cT_4 | refine xr_t ?_)) dX0_bird_58 rfl ?_ ; try rw [e7]
      refine g_X0_99_X1 B 64 (by repeat (first | with_reducible exact xr_h | with_reducible exact xr_m cT_0 | with_reducible exact xr_m cT_1 | with_reducible exact xr_m cT_2 | with_reducible exact xr_m cT_3 | with_reducible exact xr_m cT_4 | refine xr_t ?_)) dX0_bird_61 rfl ?_
      refine x_iload1 B 65 dX0_bird_64 rfl ?_
      refine x_ialdv B 66 (by repeat (first | with_reducible exact xr_h | with_reducible exact xr_m cT_0 | with_reducible exact xr_m cT_1 | with_reducible exact xr_m cT_2 | with_reducible exact xr_m cT_3 | with_reducible exact xr_m cT_4 | refine xr_t ?_)) (j := j) (by first | (simp only [xlit, nI_add, pk_mul]; done) | rfl | (simp only [xlit, nI_add, pk_mul]; congr 1; omega)) ⟨by first | omega | decide, by first | decide | omega⟩ (hT.1.2.2.1 j hj) dX0_bird_65 rfl ?_
      exact x_iret B rfl ⟨by simp only [sBird, e]; rfl, rfl⟩ dX0_bird_66 ⟨by first | omega | decide, by first | omega | decide⟩
    by_cases w2 : w = 2
    · subst w2
      refine x_iload2 B 12 dX0_bird_11 rfl ?_
      refine x_tsw B 67 (55) dX0_bird_12 (by decide) (by decide) ?_
      refine x_aload0 B 68 dX0_bird_67 rfl (by first | rfl | exact xisR_rf _) ?_
      refine g_X0_27_X0 B 71 (by repeat (first | with_reducible exact xr_h | with_reducible exact xr_m cT_0 | with_reducible exact xr_m cT_1 | with_reducible exact xr_m cT_2 | with_reducible exact xr_m cT_3 | with_reducible exact xr_m cT_4 | refine xr_t ?_)) dX0_bird_68 rfl ?_ ; try rw [e7]
      refine g_X0_75_X1 B 74 (by repeat (first | with_reducible exact xr_h | with_reducible exact xr_m cT_0 | with_reducible exact xr_m cT_1 | with_reducible exact xr_m cT_2 | with_reducible exact xr_m cT_3 | with_reducible exact xr_m cT_4 | refine xr_t ?_)) dX0_bird_71 rfl ?_
      rw [hT.1.1]
      refine x_iload1 B 75 dX0_bird_74 rfl ?_
      refine x_ishr B 76 dX0_bird_75 rfl ?_
      rw [xshr (by omega) (by omega)]
      refine x_iconst B 77 (v := 1) dX0_bird_76 (by decide) rfl ?_
      refine x_iand B 78 dX0_bird_77 rfl ?_
      rw [xand1 (by have : N.2.2.2.2.1 / 2 ^ j ≤ N.2.2.2.2.1 := Nat.div_le_self _ _; omega)]
      exact x_iret B rfl ⟨by simp only [sBird, e]; rfl, rfl⟩ dX0_bird_78 ⟨by first | omega | decide, by first | omega | decide⟩
    by_cases w3 : w = 3
    · subst w3
      refine x_iload2 B 12 dX0_bird_11 rfl ?_
      refine x_tsw B 79 (67) dX0_bird_12 (by decide) (by decide) ?_
      refine x_aload0 B 80 dX0_bird_79 rfl (by first | rfl | exact xisR_rf _) ?_
      refine g_X0_27_X0 B 83 (by repeat (first | with_reducible exact xr_h | with_reducible exact xr_m cT_0 | with_reducible exact xr_m cT_1 | with_reducible exact xr_m cT_2 | with_reducible exact xr_m cT_3 | with_reducible exact xr_m cT_4 | refine xr_t ?_)) dX0_bird_80 rfl ?_ ; try rw [e7]
      refine x_iload1 B 84 dX0_bird_83 rfl ?_
      refine x_callV B 87 (m_X1_ownerT j hT hO h2 (by omega)) [1, 0] rfl ⟨_, _, _, (by repeat (first | with_reducible exact xr_h | with_reducible exact xr_m cT_0 | with_reducible exact xr_m cT_1 | with_reducible exact xr_m cT_2 | with_reducible exact xr_m cT_3 | with_reducible exact xr_m cT_4 | refine xr_t ?_)), rfl, rfl⟩ q1222 q1223 q1224 q89 q1225 hd_X1_owner (by decide) ⟨by first | decide | omega, by first | decide | omega⟩ ⟨by first | decide | omega, by first | decide | omega⟩ rfl (Nat.le_of_ble_eq_true rfl) dX0_bird_84 rfl (fun _ _ _ h => h.elim) ?_
      rintro _ _ ⟨rfl, rfl⟩
      try simp only [xst, xput, xpre, List.set_cons_zero, List.set_cons_succ]
      exact x_iret B rfl ⟨by simp only [sBird, e]; rfl, rfl⟩ dX0_bird_87 ⟨by first | omega | decide, by first | omega | decide⟩
    by_cases w4 : w = 4
    · subst w4
      refine x_iload2 B 12 dX0_bird_11 rfl ?_
      refine x_tsw B 88 (76) dX0_bird_12 (by decide) (by decide) ?_
      refine x_aload0 B 89 dX0_bird_88 rfl (by first | rfl | exact xisR_rf _) ?_
      refine g_X0_27_X0 B 92 (by repeat (first | with_reducible exact xr_h | with_reducible exact xr_m cT_0 | with_reducible exact xr_m cT_1 | with_reducible exact xr_m cT_2 | with_reducible exact xr_m cT_3 | with_reducible exact xr_m cT_4 | refine xr_t ?_)) dX0_bird_89 rfl ?_ ; try rw [e7]
      refine x_iload1 B 93 dX0_bird_92 rfl ?_
      refine x_callV B 96 (m_X1_wellT j hT hO hj) [1] rfl ⟨_, _, _, (by repeat (first | with_reducible exact xr_h | with_reducible exact xr_m cT_0 | with_reducible exact xr_m cT_1 | with_reducible exact xr_m cT_2 | with_reducible exact xr_m cT_3 | with_reducible exact xr_m cT_4 | refine xr_t ?_)), rfl, rfl⟩ q1226 q1227 q1228 q89 q1229 hd_X1_well (by decide) ⟨by first | decide | omega, by first | decide | omega⟩ ⟨by first | decide | omega, by first | decide | omega⟩ rfl (Nat.le_of_ble_eq_true rfl) dX0_bird_93 rfl (fun _ _ _ h => h.elim) ?_
      rintro _ _ ⟨rfl, rfl⟩
      try simp only [xst, xput, xpre, List.set_cons_zero, List.set_cons_succ]
      exact x_iret B rfl ⟨by simp only [sBird, e]; rfl, rfl⟩ dX0_bird_96 ⟨by first | omega | decide, by first | omega | decide⟩
    refine x_iload2 B 12 dX0_bird_11 rfl ?_
    refine x_tsw B 97 (85) dX0_bird_12 (by rw [if_pos (sw_out (n := 4) (by omega) (fun j hj => by (obtain rfl | rfl | rfl | rfl | rfl : j = 0 ∨ j = 1 ∨ j = 2 ∨ j = 3 ∨ j = 4 := by omega) <;> first | exact w0 | exact w1 | exact w2 | exact w3 | exact w4))]) (by decide) ?_
    refine x_bipush B 99 (v := (-3)) dX0_bird_97 (by decide) rfl ?_
    exact x_iret B rfl ⟨by simp only [sBird, e, w0, w1, w2, w3, w4, if_false], rfl⟩ dX0_bird_99 ⟨by first | omega | decide, by first | omega | decide⟩
theorem m_X0_man (hC : CB iv rn bf bp nb nm kd N) (e7 : ad 7 = rn.1 0) (m w : Int32) : XC D yX0_man (ws_ yX0_man cX0_man 3 (Option.some Jvm.ClassFile.FieldType.int)) 2 80 (0) (0) [.ref h, .int m, .int w] [cR h ad iv tg, cT D h rn] (fun r cs' => r = some (.int (sMan nm N m w)) ∧ cs' = [cR h ad iv tg, cT D h rn]) x0 := by
  refine XC.of (by decide) (by simp [Value.category]) (Nat.le_of_ble_eq_true rfl) fun X B => ?_
  show WX D X [cR h ad iv tg, cT D h rn] 0 0 0 [some (.ref h), some (.int m), some (.int w)] []
  obtain ⟨h1, h2, h5, hT, hG, hB⟩ := hC
  have hO := hG.1
  have hnm := hO.2.1
  refine x_aload0 B 1 dX0_man_0 rfl (by first | rfl | exact xisR_rf _) ?_
  refine x_iload1 B 2 dX0_man_1 rfl ?_
  refine x_callV B 5 (m_X0_isMan m nm h2 (by omega)) [0] rfl ⟨_, _, _, (by repeat (first | with_reducible exact xr_h | with_reducible exact xr_m cT_0 | with_reducible exact xr_m cT_1 | with_reducible exact xr_m cT_2 | with_reducible exact xr_m cT_3 | with_reducible exact xr_m cT_4 | refine xr_t ?_)), rfl, rfl⟩ q1234 q1236 qs24 q88 q1237 hd_X0_isMan (by decide) ⟨by first | decide | omega, by first | decide | omega⟩ ⟨by first | decide | omega, by first | decide | omega⟩ rfl (Nat.le_of_ble_eq_true rfl) dX0_man_2 rfl (fun _ _ _ h => h.elim) ?_
  rintro _ _ ⟨rfl, rfl⟩
  try simp only [xst, xput, xpre, List.set_cons_zero, List.set_cons_succ]
  rcases toR_c m 0 nm (by omega) with ⟨e, e'⟩ | ⟨j, -, hj, rfl, e, e'⟩
  · rw [e']
    refine x_if_ne_f (tp := 11) B 8 dX0_man_5 (by decide) rfl rfl ?_
    refine x_bipush B 10 (v := (-2)) dX0_man_8 (by decide) rfl ?_
    exact x_iret B rfl ⟨by simp only [sMan, e], rfl⟩ dX0_man_10 ⟨by first | omega | decide, by first | omega | decide⟩
  · rw [e']
    refine x_if_ne_t B 11 dX0_man_5 (by decide) (by decide) ?_
    refine x_iload2 B 12 dX0_man_11 rfl ?_
    refine x_if_ne B 27 15 dX0_man_12 (by decide) rfl (fun w0 => ?_) (fun w0 => ?_)
    · refine x_iload2 B 28 dX0_man_27 rfl ?_
      refine x_iconst B 29 (v := 1) dX0_man_28 (by decide) rfl ?_
      refine x_icmp_ne B 44 32 dX0_man_29 (by decide) rfl (fun w1 => ?_) (fun w1 => ?_)
      · refine x_bipush B 46 (v := (-3)) dX0_man_44 (by decide) rfl ?_
        exact x_iret B rfl ⟨by simp only [sMan, e, w0, w1, if_false], rfl⟩ dX0_man_46 ⟨by first | omega | decide, by first | omega | decide⟩
      · refine x_aload0 B 33 dX0_man_32 rfl (by first | rfl | exact xisR_rf _) ?_
        refine g_X0_27_X0 B 36 (by repeat (first | with_reducible exact xr_h | with_reducible exact xr_m cT_0 | with_reducible exact xr_m cT_1 | with_reducible exact xr_m cT_2 | with_reducible exact xr_m cT_3 | with_reducible exact xr_m cT_4 | refine xr_t ?_)) dX0_man_33 rfl ?_ ; try rw [e7]
        refine g_X0_78_X1 B 39 (by repeat (first | with_reducible exact xr_h | with_reducible exact xr_m cT_0 | with_reducible exact xr_m cT_1 | with_reducible exact xr_m cT_2 | with_reducible exact xr_m cT_3 | with_reducible exact xr_m cT_4 | refine xr_t ?_)) dX0_man_36 rfl ?_
        refine x_iload1 B 40 dX0_man_39 rfl ?_
        refine x_ialdv B 41 (by repeat (first | with_reducible exact xr_h | with_reducible exact xr_m cT_0 | with_reducible exact xr_m cT_1 | with_reducible exact xr_m cT_2 | with_reducible exact xr_m cT_3 | with_reducible exact xr_m cT_4 | refine xr_t ?_)) (j := j) (by first | (simp only [xlit, nI_add, pk_mul]; done) | rfl | (simp only [xlit, nI_add, pk_mul]; congr 1; omega)) ⟨by first | omega | decide, by first | decide | omega⟩ (hT.1.2.2.2.2.2 j hj) dX0_man_40 rfl ?_
        refine x_goto B 46 dX0_man_41 (by decide) ?_
        exact x_iret B rfl ⟨by simp only [sMan, e, w0, w1, if_true]; rfl, rfl⟩ dX0_man_46 ⟨by first | omega | decide, by first | omega | decide⟩
    · refine x_aload0 B 16 dX0_man_15 rfl (by first | rfl | exact xisR_rf _) ?_
      refine g_X0_27_X0 B 19 (by repeat (first | with_reducible exact xr_h | with_reducible exact xr_m cT_0 | with_reducible exact xr_m cT_1 | with_reducible exact xr_m cT_2 | with_reducible exact xr_m cT_3 | with_reducible exact xr_m cT_4 | refine xr_t ?_)) dX0_man_16 rfl ?_ ; try rw [e7]
      refine g_X0_89_X1 B 22 (by repeat (first | with_reducible exact xr_h | with_reducible exact xr_m cT_0 | with_reducible exact xr_m cT_1 | with_reducible exact xr_m cT_2 | with_reducible exact xr_m cT_3 | with_reducible exact xr_m cT_4 | refine xr_t ?_)) dX0_man_19 rfl ?_
      refine x_iload1 B 23 dX0_man_22 rfl ?_
      refine x_ialdv B 24 (by repeat (first | with_reducible exact xr_h | with_reducible exact xr_m cT_0 | with_reducible exact xr_m cT_1 | with_reducible exact xr_m cT_2 | with_reducible exact xr_m cT_3 | with_reducible exact xr_m cT_4 | refine xr_t ?_)) (j := j) (by first | (simp only [xlit, nI_add, pk_mul]; done) | rfl | (simp only [xlit, nI_add, pk_mul]; congr 1; omega)) ⟨by first | omega | decide, by first | decide | omega⟩ (hT.1.2.2.2.2.1 j hj) dX0_man_23 rfl ?_
      refine x_goto B 46 dX0_man_24 (by decide) ?_
      exact x_iret B rfl ⟨by simp only [sMan, e, w0, if_true], rfl⟩ dX0_man_46 ⟨by first | omega | decide, by first | omega | decide⟩
theorem m_X0_known (hC : CB iv rn bf bp nb nm kd N) (e7 : ad 7 = rn.1 0) (e8 : ad 8 = rt.1 0) (b w n : Int32) : XC D yX0_known (ws_ yX0_known cX0_known 4 (Option.some Jvm.ClassFile.FieldType.int)) 9 360 (0) (0) [.ref h, .int b, .int w, .int n] [cR h ad iv tg, cT D h rn, cT D h rt, cBr D ad bf, bp, cSd D ad sf] (fun r cs' => r = some (.int (sKnown nb nm kd N b w n)) ∧ ∃ rt' iv' sf', rt'.1 = rt.1 ∧ J4 iv iv' ∧ cs' = [cR h ad iv' tg, cT D h rn, cT D h rt', cBr D ad bf, bp, cSd D ad sf']) x0 := by
  refine XC.of (by decide) (by simp [Value.category]) (Nat.le_of_ble_eq_true rfl) fun X B => ?_
  show WX D X [cR h ad iv tg, cT D h rn, cT D h rt, cBr D ad bf, bp, cSd D ad sf] 0 0 0 [some (.ref h), some (.int b), some (.int w), some (.int n)] []
  obtain ⟨h1, h2, h5, hT, hG, hB⟩ := hC
  have hO := hG.1
  have hE := hG.2
  have hnb := hO.1
  refine x_aload0 B 1 dX0_known_0 rfl (by first | rfl | exact xisR_rf _) ?_
  refine x_iload1 B 2 dX0_known_1 rfl ?_
  refine x_callV B 5 (m_X0_isBird b nb h1 hnb) [0] rfl ⟨_, _, _, (by repeat (first | with_reducible exact xr_h | with_reducible exact xr_m cT_0 | with_reducible exact xr_m cT_1 | with_reducible exact xr_m cT_2 | with_reducible exact xr_m cT_3 | with_reducible exact xr_m cT_4 | refine xr_t ?_)), rfl, rfl⟩ q1192 q1194 qs22 q88 q1195 hd_X0_isBird (by decide) ⟨by first | decide | omega, by first | decide | omega⟩ ⟨by first | decide | omega, by first | decide | omega⟩ rfl (Nat.le_of_ble_eq_true rfl) dX0_known_2 rfl (fun _ _ _ h => h.elim) ?_
  rintro _ _ ⟨rfl, rfl⟩
  try simp only [xst, xput, xpre, List.set_cons_zero, List.set_cons_succ]
  rcases toR_c b 0 nb (by omega) with ⟨e, e'⟩ | ⟨j, -, hj, rfl, e, e'⟩
  · rw [e']
    refine x_if_eq_t B 15 dX0_known_5 (by decide) rfl ?_
    refine x_bipush B 17 (v := (-2)) dX0_known_15 (by decide) rfl ?_
    exact x_iret B rfl ⟨by simp only [sKnown, e], rt, iv, sf, rfl, fun j hj => rfl, rfl⟩ dX0_known_17 ⟨by first | omega | decide, by first | omega | decide⟩
  rw [e']
  refine x_if_eq_f (tp := 15) B 8 dX0_known_5 (by decide) rfl (by decide) ?_
  refine x_iload2 B 9 dX0_known_8 rfl ?_
  refine x_callS B 12 (m_X0_isWord w) [] rfl q1242 q1243 q88 q1244 hd_X0_isWord rfl ⟨by first | decide | omega, by first | decide | omega⟩ ⟨by first | decide | omega, by first | decide | omega⟩ rfl (Nat.le_of_ble_eq_true rfl) dX0_known_9 rfl (fun _ _ _ h => h.elim) ?_
  rintro _ _ ⟨rfl, rfl⟩
  try simp only [xst, xput, xpre, List.set_cons_zero, List.set_cons_succ]
  rcases toR_c w 0 10 (by omega) with ⟨e2, e2'⟩ | ⟨w, -, hw, rfl, e2, e2'⟩
  · rw [e2']
    refine x_if_ne_f (tp := 18) B 15 dX0_known_12 (by decide) rfl rfl ?_
    refine x_bipush B 17 (v := (-2)) dX0_known_15 (by decide) rfl ?_
    exact x_iret B rfl ⟨by simp only [sKnown, e, e2], rt, iv, sf, rfl, fun j hj => rfl, rfl⟩ dX0_known_17 ⟨by first | omega | decide, by first | omega | decide⟩
  rw [e2']
  refine x_if_ne_t B 18 dX0_known_12 (by decide) (by decide) ?_
  refine x_iload3 B 19 dX0_known_18 rfl ?_
  refine x_i2l B 20 dX0_known_19 rfl ?_
  refine x_lconst B 21 (v := 0) dX0_known_20 (by decide) rfl ?_
  refine x_ldc2 B 24 dX0_known_21 q1246 rfl ?_
  refine x_callS B 27 (m_X0_in _ _ _) [] rfl q290 q291 q88 q292 hd_X0_in rfl ⟨by first | decide | omega, by first | decide | omega⟩ ⟨by first | decide | omega, by first | decide | omega⟩ rfl (Nat.le_of_ble_eq_true rfl) dX0_known_24 rfl (fun _ _ _ h => h.elim) ?_
  rintro _ _ ⟨rfl, rfl⟩
  try simp only [xst, xput, xpre, List.set_cons_zero, List.set_cons_succ]
  rw [show x_in n.toInt64 0 60 = bI (toR n 0 61).isSome from xinR n 0 60 rfl rfl (by decide) (by decide)]
  rcases toR_c n 0 61 (by omega) with ⟨e3, e3'⟩ | ⟨n, -, hn, rfl, e3, e3'⟩
  · rw [e3']
    refine x_if_eq_t B 55 dX0_known_27 (by decide) rfl ?_
    refine x_bipush B 57 (v := (-3)) dX0_known_55 (by decide) rfl ?_
    exact x_iret B rfl ⟨by simp only [sKnown, e, e2, e3], rt, iv, sf, rfl, fun j hj => rfl, rfl⟩ dX0_known_57 ⟨by first | omega | decide, by first | omega | decide⟩
  rw [e3']
  refine x_if_eq_f (tp := 55) B 30 dX0_known_27 (by decide) rfl (by decide) ?_
  refine x_aload0 B 31 dX0_known_30 rfl (by first | rfl | exact xisR_rf _) ?_
  refine g_X0_120_X0 B 34 (by repeat (first | with_reducible exact xr_h | with_reducible exact xr_m cT_0 | with_reducible exact xr_m cT_1 | with_reducible exact xr_m cT_2 | with_reducible exact xr_m cT_3 | with_reducible exact xr_m cT_4 | refine xr_t ?_)) dX0_known_31 rfl ?_ ; try rw [e8]
  refine x_aload0 B 35 dX0_known_34 rfl (by first | rfl | exact xisR_rf _) ?_
  refine g_X0_27_X0 B 38 (by repeat (first | with_reducible exact xr_h | with_reducible exact xr_m cT_0 | with_reducible exact xr_m cT_1 | with_reducible exact xr_m cT_2 | with_reducible exact xr_m cT_3 | with_reducible exact xr_m cT_4 | refine xr_t ?_)) dX0_known_35 rfl ?_ ; try rw [e7]
  refine x_callV B 41 (m_X1_setT (r := rt) (ro := rn) hT.2) [2, 1] rfl ⟨_, _, _, (by repeat (first | with_reducible exact xr_h | with_reducible exact xr_m cT_0 | with_reducible exact xr_m cT_1 | with_reducible exact xr_m cT_2 | with_reducible exact xr_m cT_3 | with_reducible exact xr_m cT_4 | refine xr_t ?_)), rfl, rfl⟩ q196 q197 q198 q89 q199 hd_X1_set (by decide) ⟨by first | decide | omega, by first | decide | omega⟩ ⟨by first | decide | omega, by first | decide | omega⟩ rfl (Nat.le_of_ble_eq_true rfl) dX0_known_38 rfl (fun _ _ _ h => h.elim) ?_
  rintro _ _ ⟨rfl, rt1, et1, hS1, rfl⟩
  try simp only [xst, xput, xpre, List.set_cons_zero, List.set_cons_succ]
  rw [← et1]
  refine x_iload3 B 42 dX0_known_41 rfl ?_
  refine x_callV B 45 (m_X1_goT (r := rt1) (ad := ad) (tg := tg) (sf := sf) n (by omega) (hS1 nb nm N hnb hO.2.1 hT) hO (by omega) h1 h2 hB h5) [2, 0, 3, 4, 5] rfl ⟨_, _, _, (by repeat (first | with_reducible exact xr_h | with_reducible exact xr_m cT_0 | with_reducible exact xr_m cT_1 | with_reducible exact xr_m cT_2 | with_reducible exact xr_m cT_3 | with_reducible exact xr_m cT_4 | refine xr_t ?_)), rfl, rfl⟩ q1247 q1248 q1249 q89 q1250 hd_X1_go (by decide) ⟨by first | decide | omega, by first | decide | omega⟩ ⟨by first | decide | omega, by first | decide | omega⟩ rfl (Nat.le_of_ble_eq_true rfl) dX0_known_42 rfl (fun _ _ _ h => h.elim) ?_
  rintro _ _ ⟨rfl, rt2, iv2, sf2, et2, hS2, hJ2, rfl⟩
  try simp only [xst, xput, xpre, List.set_cons_zero, List.set_cons_succ]
  rw [← et2]
  refine g_X0_92_X1 B 48 (by repeat (first | with_reducible exact xr_h | with_reducible exact xr_m cT_0 | with_reducible exact xr_m cT_1 | with_reducible exact xr_m cT_2 | with_reducible exact xr_m cT_3 | with_reducible exact xr_m cT_4 | refine xr_t ?_)) dX0_known_45 rfl ?_
  refine x_iload1 B 49 dX0_known_48 rfl ?_
  refine x_aalds B 50 (f := (fun b => some (rt2.1 (5 + b)))) (t0 := 4) rfl rfl (by repeat (first | with_reducible exact xr_h | with_reducible exact xr_m cT_0 | with_reducible exact xr_m cT_1 | with_reducible exact xr_m cT_2 | with_reducible exact xr_m cT_3 | with_reducible exact xr_m cT_4 | refine xr_t ?_)) (j := j) (by first | (simp only [xlit, nI_add, pk_mul]; done) | rfl | (simp only [xlit, nI_add, pk_mul]; congr 1; omega)) ⟨by first | omega | decide, by first | decide | omega⟩ rfl dX0_known_49 rfl ?_
  refine x_iload2 B 51 dX0_known_50 rfl ?_
  refine x_baldv B 52 (by repeat (first | exact xr_m (cT_K (show j < 8 by omega)) | apply xr_t)) (j := w) (by first | (simp only [xlit, nI_add, pk_mul]; done) | rfl | (simp only [xlit, nI_add, pk_mul]; congr 1; omega)) ⟨by first | omega | decide, by first | decide | omega⟩ (hS2.1.2.2.2.1 j w hj hw) dX0_known_51 rfl ?_
  refine x_goto B 57 dX0_known_52 (by decide) ?_
  exact x_iret B rfl ⟨by simp only [sKnown, e, e2, e3], rt2, iv2, sf2, et2.trans et1, hJ2, rfl⟩ dX0_known_57 ⟨by first | omega | decide, by first | omega | decide⟩
theorem m_X0_evening (hC : CB iv rn bf bp nb nm kd N) (hU : CU bs nb nm kd U) (h11 : iv 11 = nI U.length) (e7 : ad 7 = rn.1 0) (n : Int32) (q : HU) (hq : sEvening nb nm kd N U n = q) : XC D yX0_evening (ws_ yX0_evening cX0_evening 2 (Option.some Jvm.ClassFile.FieldType.int)) 9 360 (13) (111) [.ref h, .int n] [cR h ad iv tg, cT D h rn, cBk D ad bs, cTs D h bs, cBr D ad bf, bp, cSd D ad sf] (fun r cs' => r = some (.int q.1) ∧ ∃ rn' iv' bs' sf', rn'.1 = rn.1 ∧ CB iv' rn' bf bp nb nm kd q.2.1 ∧ CU bs' nb nm kd q.2.2 ∧ iv' 11 = nI q.2.2.length ∧ JX iv iv' ∧ cs' = [cR h ad iv' tg, cT D h rn', cBk D ad bs', cTs D h bs', cBr D ad bf, bp, cSd D ad sf']) x0 := by
  refine XC.of (by decide) (by simp [Value.category]) (Nat.le_of_ble_eq_true rfl) fun X B => ?_
  show WX D X [cR h ad iv tg, cT D h rn, cBk D ad bs, cTs D h bs, cBr D ad bf, bp, cSd D ad sf] 0 0 0 [some (.ref h), some (.int n)] []
  have hC' := hC
  obtain ⟨h1, h2, h5, hT, hG, hB⟩ := hC
  have hO := hG.1
  have hE := hG.2
  have hnb := hO.1
  refine x_iload1 B 1 dX0_evening_0 rfl ?_
  refine x_i2l B 2 dX0_evening_1 rfl ?_
  refine x_lconst B 3 (v := 1) dX0_evening_2 (by decide) rfl ?_
  refine x_ldc2 B 6 dX0_evening_3 q1407 rfl ?_
  refine x_callS B 9 (m_X0_in _ _ _) [] rfl q290 q291 q88 q292 hd_X0_in rfl ⟨by first | decide | omega, by first | decide | omega⟩ ⟨by first | decide | omega, by first | decide | omega⟩ rfl (Nat.le_of_ble_eq_true rfl) dX0_evening_6 rfl (fun _ _ _ h => h.elim) ?_
  rintro _ _ ⟨rfl, rfl⟩
  try simp only [xst, xput, xpre, List.set_cons_zero, List.set_cons_succ]
  rw [show x_in n.toInt64 1 12 = bI (toR n 1 13).isSome from xinR n 1 12 rfl rfl (by decide) (by decide)]
  rcases toR_c n 1 13 (by omega) with ⟨e, e'⟩ | ⟨n, hn0, hn, rfl, e, e'⟩
  · rw [e']
    refine x_if_ne_f (tp := 15) B 12 dX0_evening_9 (by decide) rfl rfl ?_
    simp only [sEvening, e] at hq; subst hq
    refine x_bipush B 14 (v := (-3)) dX0_evening_12 (by decide) rfl ?_
    exact x_iret B rfl ⟨rfl, rn, iv, bs, sf, rfl, hC', hU, h11, JX.rf, rfl⟩ dX0_evening_14 ⟨by first | omega | decide, by first | omega | decide⟩
  rw [e']
  refine x_if_ne_t B 15 dX0_evening_9 (by decide) (by decide) ?_
  refine x_aload0 B 16 dX0_evening_15 rfl (by first | rfl | exact xisR_rf _) ?_
  refine g_X0_27_X0 B 19 (by repeat (first | with_reducible exact xr_h | with_reducible exact xr_m cT_0 | with_reducible exact xr_m cT_1 | with_reducible exact xr_m cT_2 | with_reducible exact xr_m cT_3 | with_reducible exact xr_m cT_4 | refine xr_t ?_)) dX0_evening_16 rfl ?_ ; try rw [e7]
  refine g_X0_238_X1 B 22 (by repeat (first | with_reducible exact xr_h | with_reducible exact xr_m cT_0 | with_reducible exact xr_m cT_1 | with_reducible exact xr_m cT_2 | with_reducible exact xr_m cT_3 | with_reducible exact xr_m cT_4 | refine xr_t ?_)) dX0_evening_19 rfl ?_
  rw [hT.1.2.1]
  refine x_iload1 B 23 dX0_evening_22 rfl ?_
  refine x_iadd B 24 dX0_evening_23 rfl ?_
  rw [nI_add]
  by_cases c : 999 < N.2.2.2.2.2 + n
  · refine x_sipush B 27 (v := 999) dX0_evening_24 (by decide) rfl ?_
    refine x_icmp_le_f (tp := 33) B 30 dX0_evening_27 (by decide) rfl (by (try simp only [xlit]); first | (rw [nI_leI (by omega) (by omega)]; omega) | (rw [nI_ltI (by omega) (by omega)]; omega) | (rw [nI_eq (by omega) (by omega)]; omega)) ?_
    simp only [sEvening, e] at hq; rw [if_pos c] at hq; subst hq
    refine x_bipush B 32 (v := (-5)) dX0_evening_30 (by decide) rfl ?_
    exact x_iret B rfl ⟨rfl, rn, iv, bs, sf, rfl, hC', hU, h11, JX.rf, rfl⟩ dX0_evening_32 ⟨by first | omega | decide, by first | omega | decide⟩
  refine x_sipush B 27 (v := 999) dX0_evening_24 (by decide) rfl ?_
  refine x_icmp_le_t B 33 dX0_evening_27 (by decide) (by (try simp only [xlit]); first | (rw [nI_leI (by omega) (by omega)]; omega) | (rw [nI_ltI (by omega) (by omega)]; omega) | (rw [nI_eq (by omega) (by omega)]; omega)) ?_
  simp only [sEvening, e] at hq; rw [if_neg c] at hq; subst hq
  refine x_aload0 B 34 dX0_evening_33 rfl (by first | rfl | exact xisR_rf _) ?_
  refine x_callV B 37 (m_X0_note bs U N hU h11 hT hG e7) [0, 1, 2, 3] rfl ⟨_, _, _, (by repeat (first | with_reducible exact xr_h | with_reducible exact xr_m cT_0 | with_reducible exact xr_m cT_1 | with_reducible exact xr_m cT_2 | with_reducible exact xr_m cT_3 | with_reducible exact xr_m cT_4 | refine xr_t ?_)), rfl, rfl⟩ q1408 q1410 qs31 q88 q1411 hd_X0_note (by decide) ⟨by first | decide | omega, by first | decide | omega⟩ ⟨by first | decide | omega, by first | decide | omega⟩ rfl (Nat.le_of_ble_eq_true rfl) dX0_evening_34 rfl (fun _ _ _ h => h.elim) ?_
  rintro _ _ ⟨rfl, iv1, bs1, hU1, h11', hJ1, rfl⟩
  try simp only [xst, xput, xpre, List.set_cons_zero, List.set_cons_succ]
  refine x_aload0 B 38 dX0_evening_37 rfl (by first | rfl | exact xisR_rf _) ?_
  refine g_X0_27_X0 B 41 (by repeat (first | with_reducible exact xr_h | with_reducible exact xr_m cT_0 | with_reducible exact xr_m cT_1 | with_reducible exact xr_m cT_2 | with_reducible exact xr_m cT_3 | with_reducible exact xr_m cT_4 | refine xr_t ?_)) dX0_evening_38 rfl ?_ ; try rw [e7]
  refine x_iload1 B 42 dX0_evening_41 rfl ?_
  refine x_callV B 45 (m_X1_goT (r := rn) (ad := ad) (tg := tg) (sf := sf) n (by omega) hT hO (by omega) ((hJ1 1 (by omega)).trans h1) ((hJ1 2 (by omega)).trans h2) hB ((hJ1 5 (by omega)).trans h5)) [1, 0, 4, 5, 6] rfl ⟨_, _, _, (by repeat (first | with_reducible exact xr_h | with_reducible exact xr_m cT_0 | with_reducible exact xr_m cT_1 | with_reducible exact xr_m cT_2 | with_reducible exact xr_m cT_3 | with_reducible exact xr_m cT_4 | refine xr_t ?_)), rfl, rfl⟩ q1247 q1248 q1249 q89 q1250 hd_X1_go (by decide) ⟨by first | decide | omega, by first | decide | omega⟩ ⟨by first | decide | omega, by first | decide | omega⟩ rfl (Nat.le_of_ble_eq_true rfl) dX0_evening_42 rfl (fun _ _ _ h => h.elim) ?_
  rintro _ _ ⟨rfl, rn2, iv2, sf2, et2, hS2, hJ2, rfl⟩
  try simp only [xst, xput, xpre, List.set_cons_zero, List.set_cons_succ]
  rw [← et2]
  refine g_X0_238_X1 B 48 (by repeat (first | with_reducible exact xr_h | with_reducible exact xr_m cT_0 | with_reducible exact xr_m cT_1 | with_reducible exact xr_m cT_2 | with_reducible exact xr_m cT_3 | with_reducible exact xr_m cT_4 | refine xr_t ?_)) dX0_evening_45 rfl ?_
  rw [hS2.1.2.1, hGo_E]
  have hJ : JX iv iv2 := (JX.j11 hJ1).j4 hJ2
  exact x_iret B rfl ⟨rfl, rn2, iv2, bs1, sf2, et2, hC'.mk2 hJ hS2 ⟨hO.go n (by omega), by rw [hGo_E]; omega⟩, hU1, (hJ2 11 (by omega)).trans h11', hJ, rfl⟩ dX0_evening_48 ⟨by first | omega | decide, by first | omega | decide⟩
theorem m_X0_teach (hC : CB iv rn bf bp nb nm kd N) (hU : CU bs nb nm kd U) (h11 : iv 11 = nI U.length) (e7 : ad 7 = rn.1 0) (b w : Int32) (q : HU) (hq : sTeach nb N U b w = q) : XC D yX0_teach (ws_ yX0_teach cX0_teach 3 (Option.some Jvm.ClassFile.FieldType.int)) 5 200 (13) (111) [.ref h, .int b, .int w] [cR h ad iv tg, cT D h rn, cBk D ad bs, cTs D h bs] (fun r cs' => r = some (.int q.1) ∧ ∃ rn' iv' bs', rn'.1 = rn.1 ∧ CB iv' rn' bf bp nb nm kd q.2.1 ∧ CU bs' nb nm kd q.2.2 ∧ iv' 11 = nI q.2.2.length ∧ JX iv iv' ∧ cs' = [cR h ad iv' tg, cT D h rn', cBk D ad bs', cTs D h bs']) x0 := by
  refine XC.of (by decide) (by simp [Value.category]) (Nat.le_of_ble_eq_true rfl) fun X B => ?_
  show WX D X [cR h ad iv tg, cT D h rn, cBk D ad bs, cTs D h bs] 0 0 0 [some (.ref h), some (.int b), some (.int w)] []
  have hC' := hC
  obtain ⟨h1, h2, h5, hT, hG, hB⟩ := hC
  have hO := hG.1
  have hE := hG.2
  have hnb := hO.1
  refine x_aload0 B 1 dX0_teach_0 rfl (by first | rfl | exact xisR_rf _) ?_
  refine x_iload1 B 2 dX0_teach_1 rfl ?_
  refine x_callV B 5 (m_X0_isBird b nb h1 hnb) [0] rfl ⟨_, _, _, (by repeat (first | with_reducible exact xr_h | with_reducible exact xr_m cT_0 | with_reducible exact xr_m cT_1 | with_reducible exact xr_m cT_2 | with_reducible exact xr_m cT_3 | with_reducible exact xr_m cT_4 | refine xr_t ?_)), rfl, rfl⟩ q1192 q1194 qs22 q88 q1195 hd_X0_isBird (by decide) ⟨by first | decide | omega, by first | decide | omega⟩ ⟨by first | decide | omega, by first | decide | omega⟩ rfl (Nat.le_of_ble_eq_true rfl) dX0_teach_2 rfl (fun _ _ _ h => h.elim) ?_
  rintro _ _ ⟨rfl, rfl⟩
  try simp only [xst, xput, xpre, List.set_cons_zero, List.set_cons_succ]
  rcases toR_c b 0 nb (by omega) with ⟨e, e'⟩ | ⟨j, -, hj, rfl, e, e'⟩
  · rw [e']
    refine x_if_eq_t B 15 dX0_teach_5 (by decide) rfl ?_
    simp only [sTeach, e] at hq; subst hq
    refine x_bipush B 17 (v := (-2)) dX0_teach_15 (by decide) rfl ?_
    exact x_iret B rfl ⟨rfl, rn, iv, bs, rfl, hC', hU, h11, JX.rf, rfl⟩ dX0_teach_17 ⟨by first | omega | decide, by first | omega | decide⟩
  rw [e']
  refine x_if_eq_f (tp := 15) B 8 dX0_teach_5 (by decide) rfl (by decide) ?_
  refine x_iload2 B 9 dX0_teach_8 rfl ?_
  refine x_callS B 12 (m_X0_isWord w) [] rfl q1242 q1243 q88 q1244 hd_X0_isWord rfl ⟨by first | decide | omega, by first | decide | omega⟩ ⟨by first | decide | omega, by first | decide | omega⟩ rfl (Nat.le_of_ble_eq_true rfl) dX0_teach_9 rfl (fun _ _ _ h => h.elim) ?_
  rintro _ _ ⟨rfl, rfl⟩
  try simp only [xst, xput, xpre, List.set_cons_zero, List.set_cons_succ]
  rcases toR_c w 0 10 (by omega) with ⟨e2, e2'⟩ | ⟨w, -, hw, rfl, e2, e2'⟩
  · rw [e2']
    refine x_if_ne_f (tp := 18) B 15 dX0_teach_12 (by decide) rfl rfl ?_
    simp only [sTeach, e, e2] at hq; subst hq
    refine x_bipush B 17 (v := (-2)) dX0_teach_15 (by decide) rfl ?_
    exact x_iret B rfl ⟨rfl, rn, iv, bs, rfl, hC', hU, h11, JX.rf, rfl⟩ dX0_teach_17 ⟨by first | omega | decide, by first | omega | decide⟩
  rw [e2']
  refine x_if_ne_t B 18 dX0_teach_12 (by decide) (by decide) ?_
  simp only [sTeach, e, e2] at hq; subst hq
  refine x_aload0 B 19 dX0_teach_18 rfl (by first | rfl | exact xisR_rf _) ?_
  refine x_callV B 22 (m_X0_note bs U N hU h11 hT hG e7) [0, 1, 2, 3] rfl ⟨_, _, _, (by repeat (first | with_reducible exact xr_h | with_reducible exact xr_m cT_0 | with_reducible exact xr_m cT_1 | with_reducible exact xr_m cT_2 | with_reducible exact xr_m cT_3 | with_reducible exact xr_m cT_4 | refine xr_t ?_)), rfl, rfl⟩ q1408 q1410 qs31 q88 q1411 hd_X0_note (by decide) ⟨by first | decide | omega, by first | decide | omega⟩ ⟨by first | decide | omega, by first | decide | omega⟩ rfl (Nat.le_of_ble_eq_true rfl) dX0_teach_19 rfl (fun _ _ _ h => h.elim) ?_
  rintro _ _ ⟨rfl, iv1, bs1, hU1, h11', hJ1, rfl⟩
  try simp only [xst, xput, xpre, List.set_cons_zero, List.set_cons_succ]
  refine x_aload0 B 23 dX0_teach_22 rfl (by first | rfl | exact xisR_rf _) ?_
  refine g_X0_27_X0 B 26 (by repeat (first | with_reducible exact xr_h | with_reducible exact xr_m cT_0 | with_reducible exact xr_m cT_1 | with_reducible exact xr_m cT_2 | with_reducible exact xr_m cT_3 | with_reducible exact xr_m cT_4 | refine xr_t ?_)) dX0_teach_23 rfl ?_ ; try rw [e7]
  refine x_iload1 B 27 dX0_teach_26 rfl ?_
  refine x_iload2 B 28 dX0_teach_27 rfl ?_
  refine x_iconst B 29 (v := 3) dX0_teach_28 (by decide) rfl ?_
  refine x_callV B 32 (m_X1_gainsT j w 3 hT hO hj hw (by omega)) [1] rfl ⟨_, _, _, (by repeat (first | with_reducible exact xr_h | with_reducible exact xr_m cT_0 | with_reducible exact xr_m cT_1 | with_reducible exact xr_m cT_2 | with_reducible exact xr_m cT_3 | with_reducible exact xr_m cT_4 | refine xr_t ?_)), rfl, rfl⟩ q1417 q1305 q1306 q89 q1307 hd_X1_gains (by decide) ⟨by first | decide | omega, by first | decide | omega⟩ ⟨by first | decide | omega, by first | decide | omega⟩ rfl (Nat.le_of_ble_eq_true rfl) dX0_teach_29 rfl (fun _ _ _ h => h.elim) ?_
  rintro _ _ ⟨rfl, rn2, et2, hS2, rfl⟩
  try simp only [xst, xput, xpre, List.set_cons_zero, List.set_cons_succ]
  replace e7 : ad 7 = rn2.1 0 := by rw [et2]; exact e7
  refine x_aload0 B 33 dX0_teach_32 rfl (by first | rfl | exact xisR_rf _) ?_
  refine g_X0_27_X0 B 36 (by repeat (first | with_reducible exact xr_h | with_reducible exact xr_m cT_0 | with_reducible exact xr_m cT_1 | with_reducible exact xr_m cT_2 | with_reducible exact xr_m cT_3 | with_reducible exact xr_m cT_4 | refine xr_t ?_)) dX0_teach_33 rfl ?_ ; try rw [e7]
  refine g_X0_92_X1 B 39 (by repeat (first | with_reducible exact xr_h | with_reducible exact xr_m cT_0 | with_reducible exact xr_m cT_1 | with_reducible exact xr_m cT_2 | with_reducible exact xr_m cT_3 | with_reducible exact xr_m cT_4 | refine xr_t ?_)) dX0_teach_36 rfl ?_
  refine x_iload1 B 40 dX0_teach_39 rfl ?_
  refine x_aalds B 41 (f := (fun b => some (rn2.1 (5 + b)))) (t0 := 4) rfl rfl (by repeat (first | with_reducible exact xr_h | with_reducible exact xr_m cT_0 | with_reducible exact xr_m cT_1 | with_reducible exact xr_m cT_2 | with_reducible exact xr_m cT_3 | with_reducible exact xr_m cT_4 | refine xr_t ?_)) (j := j) (by first | (simp only [xlit, nI_add, pk_mul]; done) | rfl | (simp only [xlit, nI_add, pk_mul]; congr 1; omega)) ⟨by first | omega | decide, by first | decide | omega⟩ rfl dX0_teach_40 rfl ?_
  refine x_iload2 B 42 dX0_teach_41 rfl ?_
  refine x_baldv B 43 (by repeat (first | exact xr_m (cT_K (show j < 8 by omega)) | apply xr_t)) (j := w) (by first | (simp only [xlit, nI_add, pk_mul]; done) | rfl | (simp only [xlit, nI_add, pk_mul]; congr 1; omega)) ⟨by first | omega | decide, by first | decide | omega⟩ (hS2.1.2.2.2.1 j w hj hw) dX0_teach_42 rfl ?_
  exact x_iret B rfl ⟨rfl, rn2, iv1, bs1, et2, hC'.mk2 (JX.j11 hJ1) hS2 ⟨hO.gain j w 3, hE⟩, hU1, h11', JX.j11 hJ1, rfl⟩ dX0_teach_43 ⟨by first | omega | decide, by first | omega | decide⟩
theorem m_X0_moult (hC : CB iv rn bf bp nb nm kd N) (hU : CU bs nb nm kd U) (h11 : iv 11 = nI U.length) (e7 : ad 7 = rn.1 0) (b : Int32) (q : HU) (hq : sMoult nb N U b = q) : XC D yX0_moult (ws_ yX0_moult cX0_moult 4 (Option.some Jvm.ClassFile.FieldType.int)) 5 200 (13) (111) [.ref h, .int b] [cR h ad iv tg, cT D h rn, cBk D ad bs, cTs D h bs] (fun r cs' => r = some (.int q.1) ∧ ∃ rn' iv' bs', rn'.1 = rn.1 ∧ CB iv' rn' bf bp nb nm kd q.2.1 ∧ CU bs' nb nm kd q.2.2 ∧ iv' 11 = nI q.2.2.length ∧ JX iv iv' ∧ cs' = [cR h ad iv' tg, cT D h rn', cBk D ad bs', cTs D h bs']) x0 := by
  refine XC.of (by decide) (by simp [Value.category]) (Nat.le_of_ble_eq_true rfl) fun X B => ?_
  show WX D X [cR h ad iv tg, cT D h rn, cBk D ad bs, cTs D h bs] 0 0 0 [some (.ref h), some (.int b), none, none] []
  have hC' := hC
  obtain ⟨h1, h2, h5, hT, hG, hB⟩ := hC
  have hO := hG.1
  have hE := hG.2
  have hnb := hO.1
  refine x_aload0 B 1 dX0_moult_0 rfl (by first | rfl | exact xisR_rf _) ?_
  refine x_iload1 B 2 dX0_moult_1 rfl ?_
  refine x_callV B 5 (m_X0_isBird b nb h1 hnb) [0] rfl ⟨_, _, _, (by repeat (first | with_reducible exact xr_h | with_reducible exact xr_m cT_0 | with_reducible exact xr_m cT_1 | with_reducible exact xr_m cT_2 | with_reducible exact xr_m cT_3 | with_reducible exact xr_m cT_4 | refine xr_t ?_)), rfl, rfl⟩ q1192 q1194 qs22 q88 q1195 hd_X0_isBird (by decide) ⟨by first | decide | omega, by first | decide | omega⟩ ⟨by first | decide | omega, by first | decide | omega⟩ rfl (Nat.le_of_ble_eq_true rfl) dX0_moult_2 rfl (fun _ _ _ h => h.elim) ?_
  rintro _ _ ⟨rfl, rfl⟩
  try simp only [xst, xput, xpre, List.set_cons_zero, List.set_cons_succ]
  rcases toR_c b 0 nb (by omega) with ⟨e, e'⟩ | ⟨j, -, hj, rfl, e, e'⟩
  · rw [e']
    refine x_if_ne_f (tp := 11) B 8 dX0_moult_5 (by decide) rfl rfl ?_
    simp only [sMoult, e] at hq; subst hq
    refine x_bipush B 10 (v := (-2)) dX0_moult_8 (by decide) rfl ?_
    exact x_iret B rfl ⟨rfl, rn, iv, bs, rfl, hC', hU, h11, JX.rf, rfl⟩ dX0_moult_10 ⟨by first | omega | decide, by first | omega | decide⟩
  rw [e']
  refine x_if_ne_t B 11 dX0_moult_5 (by decide) (by decide) ?_
  simp only [sMoult, e] at hq; subst hq
  refine x_aload0 B 12 dX0_moult_11 rfl (by first | rfl | exact xisR_rf _) ?_
  refine x_callV B 15 (m_X0_note bs U N hU h11 hT hG e7) [0, 1, 2, 3] rfl ⟨_, _, _, (by repeat (first | with_reducible exact xr_h | with_reducible exact xr_m cT_0 | with_reducible exact xr_m cT_1 | with_reducible exact xr_m cT_2 | with_reducible exact xr_m cT_3 | with_reducible exact xr_m cT_4 | refine xr_t ?_)), rfl, rfl⟩ q1408 q1410 qs31 q88 q1411 hd_X0_note (by decide) ⟨by first | decide | omega, by first | decide | omega⟩ ⟨by first | decide | omega, by first | decide | omega⟩ rfl (Nat.le_of_ble_eq_true rfl) dX0_moult_12 rfl (fun _ _ _ h => h.elim) ?_
  rintro _ _ ⟨rfl, iv1, bs1, hU1, h11', hJ1, rfl⟩
  try simp only [xst, xput, xpre, List.set_cons_zero, List.set_cons_succ]
  have sum : ∀ w n, w ≤ n → hSum ((hHalf N j n).1 j) w = hSum ((hHalf N j w).1 j) w := by
    intro w n hwn
    have key : ∀ d v, v < w → (hHalf N j (w + d)).1 j v = (hHalf N j w).1 j v := by
      intro d
      induction d with
      | zero => intro v hv; rfl
      | succ d ih =>
        intro v hv
        rw [← ih v hv]
        show kUp _ j (w + d) _ j v = _
        unfold kUp
        rw [if_neg (by omega)]
        rfl
    have g : ∀ (f g : Nat → Nat) u, (∀ v, v < u → f v = g v) → hSum f u = hSum g u := by
      intro f g u
      induction u with
      | zero => intro _; rfl
      | succ u ih => intro hv; unfold hSum; rw [ih (fun v h => hv v (by omega)), hv u (by omega)]
    exact g _ _ w (fun v hv => by have := key (n - w) v hv; rw [show w + (n - w) = n by omega] at this; exact this)
  have loop : ∀ (m k : Nat), k + m = 10 → ∀ r1 : SR, r1.1 = rn.1 → SRp nb nm r1 (hHalf N j k) → WX D X [cR h ad iv1 tg, cT D h r1, cBk D ad bs1, cTs D h bs1] 13 111 19 [some (.ref h), some (.int (nI j)), some (.int (nI (hSum ((hHalf N j k).1 j) k))), some (.int (nI k))] [] := by
    intro m
    induction m with
    | zero =>
      intro k hk r1 er hS1
      obtain rfl : k = 10 := by omega
      refine x_iload3 B 20 dX0_moult_19 rfl ?_
      refine x_bipush B 22 (v := 10) dX0_moult_20 (by decide) rfl ?_
      refine x_icmp_ge_t B 61 dX0_moult_22 (by decide) (by (try simp only [xlit]); first | (rw [nI_leI (by omega) (by omega)]; omega) | (rw [nI_ltI (by omega) (by omega)]; omega) | (rw [nI_eq (by omega) (by omega)]; omega)) ?_
      refine x_iload2 B 62 dX0_moult_61 rfl ?_
      exact x_iret B rfl ⟨rfl, r1, iv1, bs1, er, hC'.mk2 (JX.j11 hJ1) hS1 ⟨(hO.half j 10).1, by rw [(hO.half j 10).2]; exact hE⟩, hU1, h11', JX.j11 hJ1, rfl⟩ dX0_moult_62 ⟨by first | omega | decide, by first | omega | decide⟩
    | succ m ih =>
      intro k hk r1 er hS1
      have hk1 := (hO.half j k).1.2.2.2.1 j k hj (by omega)
      replace e7 : ad 7 = r1.1 0 := by rw [er]; exact e7
      have hj8 : j < 8 := by omega
      refine x_iload3 B 20 dX0_moult_19 rfl ?_
      refine x_bipush B 22 (v := 10) dX0_moult_20 (by decide) rfl ?_
      refine x_icmp_ge_f (tp := 61) B 25 dX0_moult_22 (by decide) rfl (by (try simp only [xlit]); first | (rw [nI_leI (by omega) (by omega)]; omega) | (rw [nI_ltI (by omega) (by omega)]; omega) | (rw [nI_eq (by omega) (by omega)]; omega)) ?_
      refine x_aload0 B 26 dX0_moult_25 rfl (by first | rfl | exact xisR_rf _) ?_
      refine g_X0_27_X0 B 29 (by repeat (first | with_reducible exact xr_h | with_reducible exact xr_m cT_0 | with_reducible exact xr_m cT_1 | with_reducible exact xr_m cT_2 | with_reducible exact xr_m cT_3 | with_reducible exact xr_m cT_4 | refine xr_t ?_)) dX0_moult_26 rfl ?_ ; try rw [e7]
      refine g_X0_92_X1 B 32 (by repeat (first | with_reducible exact xr_h | with_reducible exact xr_m cT_0 | with_reducible exact xr_m cT_1 | with_reducible exact xr_m cT_2 | with_reducible exact xr_m cT_3 | with_reducible exact xr_m cT_4 | refine xr_t ?_)) dX0_moult_29 rfl ?_
      refine x_iload1 B 33 dX0_moult_32 rfl ?_
      refine x_aalds B 34 (f := (fun b => some (r1.1 (5 + b)))) (t0 := 4) rfl rfl (by repeat (first | with_reducible exact xr_h | with_reducible exact xr_m cT_0 | with_reducible exact xr_m cT_1 | with_reducible exact xr_m cT_2 | with_reducible exact xr_m cT_3 | with_reducible exact xr_m cT_4 | refine xr_t ?_)) (j := j) (by first | (simp only [xlit, nI_add, pk_mul]; done) | rfl | (simp only [xlit, nI_add, pk_mul]; congr 1; omega)) ⟨by first | omega | decide, by first | decide | omega⟩ rfl dX0_moult_33 rfl ?_
      refine x_iload3 B 35 dX0_moult_34 rfl ?_
      refine x_dup2 B 36 dX0_moult_35 rfl rfl rfl ?_
      refine x_baldv B 37 (by repeat (first | exact xr_m (cT_K hj8) | apply xr_t)) (j := k) (by first | (simp only [xlit, nI_add, pk_mul]; done) | rfl | (simp only [xlit, nI_add, pk_mul]; congr 1; omega)) ⟨by first | omega | decide, by first | decide | omega⟩ (hS1.1.2.2.2.1 j k hj (by omega)) dX0_moult_36 rfl ?_
      refine x_iconst B 38 (v := 2) dX0_moult_37 (by decide) rfl ?_
      refine x_idiv B 39 dX0_moult_38 (by decide) rfl ?_
      rw [show nI ((hHalf N j k).1 j k) / 2 = nI ((hHalf N j k).1 j k / 2) from pk_div (by omega) (by decide) (by decide)]
      refine x_i2b B 40 dX0_moult_39 rfl ?_
      rw [cut9 _ (by omega)]
      refine x_bast B 41 (by repeat (first | exact xu_m (cT_upK hj8 _) | apply xu_t)) (j := k) (by first | (simp only [xlit, nI_add, pk_mul]; done) | rfl | (simp only [xlit, nI_add, pk_mul]; congr 1; omega)) ⟨by first | omega | decide, by first | decide | omega⟩ (nar9 _ (by omega)) dX0_moult_40 rfl ?_
      have hS2 : SRp nb nm (r1.1, fUp r1.2.1 j (upd (r1.2.1 j) k (nI ((hHalf N j k).1 j k / 2))), r1.2.2) (hHalf N j (k + 1)) := by
        have e5 : hHalf N j (k + 1) = (kUp (hHalf N j k).1 j k ((hHalf N j k).1 j k / 2), (hHalf N j k).2) := by rw [(hO.half j k).2]; rfl
        rw [e5]
        exact ⟨hS1.1.setK j k _, hS1.2.gain j k (by omega)⟩
      generalize hr2 : ((r1.1, fUp r1.2.1 j (upd (r1.2.1 j) k (nI ((hHalf N j k).1 j k / 2))), r1.2.2) : SR) = r2 at *
      have er2 : r2.1 = r1.1 := by rw [← hr2]
      replace e7 : ad 7 = r2.1 0 := by rw [er2]; exact e7
      refine x_iload2 B 42 dX0_moult_41 rfl ?_
      refine x_aload0 B 43 dX0_moult_42 rfl (by first | rfl | exact xisR_rf _) ?_
      refine g_X0_27_X0 B 46 (by repeat (first | with_reducible exact xr_h | with_reducible exact xr_m cT_0 | with_reducible exact xr_m cT_1 | with_reducible exact xr_m cT_2 | with_reducible exact xr_m cT_3 | with_reducible exact xr_m cT_4 | refine xr_t ?_)) dX0_moult_43 rfl ?_ ; try rw [e7]
      refine g_X0_92_X1 B 49 (by repeat (first | with_reducible exact xr_h | with_reducible exact xr_m cT_0 | with_reducible exact xr_m cT_1 | with_reducible exact xr_m cT_2 | with_reducible exact xr_m cT_3 | with_reducible exact xr_m cT_4 | refine xr_t ?_)) dX0_moult_46 rfl ?_
      refine x_iload1 B 50 dX0_moult_49 rfl ?_
      refine x_aalds B 51 (f := (fun b => some (r2.1 (5 + b)))) (t0 := 4) rfl rfl (by repeat (first | with_reducible exact xr_h | with_reducible exact xr_m cT_0 | with_reducible exact xr_m cT_1 | with_reducible exact xr_m cT_2 | with_reducible exact xr_m cT_3 | with_reducible exact xr_m cT_4 | refine xr_t ?_)) (j := j) (by first | (simp only [xlit, nI_add, pk_mul]; done) | rfl | (simp only [xlit, nI_add, pk_mul]; congr 1; omega)) ⟨by first | omega | decide, by first | decide | omega⟩ rfl dX0_moult_50 rfl ?_
      refine x_iload3 B 52 dX0_moult_51 rfl ?_
      refine x_baldv B 53 (by repeat (first | exact xr_m (cT_K hj8) | apply xr_t)) (j := k) (by first | (simp only [xlit, nI_add, pk_mul]; done) | rfl | (simp only [xlit, nI_add, pk_mul]; congr 1; omega)) ⟨by first | omega | decide, by first | decide | omega⟩ (hS2.1.2.2.2.1 j k hj (by omega)) dX0_moult_52 rfl ?_
      refine x_iadd B 54 dX0_moult_53 rfl ?_
      rw [show nI (hSum ((hHalf N j k).1 j) k) + nI ((hHalf N j (k + 1)).1 j k) = nI (hSum ((hHalf N j (k + 1)).1 j) (k + 1)) by rw [nI_add, ← sum k (k + 1) (by omega)]; rfl]
      refine x_istore2 B 55 dX0_moult_54 rfl ?_
      refine x_iinc3 B 58 dX0_moult_55 rfl (by first | exact xinc _ | rfl) ?_
      refine x_goto B 19 dX0_moult_58 (by decide) ?_
      exact ih (k + 1) (by omega) r2 (er2.trans er) hS2
  refine x_iconst B 16 (v := 0) dX0_moult_15 (by decide) rfl ?_
  refine x_istore2 B 17 dX0_moult_16 rfl ?_
  refine x_iconst B 18 (v := 0) dX0_moult_17 (by decide) rfl ?_
  refine x_istore3 B 19 dX0_moult_18 rfl ?_
  exact loop 10 0 rfl rn rfl hT
theorem m_X0_perch (hC : CB iv rn bf bp nb nm kd N) (hU : CU bs nb nm kd U) (h11 : iv 11 = nI U.length) (e7 : ad 7 = rn.1 0) (b p : Int32) (q : HU) (hq : sPerch nb N U b p = q) : XC D yX0_perch (ws_ yX0_perch cX0_perch 4 (Option.some Jvm.ClassFile.FieldType.int)) 5 200 (13) (111) [.ref h, .int b, .int p] [cR h ad iv tg, cT D h rn, cBk D ad bs, cTs D h bs] (fun r cs' => r = some (.int q.1) ∧ ∃ rn' iv' bs', rn'.1 = rn.1 ∧ CB iv' rn' bf bp nb nm kd q.2.1 ∧ CU bs' nb nm kd q.2.2 ∧ iv' 11 = nI q.2.2.length ∧ JX iv iv' ∧ cs' = [cR h ad iv' tg, cT D h rn', cBk D ad bs', cTs D h bs']) x0 := by
  refine XC.of (by decide) (by simp [Value.category]) (Nat.le_of_ble_eq_true rfl) fun X B => ?_
  show WX D X [cR h ad iv tg, cT D h rn, cBk D ad bs, cTs D h bs] 0 0 0 [some (.ref h), some (.int b), some (.int p), none] []
  have hC' := hC
  obtain ⟨h1, h2, h5, hT, hG, hB⟩ := hC
  have hO := hG.1
  have hE := hG.2
  have hnb := hO.1
  refine x_aload0 B 1 dX0_perch_0 rfl (by first | rfl | exact xisR_rf _) ?_
  refine x_iload1 B 2 dX0_perch_1 rfl ?_
  refine x_callV B 5 (m_X0_isBird b nb h1 hnb) [0] rfl ⟨_, _, _, (by repeat (first | with_reducible exact xr_h | with_reducible exact xr_m cT_0 | with_reducible exact xr_m cT_1 | with_reducible exact xr_m cT_2 | with_reducible exact xr_m cT_3 | with_reducible exact xr_m cT_4 | refine xr_t ?_)), rfl, rfl⟩ q1192 q1194 qs22 q88 q1195 hd_X0_isBird (by decide) ⟨by first | decide | omega, by first | decide | omega⟩ ⟨by first | decide | omega, by first | decide | omega⟩ rfl (Nat.le_of_ble_eq_true rfl) dX0_perch_2 rfl (fun _ _ _ h => h.elim) ?_
  rintro _ _ ⟨rfl, rfl⟩
  try simp only [xst, xput, xpre, List.set_cons_zero, List.set_cons_succ]
  rcases toR_c b 0 nb (by omega) with ⟨e, e'⟩ | ⟨j, -, hj, rfl, e, e'⟩
  · rw [e']
    refine x_if_eq_t B 15 dX0_perch_5 (by decide) rfl ?_
    simp only [sPerch, e] at hq; subst hq
    refine x_bipush B 17 (v := (-2)) dX0_perch_15 (by decide) rfl ?_
    exact x_iret B rfl ⟨rfl, rn, iv, bs, rfl, hC', hU, h11, JX.rf, rfl⟩ dX0_perch_17 ⟨by first | omega | decide, by first | omega | decide⟩
  rw [e']
  refine x_if_eq_f (tp := 15) B 8 dX0_perch_5 (by decide) rfl (by decide) ?_
  refine x_iload2 B 9 dX0_perch_8 rfl ?_
  refine x_callS B 12 (m_X0_isPerch p) [] rfl q1426 q1427 q88 q1428 hd_X0_isPerch rfl ⟨by first | decide | omega, by first | decide | omega⟩ ⟨by first | decide | omega, by first | decide | omega⟩ rfl (Nat.le_of_ble_eq_true rfl) dX0_perch_9 rfl (fun _ _ _ h => h.elim) ?_
  rintro _ _ ⟨rfl, rfl⟩
  try simp only [xst, xput, xpre, List.set_cons_zero, List.set_cons_succ]
  rcases toR_c p 0 4 (by omega) with ⟨e2, e2'⟩ | ⟨p, -, hp, rfl, e2, e2'⟩
  · rw [e2']
    refine x_if_ne_f (tp := 18) B 15 dX0_perch_12 (by decide) rfl rfl ?_
    simp only [sPerch, e, e2] at hq; subst hq
    refine x_bipush B 17 (v := (-2)) dX0_perch_15 (by decide) rfl ?_
    exact x_iret B rfl ⟨rfl, rn, iv, bs, rfl, hC', hU, h11, JX.rf, rfl⟩ dX0_perch_17 ⟨by first | omega | decide, by first | omega | decide⟩
  rw [e2']
  refine x_if_ne_t B 18 dX0_perch_12 (by decide) (by decide) ?_
  have hP := hO.2.2.2.2.1 j hj
  refine x_aload0 B 19 dX0_perch_18 rfl (by first | rfl | exact xisR_rf _) ?_
  refine g_X0_27_X0 B 22 (by repeat (first | with_reducible exact xr_h | with_reducible exact xr_m cT_0 | with_reducible exact xr_m cT_1 | with_reducible exact xr_m cT_2 | with_reducible exact xr_m cT_3 | with_reducible exact xr_m cT_4 | refine xr_t ?_)) dX0_perch_19 rfl ?_ ; try rw [e7]
  refine g_X0_99_X1 B 25 (by repeat (first | with_reducible exact xr_h | with_reducible exact xr_m cT_0 | with_reducible exact xr_m cT_1 | with_reducible exact xr_m cT_2 | with_reducible exact xr_m cT_3 | with_reducible exact xr_m cT_4 | refine xr_t ?_)) dX0_perch_22 rfl ?_
  refine x_iload1 B 26 dX0_perch_25 rfl ?_
  refine x_ialdv B 27 (by repeat (first | with_reducible exact xr_h | with_reducible exact xr_m cT_0 | with_reducible exact xr_m cT_1 | with_reducible exact xr_m cT_2 | with_reducible exact xr_m cT_3 | with_reducible exact xr_m cT_4 | refine xr_t ?_)) (j := j) (by first | (simp only [xlit, nI_add, pk_mul]; done) | rfl | (simp only [xlit, nI_add, pk_mul]; congr 1; omega)) ⟨by first | omega | decide, by first | decide | omega⟩ (hT.1.2.2.1 j hj) dX0_perch_26 rfl ?_
  by_cases c : N.2.1 j = p
  · refine x_istore3 B 28 dX0_perch_27 rfl ?_
    refine x_iload3 B 29 dX0_perch_28 rfl ?_
    refine x_iload2 B 30 dX0_perch_29 rfl ?_
    refine x_icmp_ne_f (tp := 36) B 33 dX0_perch_30 (by decide) rfl (by (try simp only [xlit]); first | (rw [nI_leI (by omega) (by omega)]; omega) | (rw [nI_ltI (by omega) (by omega)]; omega) | (rw [nI_eq (by omega) (by omega)]; omega)) ?_
    simp only [sPerch, e, e2] at hq; rw [if_pos c] at hq; subst hq
    refine x_bipush B 35 (v := (-4)) dX0_perch_33 (by decide) rfl ?_
    exact x_iret B rfl ⟨rfl, rn, iv, bs, rfl, hC', hU, h11, JX.rf, rfl⟩ dX0_perch_35 ⟨by first | omega | decide, by first | omega | decide⟩
  refine x_istore3 B 28 dX0_perch_27 rfl ?_
  refine x_iload3 B 29 dX0_perch_28 rfl ?_
  refine x_iload2 B 30 dX0_perch_29 rfl ?_
  refine x_icmp_ne_t B 36 dX0_perch_30 (by decide) (by (try simp only [xlit]); first | (rw [nI_leI (by omega) (by omega)]; omega) | (rw [nI_ltI (by omega) (by omega)]; omega) | (rw [nI_eq (by omega) (by omega)]; omega)) ?_
  simp only [sPerch, e, e2] at hq; rw [if_neg c] at hq; subst hq
  refine x_aload0 B 37 dX0_perch_36 rfl (by first | rfl | exact xisR_rf _) ?_
  refine x_callV B 40 (m_X0_note bs U N hU h11 hT hG e7) [0, 1, 2, 3] rfl ⟨_, _, _, (by repeat (first | with_reducible exact xr_h | with_reducible exact xr_m cT_0 | with_reducible exact xr_m cT_1 | with_reducible exact xr_m cT_2 | with_reducible exact xr_m cT_3 | with_reducible exact xr_m cT_4 | refine xr_t ?_)), rfl, rfl⟩ q1408 q1410 qs31 q88 q1411 hd_X0_note (by decide) ⟨by first | decide | omega, by first | decide | omega⟩ ⟨by first | decide | omega, by first | decide | omega⟩ rfl (Nat.le_of_ble_eq_true rfl) dX0_perch_37 rfl (fun _ _ _ h => h.elim) ?_
  rintro _ _ ⟨rfl, iv1, bs1, hU1, h11', hJ1, rfl⟩
  try simp only [xst, xput, xpre, List.set_cons_zero, List.set_cons_succ]
  refine x_aload0 B 41 dX0_perch_40 rfl (by first | rfl | exact xisR_rf _) ?_
  refine g_X0_27_X0 B 44 (by repeat (first | with_reducible exact xr_h | with_reducible exact xr_m cT_0 | with_reducible exact xr_m cT_1 | with_reducible exact xr_m cT_2 | with_reducible exact xr_m cT_3 | with_reducible exact xr_m cT_4 | refine xr_t ?_)) dX0_perch_41 rfl ?_ ; try rw [e7]
  refine g_X0_99_X1 B 47 (by repeat (first | with_reducible exact xr_h | with_reducible exact xr_m cT_0 | with_reducible exact xr_m cT_1 | with_reducible exact xr_m cT_2 | with_reducible exact xr_m cT_3 | with_reducible exact xr_m cT_4 | refine xr_t ?_)) dX0_perch_44 rfl ?_
  refine x_iload1 B 48 dX0_perch_47 rfl ?_
  refine x_iload2 B 49 dX0_perch_48 rfl ?_
  refine x_iast B 50 (by repeat (first | exact xu_m (cT_up2 _) | apply xu_t)) (j := j) (by first | (simp only [xlit, nI_add, pk_mul]; done) | rfl | (simp only [xlit, nI_add, pk_mul]; congr 1; omega)) ⟨by first | omega | decide, by first | decide | omega⟩ dX0_perch_49 rfl ?_
  refine x_iload3 B 51 dX0_perch_50 rfl ?_
  exact x_iret B rfl ⟨rfl, _, iv1, bs1, rfl, hC'.mk2 (JX.j11 hJ1) ⟨hT.1.setP j p, hT.2⟩ ⟨hO.setP hp, hE⟩, hU1, h11', JX.j11 hJ1, rfl⟩ dX0_perch_51 ⟨by first | omega | decide, by first | omega | decide⟩
theorem m_X0_cover (hC : CB iv rn bf bp nb nm kd N) (hU : CU bs nb nm kd U) (h11 : iv 11 = nI U.length) (e7 : ad 7 = rn.1 0) (b : Int32) (q : HU) (hq : sCover nb N U b = q) : XC D yX0_cover (ws_ yX0_cover cX0_cover 2 (Option.some Jvm.ClassFile.FieldType.int)) 5 200 (13) (111) [.ref h, .int b] [cR h ad iv tg, cT D h rn, cBk D ad bs, cTs D h bs] (fun r cs' => r = some (.int q.1) ∧ ∃ rn' iv' bs', rn'.1 = rn.1 ∧ CB iv' rn' bf bp nb nm kd q.2.1 ∧ CU bs' nb nm kd q.2.2 ∧ iv' 11 = nI q.2.2.length ∧ JX iv iv' ∧ cs' = [cR h ad iv' tg, cT D h rn', cBk D ad bs', cTs D h bs']) x0 := by
  refine XC.of (by decide) (by simp [Value.category]) (Nat.le_of_ble_eq_true rfl) fun X B => ?_
  show WX D X [cR h ad iv tg, cT D h rn, cBk D ad bs, cTs D h bs] 0 0 0 [some (.ref h), some (.int b)] []
  have hC' := hC
  obtain ⟨h1, h2, h5, hT, hG, hB⟩ := hC
  have hO := hG.1
  have hE := hG.2
  have hnb := hO.1
  have hCv : N.2.2.2.2.1 < 256 := Nat.lt_of_lt_of_le hO.2.2.2.2.2.2.2.2.1 (pow_nb hnb)
  refine x_aload0 B 1 dX0_cover_0 rfl (by first | rfl | exact xisR_rf _) ?_
  refine x_iload1 B 2 dX0_cover_1 rfl ?_
  refine x_callV B 5 (m_X0_isBird b nb h1 hnb) [0] rfl ⟨_, _, _, (by repeat (first | with_reducible exact xr_h | with_reducible exact xr_m cT_0 | with_reducible exact xr_m cT_1 | with_reducible exact xr_m cT_2 | with_reducible exact xr_m cT_3 | with_reducible exact xr_m cT_4 | refine xr_t ?_)), rfl, rfl⟩ q1192 q1194 qs22 q88 q1195 hd_X0_isBird (by decide) ⟨by first | decide | omega, by first | decide | omega⟩ ⟨by first | decide | omega, by first | decide | omega⟩ rfl (Nat.le_of_ble_eq_true rfl) dX0_cover_2 rfl (fun _ _ _ h => h.elim) ?_
  rintro _ _ ⟨rfl, rfl⟩
  try simp only [xst, xput, xpre, List.set_cons_zero, List.set_cons_succ]
  rcases toR_c b 0 nb (by omega) with ⟨e, e'⟩ | ⟨j, -, hj, rfl, e, e'⟩
  · rw [e']
    refine x_if_ne_f (tp := 11) B 8 dX0_cover_5 (by decide) rfl rfl ?_
    simp only [sCover, e] at hq; subst hq
    refine x_bipush B 10 (v := (-2)) dX0_cover_8 (by decide) rfl ?_
    exact x_iret B rfl ⟨rfl, rn, iv, bs, rfl, hC', hU, h11, JX.rf, rfl⟩ dX0_cover_10 ⟨by first | omega | decide, by first | omega | decide⟩
  rw [e']
  refine x_if_ne_t B 11 dX0_cover_5 (by decide) (by decide) ?_
  simp only [sCover, e] at hq; subst hq
  refine x_aload0 B 12 dX0_cover_11 rfl (by first | rfl | exact xisR_rf _) ?_
  refine x_callV B 15 (m_X0_note bs U N hU h11 hT hG e7) [0, 1, 2, 3] rfl ⟨_, _, _, (by repeat (first | with_reducible exact xr_h | with_reducible exact xr_m cT_0 | with_reducible exact xr_m cT_1 | with_reducible exact xr_m cT_2 | with_reducible exact xr_m cT_3 | with_reducible exact xr_m cT_4 | refine xr_t ?_)), rfl, rfl⟩ q1408 q1410 qs31 q88 q1411 hd_X0_note (by decide) ⟨by first | decide | omega, by first | decide | omega⟩ ⟨by first | decide | omega, by first | decide | omega⟩ rfl (Nat.le_of_ble_eq_true rfl) dX0_cover_12 rfl (fun _ _ _ h => h.elim) ?_
  rintro _ _ ⟨rfl, iv1, bs1, hU1, h11', hJ1, rfl⟩
  try simp only [xst, xput, xpre, List.set_cons_zero, List.set_cons_succ]
  have hx : N.2.2.2.2.1 ^^^ 2 ^ j < 2 ^ nb := Nat.xor_lt_two_pow hO.2.2.2.2.2.2.2.2.1 (Nat.pow_lt_pow_right (by decide) hj)
  have hx8 := Nat.lt_of_lt_of_le hx (pow_nb hnb)
  refine x_aload0 B 16 dX0_cover_15 rfl (by first | rfl | exact xisR_rf _) ?_
  refine g_X0_27_X0 B 19 (by repeat (first | with_reducible exact xr_h | with_reducible exact xr_m cT_0 | with_reducible exact xr_m cT_1 | with_reducible exact xr_m cT_2 | with_reducible exact xr_m cT_3 | with_reducible exact xr_m cT_4 | refine xr_t ?_)) dX0_cover_16 rfl ?_ ; try rw [e7]
  refine x_dup B 20 dX0_cover_19 rfl rfl ?_
  refine g_X0_75_X1 B 23 (by repeat (first | with_reducible exact xr_h | with_reducible exact xr_m cT_0 | with_reducible exact xr_m cT_1 | with_reducible exact xr_m cT_2 | with_reducible exact xr_m cT_3 | with_reducible exact xr_m cT_4 | refine xr_t ?_)) dX0_cover_20 rfl ?_
  rw [hT.1.1]
  refine x_iconst B 24 (v := 1) dX0_cover_23 (by decide) rfl ?_
  refine x_iload1 B 25 dX0_cover_24 rfl ?_
  refine x_ishl B 26 dX0_cover_25 rfl ?_
  rw [xshl1 (by omega)]
  refine x_ixor B 27 dX0_cover_26 rfl ?_
  rw [show nI N.2.2.2.2.1 ^^^ nI (2 ^ j) = nI (N.2.2.2.2.1 ^^^ 2 ^ j) from xxor_nI _ _]
  refine s_X0_75_X1 B 30 (by repeat (first | exact xu_m (cT_up0 _ _) | apply xu_t)) dX0_cover_27 rfl ?_
  have hS2 : SRp nb nm (rn.1, rn.2.1, rn.2.2.1, rn.2.2.2.1, rn.2.2.2.2.1, nI (N.2.2.2.2.1 ^^^ 2 ^ j), rn.2.2.2.2.2.2) (N.1, N.2.1, N.2.2.1, N.2.2.2.1, N.2.2.2.2.1 ^^^ 2 ^ j, N.2.2.2.2.2) := ⟨hT.1.setC _, hT.2⟩
  generalize hr2 : ((rn.1, rn.2.1, rn.2.2.1, rn.2.2.2.1, rn.2.2.2.2.1, nI (N.2.2.2.2.1 ^^^ 2 ^ j), rn.2.2.2.2.2.2) : SR) = r2 at *
  have er2 : r2.1 = rn.1 := by rw [← hr2]
  replace e7 : ad 7 = r2.1 0 := by rw [er2]; exact e7
  refine x_aload0 B 31 dX0_cover_30 rfl (by first | rfl | exact xisR_rf _) ?_
  refine g_X0_27_X0 B 34 (by repeat (first | with_reducible exact xr_h | with_reducible exact xr_m cT_0 | with_reducible exact xr_m cT_1 | with_reducible exact xr_m cT_2 | with_reducible exact xr_m cT_3 | with_reducible exact xr_m cT_4 | refine xr_t ?_)) dX0_cover_31 rfl ?_ ; try rw [e7]
  refine g_X0_75_X1 B 37 (by repeat (first | with_reducible exact xr_h | with_reducible exact xr_m cT_0 | with_reducible exact xr_m cT_1 | with_reducible exact xr_m cT_2 | with_reducible exact xr_m cT_3 | with_reducible exact xr_m cT_4 | refine xr_t ?_)) dX0_cover_34 rfl ?_
  rw [hS2.1.1]
  refine x_iload1 B 38 dX0_cover_37 rfl ?_
  refine x_ishr B 39 dX0_cover_38 rfl ?_
  rw [xshr (by show N.2.2.2.2.1 ^^^ 2 ^ j < _; omega) (by omega)]
  refine x_iconst B 40 (v := 1) dX0_cover_39 (by decide) rfl ?_
  refine x_iand B 41 dX0_cover_40 rfl ?_
  rw [xand1 (by have : (N.2.2.2.2.1 ^^^ 2 ^ j) / 2 ^ j ≤ (N.2.2.2.2.1 ^^^ 2 ^ j) := Nat.div_le_self _ _; omega)]
  exact x_iret B rfl ⟨rfl, r2, iv1, bs1, er2, hC'.mk2 (JX.j11 hJ1) hS2 ⟨hO.setC hx, hE⟩, hU1, h11', JX.j11 hJ1, rfl⟩ dX0_cover_41 ⟨by first | omega | decide, by first | omega | decide⟩
theorem m_X0_sit (hC : CB iv rn bf bp nb nm kd N) (hU : CU bs nb nm kd U) (h11 : iv 11 = nI U.length) (e7 : ad 7 = rn.1 0) (m b : Int32) (q : HU) (hq : sSit nb nm N U m b = q) : XC D yX0_sit (ws_ yX0_sit cX0_sit 4 (Option.some Jvm.ClassFile.FieldType.int)) 5 200 (13) (111) [.ref h, .int m, .int b] [cR h ad iv tg, cT D h rn, cBk D ad bs, cTs D h bs] (fun r cs' => r = some (.int q.1) ∧ ∃ rn' iv' bs', rn'.1 = rn.1 ∧ CB iv' rn' bf bp nb nm kd q.2.1 ∧ CU bs' nb nm kd q.2.2 ∧ iv' 11 = nI q.2.2.length ∧ JX iv iv' ∧ cs' = [cR h ad iv' tg, cT D h rn', cBk D ad bs', cTs D h bs']) x0 := by
  refine XC.of (by decide) (by simp [Value.category]) (Nat.le_of_ble_eq_true rfl) fun X B => ?_
  show WX D X [cR h ad iv tg, cT D h rn, cBk D ad bs, cTs D h bs] 0 0 0 [some (.ref h), some (.int m), some (.int b), none] []
  have hC' := hC
  obtain ⟨h1, h2, h5, hT, hG, hB⟩ := hC
  have hO := hG.1
  have hE := hG.2
  have hnb := hO.1
  have hnm := hO.2.1
  refine x_aload0 B 1 dX0_sit_0 rfl (by first | rfl | exact xisR_rf _) ?_
  refine x_iload1 B 2 dX0_sit_1 rfl ?_
  refine x_callV B 5 (m_X0_isMan m nm h2 (by omega)) [0] rfl ⟨_, _, _, (by repeat (first | with_reducible exact xr_h | with_reducible exact xr_m cT_0 | with_reducible exact xr_m cT_1 | with_reducible exact xr_m cT_2 | with_reducible exact xr_m cT_3 | with_reducible exact xr_m cT_4 | refine xr_t ?_)), rfl, rfl⟩ q1234 q1236 qs24 q88 q1237 hd_X0_isMan (by decide) ⟨by first | decide | omega, by first | decide | omega⟩ ⟨by first | decide | omega, by first | decide | omega⟩ rfl (Nat.le_of_ble_eq_true rfl) dX0_sit_2 rfl (fun _ _ _ h => h.elim) ?_
  rintro _ _ ⟨rfl, rfl⟩
  try simp only [xst, xput, xpre, List.set_cons_zero, List.set_cons_succ]
  rcases toR_c m 0 nm (by omega) with ⟨e, e'⟩ | ⟨m, -, hm, rfl, e, e'⟩
  · rw [e']
    refine x_if_eq_t B 21 dX0_sit_5 (by decide) rfl ?_
    simp only [sSit, e] at hq; subst hq
    refine x_bipush B 23 (v := (-2)) dX0_sit_21 (by decide) rfl ?_
    exact x_iret B rfl ⟨rfl, rn, iv, bs, rfl, hC', hU, h11, JX.rf, rfl⟩ dX0_sit_23 ⟨by first | omega | decide, by first | omega | decide⟩
  rw [e']
  refine x_if_eq_f (tp := 21) B 8 dX0_sit_5 (by decide) rfl (by decide) ?_
  have go : ∀ y : Option Nat, toB b nb = some y → b = oI y → (∀ j, y = some j → j < nb) → WX D X [cR h ad iv tg, cT D h rn, cBk D ad bs, cTs D h bs] 0 0 24 [some (.ref h), some (.int (nI m)), some (.int b), none] [] := by
    intro y hy hby hyb
    have hy2 : ∀ j, y = some j → j < 2147483648 := fun j e => by have := hyb j e; omega
    subst hby
    refine x_aload0 B 25 dX0_sit_24 rfl (by first | rfl | exact xisR_rf _) ?_
    refine g_X0_27_X0 B 28 (by repeat (first | with_reducible exact xr_h | with_reducible exact xr_m cT_0 | with_reducible exact xr_m cT_1 | with_reducible exact xr_m cT_2 | with_reducible exact xr_m cT_3 | with_reducible exact xr_m cT_4 | refine xr_t ?_)) dX0_sit_25 rfl ?_ ; try rw [e7]
    refine g_X0_78_X1 B 31 (by repeat (first | with_reducible exact xr_h | with_reducible exact xr_m cT_0 | with_reducible exact xr_m cT_1 | with_reducible exact xr_m cT_2 | with_reducible exact xr_m cT_3 | with_reducible exact xr_m cT_4 | refine xr_t ?_)) dX0_sit_28 rfl ?_
    refine x_iload1 B 32 dX0_sit_31 rfl ?_
    refine x_ialdv B 33 (by repeat (first | with_reducible exact xr_h | with_reducible exact xr_m cT_0 | with_reducible exact xr_m cT_1 | with_reducible exact xr_m cT_2 | with_reducible exact xr_m cT_3 | with_reducible exact xr_m cT_4 | refine xr_t ?_)) (j := m) (by first | (simp only [xlit, nI_add, pk_mul]; done) | rfl | (simp only [xlit, nI_add, pk_mul]; congr 1; omega)) ⟨by first | omega | decide, by first | decide | omega⟩ (hT.1.2.2.2.2.2 m hm) dX0_sit_32 rfl ?_
    by_cases c : N.2.2.2.1 m = y
    · refine x_istore3 B 34 dX0_sit_33 rfl ?_
      refine x_iload3 B 35 dX0_sit_34 rfl ?_
      refine x_iload2 B 36 dX0_sit_35 rfl ?_
      refine x_icmp_ne_f (tp := 42) B 39 dX0_sit_36 (by decide) rfl ((oI_inj (hO.Yb hm) hy2).mpr c) ?_
      simp only [sSit, e, hy] at hq; rw [if_pos c] at hq; subst hq
      refine x_bipush B 41 (v := (-4)) dX0_sit_39 (by decide) rfl ?_
      exact x_iret B rfl ⟨rfl, rn, iv, bs, rfl, hC', hU, h11, JX.rf, rfl⟩ dX0_sit_41 ⟨by first | omega | decide, by first | omega | decide⟩
    · refine x_istore3 B 34 dX0_sit_33 rfl ?_
      refine x_iload3 B 35 dX0_sit_34 rfl ?_
      refine x_iload2 B 36 dX0_sit_35 rfl ?_
      refine x_icmp_ne_t B 42 dX0_sit_36 (by decide) (fun z => c ((oI_inj (hO.Yb hm) hy2).mp z)) ?_
      simp only [sSit, e, hy] at hq; rw [if_neg c] at hq; subst hq
      refine x_aload0 B 43 dX0_sit_42 rfl (by first | rfl | exact xisR_rf _) ?_
      refine x_callV B 46 (m_X0_note bs U N hU h11 hT hG e7) [0, 1, 2, 3] rfl ⟨_, _, _, (by repeat (first | with_reducible exact xr_h | with_reducible exact xr_m cT_0 | with_reducible exact xr_m cT_1 | with_reducible exact xr_m cT_2 | with_reducible exact xr_m cT_3 | with_reducible exact xr_m cT_4 | refine xr_t ?_)), rfl, rfl⟩ q1408 q1410 qs31 q88 q1411 hd_X0_note (by decide) ⟨by first | decide | omega, by first | decide | omega⟩ ⟨by first | decide | omega, by first | decide | omega⟩ rfl (Nat.le_of_ble_eq_true rfl) dX0_sit_43 rfl (fun _ _ _ h => h.elim) ?_
      rintro _ _ ⟨rfl, iv1, bs1, hU1, h11', hJ1, rfl⟩
      try simp only [xst, xput, xpre, List.set_cons_zero, List.set_cons_succ]
      refine x_aload0 B 47 dX0_sit_46 rfl (by first | rfl | exact xisR_rf _) ?_
      refine g_X0_27_X0 B 50 (by repeat (first | with_reducible exact xr_h | with_reducible exact xr_m cT_0 | with_reducible exact xr_m cT_1 | with_reducible exact xr_m cT_2 | with_reducible exact xr_m cT_3 | with_reducible exact xr_m cT_4 | refine xr_t ?_)) dX0_sit_47 rfl ?_ ; try rw [e7]
      refine x_iload1 B 51 dX0_sit_50 rfl ?_
      refine x_iload2 B 52 dX0_sit_51 rfl ?_
      refine x_callV B 55 (m_X1_sitT (ad := ad) (tg := tg) m y hT hO ((hJ1 2 (by omega)).trans h2) hm hyb) [1, 0] rfl ⟨_, _, _, (by repeat (first | with_reducible exact xr_h | with_reducible exact xr_m cT_0 | with_reducible exact xr_m cT_1 | with_reducible exact xr_m cT_2 | with_reducible exact xr_m cT_3 | with_reducible exact xr_m cT_4 | refine xr_t ?_)), rfl, rfl⟩ q1438 q1439 q1440 q89 q1441 hd_X1_sit (by decide) ⟨by first | decide | omega, by first | decide | omega⟩ ⟨by first | decide | omega, by first | decide | omega⟩ rfl (Nat.le_of_ble_eq_true rfl) dX0_sit_52 rfl (fun _ _ _ h => h.elim) ?_
      rintro _ _ ⟨rfl, rn2, et2, hS2, rfl⟩
      try simp only [xst, xput, xpre, List.set_cons_zero, List.set_cons_succ]
      refine x_iload3 B 56 dX0_sit_55 rfl ?_
      exact x_iret B rfl ⟨rfl, rn2, iv1, bs1, et2, hC'.mk2 (JX.j11 hJ1) hS2 ⟨hO.sets hm hyb, hE⟩, hU1, h11', JX.j11 hJ1, rfl⟩ dX0_sit_56 ⟨by first | omega | decide, by first | omega | decide⟩
  rcases toB_c b (nb := nb) (by omega) with ⟨rfl, q1⟩ | ⟨q1, q2, q3, q4⟩ | ⟨j, hj, rfl, q1, q2⟩
  · refine x_iload2 B 9 dX0_sit_8 rfl ?_
    refine x_iconst B 10 (v := (-1)) dX0_sit_9 (by decide) rfl ?_
    refine x_icmp_eq_t B 24 dX0_sit_10 (by decide) rfl ?_
    exact go none q1 rfl (fun j e => by cases e)
  · refine x_iload2 B 9 dX0_sit_8 rfl ?_
    refine x_iconst B 10 (v := (-1)) dX0_sit_9 (by decide) rfl ?_
    refine x_icmp_eq_f (tp := 24) B 13 dX0_sit_10 (by decide) rfl q1 ?_
    refine x_aload0 B 14 dX0_sit_13 rfl (by first | rfl | exact xisR_rf _) ?_
    refine x_iload2 B 15 dX0_sit_14 rfl ?_
    refine x_callV B 18 (m_X0_isBird b nb h1 hnb) [0] rfl ⟨_, _, _, (by repeat (first | with_reducible exact xr_h | with_reducible exact xr_m cT_0 | with_reducible exact xr_m cT_1 | with_reducible exact xr_m cT_2 | with_reducible exact xr_m cT_3 | with_reducible exact xr_m cT_4 | refine xr_t ?_)), rfl, rfl⟩ q1192 q1194 qs22 q88 q1195 hd_X0_isBird (by decide) ⟨by first | decide | omega, by first | decide | omega⟩ ⟨by first | decide | omega, by first | decide | omega⟩ rfl (Nat.le_of_ble_eq_true rfl) dX0_sit_15 rfl (fun _ _ _ h => h.elim) ?_
    rintro _ _ ⟨rfl, rfl⟩
    try simp only [xst, xput, xpre, List.set_cons_zero, List.set_cons_succ]
    rw [q4]
    refine x_if_ne_f (tp := 24) B 21 dX0_sit_18 (by decide) rfl rfl ?_
    simp only [sSit, e, q3] at hq; subst hq
    refine x_bipush B 23 (v := (-2)) dX0_sit_21 (by decide) rfl ?_
    exact x_iret B rfl ⟨rfl, rn, iv, bs, rfl, hC', hU, h11, JX.rf, rfl⟩ dX0_sit_23 ⟨by first | omega | decide, by first | omega | decide⟩
  · refine x_iload2 B 9 dX0_sit_8 rfl ?_
    refine x_iconst B 10 (v := (-1)) dX0_sit_9 (by decide) rfl ?_
    refine x_icmp_eq_f (tp := 24) B 13 dX0_sit_10 (by decide) rfl (ne_m1 (by omega)) ?_
    refine x_aload0 B 14 dX0_sit_13 rfl (by first | rfl | exact xisR_rf _) ?_
    refine x_iload2 B 15 dX0_sit_14 rfl ?_
    refine x_callV B 18 (m_X0_isBird (nI j) nb h1 hnb) [0] rfl ⟨_, _, _, (by repeat (first | with_reducible exact xr_h | with_reducible exact xr_m cT_0 | with_reducible exact xr_m cT_1 | with_reducible exact xr_m cT_2 | with_reducible exact xr_m cT_3 | with_reducible exact xr_m cT_4 | refine xr_t ?_)), rfl, rfl⟩ q1192 q1194 qs22 q88 q1195 hd_X0_isBird (by decide) ⟨by first | decide | omega, by first | decide | omega⟩ ⟨by first | decide | omega, by first | decide | omega⟩ rfl (Nat.le_of_ble_eq_true rfl) dX0_sit_15 rfl (fun _ _ _ h => h.elim) ?_
    rintro _ _ ⟨rfl, rfl⟩
    try simp only [xst, xput, xpre, List.set_cons_zero, List.set_cons_succ]
    rw [q2]
    refine x_if_ne_t B 24 dX0_sit_18 (by decide) (by decide) ?_
    exact go (some j) q1 rfl (fun i e => by cases e; exact hj)
theorem m_X0_undo (hC : CB iv rn bf bp nb nm kd N) (hU : CU bs nb nm kd U) (h11 : iv 11 = nI U.length) (e7 : ad 7 = rn.1 0) (q : HU) (hq : sUndo N U = q) : XC D yX0_undo (ws_ yX0_undo cX0_undo 1 (Option.some Jvm.ClassFile.FieldType.int)) 2 80 (0) (0) [.ref h] [cR h ad iv tg, cT D h rn, cBk D ad bs, cTs D h bs] (fun r cs' => r = some (.int q.1) ∧ ∃ rn' iv', rn'.1 = rn.1 ∧ CB iv' rn' bf bp nb nm kd q.2.1 ∧ CU bs nb nm kd q.2.2 ∧ iv' 11 = nI q.2.2.length ∧ JX iv iv' ∧ cs' = [cR h ad iv' tg, cT D h rn', cBk D ad bs, cTs D h bs]) x0 := by
  refine XC.of (by decide) (by simp [Value.category]) (Nat.le_of_ble_eq_true rfl) fun X B => ?_
  show WX D X [cR h ad iv tg, cT D h rn, cBk D ad bs, cTs D h bs] 0 0 0 [some (.ref h)] []
  have hC' := hC
  obtain ⟨h1, h2, h5, hT, hG, hB⟩ := hC
  have hnb := hG.1.1
  have hnm := hG.1.2.1
  have hl8 := hU.2.1
  refine x_aload0 B 1 dX0_undo_0 rfl (by first | rfl | exact xisR_rf _) ?_
  refine g_X0_40_X0 B 4 (by repeat (first | with_reducible exact xr_h | with_reducible exact xr_m cT_0 | with_reducible exact xr_m cT_1 | with_reducible exact xr_m cT_2 | with_reducible exact xr_m cT_3 | with_reducible exact xr_m cT_4 | refine xr_t ?_)) dX0_undo_1 rfl ?_
  rw [h11]
  cases hc : U.getLast? with
  | none =>
    obtain rfl : U = [] := List.getLast?_eq_none_iff.mp hc
    refine x_if_ne_f (tp := 10) B 7 dX0_undo_4 (by decide) rfl rfl ?_
    simp only [sUndo] at hq; subst hq
    refine x_bipush B 9 (v := (-4)) dX0_undo_7 (by decide) rfl ?_
    exact x_iret B rfl ⟨rfl, rn, iv, rfl, hC', hU, h11, JX.rf, rfl⟩ dX0_undo_9 ⟨by first | omega | decide, by first | omega | decide⟩
  | some S =>
    have hne : U ≠ [] := fun e => by rw [e] at hc; cases hc
    have hpos : 0 < U.length := List.length_pos_iff.mpr hne
    simp only [sUndo, hc] at hq; subst hq
    rw [List.getLast?_eq_getElem?] at hc
    obtain ⟨r, hr, hrS, hrG⟩ := hU.2.2 _ S hc
    obtain ⟨s, t, es, el⟩ := split_at hr
    refine x_if_ne_t B 10 dX0_undo_4 (by decide) (nI_ne0 (by omega) (by omega)) ?_
    refine x_aload0 B 11 dX0_undo_10 rfl (by first | rfl | exact xisR_rf _) ?_
    refine g_X0_27_X0 B 14 (by repeat (first | with_reducible exact xr_h | with_reducible exact xr_m cT_0 | with_reducible exact xr_m cT_1 | with_reducible exact xr_m cT_2 | with_reducible exact xr_m cT_3 | with_reducible exact xr_m cT_4 | refine xr_t ?_)) dX0_undo_11 rfl ?_ ; try rw [e7]
    refine x_aload0 B 15 dX0_undo_14 rfl (by first | rfl | exact xisR_rf _) ?_
    refine g_X0_57_X0 B 18 (by repeat (first | with_reducible exact xr_h | with_reducible exact xr_m cT_0 | with_reducible exact xr_m cT_1 | with_reducible exact xr_m cT_2 | with_reducible exact xr_m cT_3 | with_reducible exact xr_m cT_4 | refine xr_t ?_)) dX0_undo_15 rfl ?_
    refine x_aload0 B 19 dX0_undo_18 rfl (by first | rfl | exact xisR_rf _) ?_
    refine x_dup B 20 dX0_undo_19 rfl rfl ?_
    refine g_X0_40_X0 B 23 (by repeat (first | with_reducible exact xr_h | with_reducible exact xr_m cT_0 | with_reducible exact xr_m cT_1 | with_reducible exact xr_m cT_2 | with_reducible exact xr_m cT_3 | with_reducible exact xr_m cT_4 | refine xr_t ?_)) dX0_undo_20 rfl ?_
    rw [h11]
    refine x_iconst B 24 (v := 1) dX0_undo_23 (by decide) rfl ?_
    refine x_isub B 25 dX0_undo_24 rfl ?_
    rw [show nI U.length - 1 = nI (U.length - 1) from pk_sub (b := 1) (by omega)]
    refine x_dup_x1 B 26 dX0_undo_25 rfl rfl rfl ?_
    refine s_X0_40_X0 B 29 (by repeat (first | with_reducible exact xu_h | apply xu_t)) dX0_undo_26 rfl ?_
    refine x_aalds B 30 (f := (bAd bs)) (t0 := 7) rfl rfl (by repeat (first | with_reducible exact xr_h | with_reducible exact xr_m cT_0 | with_reducible exact xr_m cT_1 | with_reducible exact xr_m cT_2 | with_reducible exact xr_m cT_3 | with_reducible exact xr_m cT_4 | refine xr_t ?_)) (j := U.length - 1) (by first | (simp only [xlit, nI_add, pk_mul]; done) | rfl | (simp only [xlit, nI_add, pk_mul]; congr 1; omega)) ⟨by first | omega | decide, by first | decide | omega⟩ (bAd_at hr) dX0_undo_29 rfl ?_
    have ebs := es
    rw [es]
    refine x_cut [3] (cin := [cTs D h (s ++ some r :: t)]) (new := [cTs D h (s ++ t), cT D h r]) rfl (by decide) (cTs_cut D h s t r) ?_
    simp only [xput, xpre, List.set_cons_zero, List.set_cons_succ]
    refine x_callV B 33 (m_X1_setT (r := rn) (ro := r) hrS.2) [2, 0] rfl ⟨_, _, _, (by repeat (first | with_reducible exact xr_h | with_reducible exact xr_m cT_0 | with_reducible exact xr_m cT_1 | with_reducible exact xr_m cT_2 | with_reducible exact xr_m cT_3 | with_reducible exact xr_m cT_4 | refine xr_t ?_)), rfl, rfl⟩ q196 q197 q198 q89 q199 hd_X1_set (by decide) ⟨by first | decide | omega, by first | decide | omega⟩ ⟨by first | decide | omega, by first | decide | omega⟩ rfl (Nat.le_of_ble_eq_true rfl) dX0_undo_30 rfl (fun _ _ _ h => h.elim) ?_
    rintro _ _ ⟨rfl, rn2, et2, hS2, rfl⟩
    try simp only [xst, xput, xpre, List.set_cons_zero, List.set_cons_succ]
    refine x_cut [4, 0] (cin := [cTs D h (s ++ t), cT D h r]) (new := [cTs D h (s ++ some r :: t)]) rfl (by decide) (cTs_add D h s t r) ?_
    simp only [xput, xpre, List.set_cons_zero, List.set_cons_succ]
    refine x_perm (cs' := [cR h ad (upd iv 11 (nI (U.length - 1))) tg, cT D h rn2, cBk D ad (s ++ some r :: t), cTs D h (s ++ some r :: t)]) (List.Perm.refl _) ?_
    rw [← es]
    refine x_pop B 34 dX0_undo_33 rfl rfl ?_
    refine x_aload0 B 35 dX0_undo_34 rfl (by first | rfl | exact xisR_rf _) ?_
    refine g_X0_40_X0 B 38 (by repeat (first | with_reducible exact xr_h | with_reducible exact xr_m cT_0 | with_reducible exact xr_m cT_1 | with_reducible exact xr_m cT_2 | with_reducible exact xr_m cT_3 | with_reducible exact xr_m cT_4 | refine xr_t ?_)) dX0_undo_35 rfl ?_
    rw [pk_us]
    have hJ : JX iv (upd iv 11 (nI (U.length - 1))) := fun j _ hj => pk_un hj
    exact x_iret B rfl ⟨rfl, rn2, _, et2, hC'.mk2 hJ (hS2 nb nm S hnb hnm hrS) hrG, hU.pop, by rw [pk_us, List.length_dropLast], hJ, rfl⟩ dX0_undo_38 ⟨by first | omega | decide, by first | omega | decide⟩
end C14
