/-! the twin, 21: a tongue told; places marked -/
section T21
variable {D : xG} {h : Nat} {ad : Nat → Nat} {iv row tx lt en bg op zn : Nat → Int32} {T G : List Nat} {s : Nat → Bool}
theorem gMany_s {T : List Nat} {a c : Nat} (h : T[a]? = some c) : gMany T (a + 1) = gMany T a + (if isW c = true then 1 else 0) := by
  unfold gMany
  rw [take_s h, List.filter_append, List.length_append]
  by_cases e : isW c = true
  · simp [e]
  · simp [e]
theorem gMany_le (T : List Nat) (a : Nat) : gMany T a ≤ T.length := by
  unfold gMany
  have h1 := List.length_filter_le isW (T.take a)
  have h2 := List.length_take_le' a T
  omega
theorem m_X2_tongue (hT : TTx tx iv T) (q : Int32 × Option (List Nat)) (hq : sTongue T = q) : XC D yX2_tongue (ws_ yX2_tongue cX2_tongue 3 (Option.some Jvm.ClassFile.FieldType.int)) 2 80 (0) (0) [.ref h] [tR D h ad iv, tI D ad 3 200 tx, tI D ad 10 202 lt, tI D ad 11 202 en, tI D ad 12 202 bg, tI D ad 33 8 op] (fun r cs' => r = some (.int q.1) ∧ ∃ iv' lt' en' bg' op', (match q.2 with | none => iv' = iv ∧ lt' = lt ∧ en' = en ∧ bg' = bg | some G => TGo lt' en' bg' iv' G ∧ iv' 4 = 0 ∧ I4 (fun j => j = 4 ∨ j = 9) iv iv') ∧ cs' = [tR D h ad iv', tI D ad 3 200 tx, tI D ad 10 202 lt', tI D ad 11 202 en', tI D ad 12 202 bg', tI D ad 33 8 op']) x0 := by
  refine XC.of (by decide) (by simp [Value.category]) (Nat.le_of_ble_eq_true rfl) fun X B => ?_
  show WX D X [tR D h ad iv, tI D ad 3 200 tx, tI D ad 10 202 lt, tI D ad 11 202 en, tI D ad 12 202 bg, tI D ad 33 8 op] 0 0 0 [some (.ref h), none, none] []
  refine x_aload0 B 1 dX2_tongue_0 rfl (by first | rfl | exact xisR_rf _) ?_
  refine x_callV B 4 (m_X2_tongueFault hT) [0, 1] rfl ⟨_, _, _, (by repeat (first | with_reducible exact xr_h | refine xr_t ?_)), rfl, rfl⟩ q1957 q1959 qs55 q92 q1960 hd_X2_tongueFault (by decide) ⟨by first | decide | omega, by first | decide | omega⟩ ⟨by first | decide | omega, by first | decide | omega⟩ rfl (Nat.le_of_ble_eq_true rfl) dX2_tongue_1 rfl (fun _ _ _ h => h.elim) ?_
  rintro _ _ ⟨rfl, rfl⟩
  try simp only [xst, xput, xpre, List.set_cons_zero, List.set_cons_succ]
  cases ef : hTgF T with
  | some f =>
    have hf := tgFault_le (Nat.le_of_eq (Nat.zero_add _)) ef
    have := hT.2.1
    simp only [sTongue, ef] at hq; subst hq
    refine x_iconst B 5 (v := (-1)) dX2_tongue_4 (by decide) rfl ?_
    refine x_icmp_eq_f (tp := 11) B 8 dX2_tongue_5 (by decide) rfl (ne_m1 (by omega)) ?_
    refine x_bipush B 10 (v := (-4)) dX2_tongue_8 (by decide) rfl ?_
    exact x_iret B rfl ⟨rfl, iv, lt, en, bg, op, ⟨rfl, rfl, rfl, rfl⟩, rfl⟩ dX2_tongue_10 ⟨by first | omega | decide, by first | omega | decide⟩
  | none =>
    simp only [sTongue, ef] at hq; subst hq
    have hT0 := hT
    obtain ⟨hl, hl2, hr⟩ := hT
    have hmem : ∀ c ∈ T, c < 256 := fun c hc => by
      obtain ⟨i, hi, e⟩ := List.getElem_of_mem hc
      exact (hr i c (by rw [List.getElem?_eq_getElem hi, e])).2
    obtain ⟨ok, bal⟩ := tongue_ok hmem hl2 ef
    refine x_iconst B 5 (v := (-1)) dX2_tongue_4 (by decide) rfl ?_
    refine x_icmp_eq_t B 11 dX2_tongue_5 (by decide) rfl ?_
    refine x_iconst B 12 (v := 0) dX2_tongue_11 (by decide) rfl ?_
    refine x_istore1 B 13 dX2_tongue_12 rfl ?_
    refine x_aload0 B 14 dX2_tongue_13 rfl (by first | rfl | exact xisR_rf _) ?_
    refine g_X2_29_X2 B 17 (by repeat (first | with_reducible exact xr_h | refine xr_t ?_)) dX2_tongue_14 rfl ?_
    refine x_iconst B 18 (v := 0) dX2_tongue_17 (by decide) rfl ?_
    refine x_bipush B 20 (v := 40) dX2_tongue_18 (by decide) rfl ?_
    refine x_iast B 21 (by repeat (first | with_reducible exact xu_h | apply xu_t)) (j := 0) (by first | (simp only [xlit, nI_add, pk_mul]; done) | rfl | (simp only [xlit, nI_add, pk_mul]; congr 1; omega)) ⟨by first | omega | decide, by first | decide | omega⟩ dX2_tongue_20 rfl ?_
    refine x_aload0 B 22 dX2_tongue_21 rfl (by first | rfl | exact xisR_rf _) ?_
    refine x_iconst B 23 (v := 1) dX2_tongue_22 (by decide) rfl ?_
    refine s_X2_217_X2 B 26 (by repeat (first | with_reducible exact xu_h | apply xu_t)) dX2_tongue_23 rfl ?_
    refine x_iconst B 27 (v := 0) dX2_tongue_26 (by decide) rfl ?_
    refine x_istore2 B 28 dX2_tongue_27 rfl ?_
    have loop : ∀ (m a : Nat), a + m = T.length → ∀ (iv1 lt1 : Nat → Int32), iv1 4 = nI T.length → iv1 9 = nI (gA T a).length → I4 (fun j => j = 4 ∨ j = 9) iv iv1 → (∀ k, k < (gA T a).length → lt1 k = nI ((gA T a).getD k 0)) → WX D X [tR D h ad iv1, tI D ad 3 200 tx, tI D ad 10 202 lt1, tI D ad 11 202 en, tI D ad 12 202 bg, tI D ad 33 8 op] 0 0 28 [some (.ref h), some (.int (nI (gMany T a))), some (.int (nI a))] [] := by
      intro m
      induction m with
      | zero =>
        intro a ha iv1 lt1 h4 h9 hI hL
        obtain rfl : a = T.length := by omega
        have hlen := gA_len T T.length
        rw [List.length_take, Nat.min_self] at hlen
        have gl : (gTongue T).length = (gA T T.length).length + 1 := by unfold gTongue; rw [List.length_append, List.length_singleton]
        refine x_iload2 B 29 dX2_tongue_28 rfl ?_
        refine x_aload0 B 30 dX2_tongue_29 rfl (by first | rfl | exact xisR_rf _) ?_
        refine g_X2_113_X2 B 33 (by repeat (first | with_reducible exact xr_h | refine xr_t ?_)) dX2_tongue_30 rfl ?_
        rw [h4]
        refine x_icmp_ge_t B 116 dX2_tongue_33 (by decide) (by (try simp only [xlit]); first | (rw [nI_leI (by omega) (by omega)]; omega) | (rw [nI_ltI (by omega) (by omega)]; omega) | (rw [nI_eq (by omega) (by omega)]; omega)) ?_
        refine x_aload0 B 117 dX2_tongue_116 rfl (by first | rfl | exact xisR_rf _) ?_
        refine g_X2_29_X2 B 120 (by repeat (first | with_reducible exact xr_h | refine xr_t ?_)) dX2_tongue_117 rfl ?_
        refine x_aload0 B 121 dX2_tongue_120 rfl (by first | rfl | exact xisR_rf _) ?_
        refine g_X2_217_X2 B 124 (by repeat (first | with_reducible exact xr_h | refine xr_t ?_)) dX2_tongue_121 rfl ?_
        rw [h9]
        refine x_bipush B 126 (v := 41) dX2_tongue_124 (by decide) rfl ?_
        refine x_iast B 127 (by repeat (first | with_reducible exact xu_h | apply xu_t)) (j := (gA T T.length).length) (by first | (simp only [xlit, nI_add, pk_mul]; done) | rfl | (simp only [xlit, nI_add, pk_mul]; congr 1; omega)) ⟨by first | omega | decide, by first | decide | omega⟩ dX2_tongue_126 rfl ?_
        refine x_aload0 B 128 dX2_tongue_127 rfl (by first | rfl | exact xisR_rf _) ?_
        refine x_dup B 129 dX2_tongue_128 rfl rfl ?_
        refine g_X2_217_X2 B 132 (by repeat (first | with_reducible exact xr_h | refine xr_t ?_)) dX2_tongue_129 rfl ?_
        rw [h9]
        refine x_iconst B 133 (v := 1) dX2_tongue_132 (by decide) rfl ?_
        refine x_iadd B 134 dX2_tongue_133 rfl ?_
        rw [show nI (gA T T.length).length + 1 = nI (gTongue T).length by rw [gl]; exact nI_1 _]
        have hL2 : ∀ k, k < (gTongue T).length → upd lt1 (gA T T.length).length 41 k = nI ((gTongue T).getD k 0) := by
          intro k hk
          by_cases q : k = (gA T T.length).length
          · rw [q, pk_us]; unfold gTongue; rw [getD_last]; rfl
          · rw [pk_un q, hL k (by omega)]
            unfold gTongue
            rw [List.getD_eq_getElem?_getD, List.getD_eq_getElem?_getD, List.getElem?_append_left (by omega)]
        refine s_X2_217_X2 B 137 (by repeat (first | with_reducible exact xu_h | apply xu_t)) dX2_tongue_134 rfl ?_
        refine x_aload0 B 138 dX2_tongue_137 rfl (by first | rfl | exact xisR_rf _) ?_
        refine x_callV B 141 (m_X2_layTongue (G := gTongue T) pk_us ok hL2) [0, 2, 3, 4, 5] rfl ⟨_, _, _, (by repeat (first | with_reducible exact xr_h | refine xr_t ?_)), rfl, rfl⟩ q1966 q1968 qs56 q92 q1969 hd_X2_layTongue (by decide) ⟨by first | decide | omega, by first | decide | omega⟩ ⟨by first | decide | omega, by first | decide | omega⟩ rfl (Nat.le_of_ble_eq_true rfl) dX2_tongue_138 rfl (fun _ _ _ h => h.elim) ?_
        rintro _ _ ⟨rfl, en2, bg2, op2, e1, e2, rfl⟩
        try simp only [xst, xput, xpre, List.set_cons_zero, List.set_cons_succ]
        refine x_aload0 B 142 dX2_tongue_141 rfl (by first | rfl | exact xisR_rf _) ?_
        refine x_iconst B 143 (v := 0) dX2_tongue_142 (by decide) rfl ?_
        refine s_X2_113_X2 B 146 (by repeat (first | with_reducible exact xu_h | apply xu_t)) dX2_tongue_143 rfl ?_
        refine x_iload1 B 147 dX2_tongue_146 rfl ?_
        exact x_iret B rfl ⟨rfl, _, _, en2, bg2, op2, ⟨⟨by rw [pk_un (by omega), pk_us], ok, hL2, e1, e2, bal⟩, by rw [pk_us], (hI.upd (Or.inr rfl)).upd (Or.inl rfl)⟩, rfl⟩ dX2_tongue_147 ⟨by first | omega | decide, by first | omega | decide⟩
      | succ m ih =>
        intro a ha iv1 lt1 h4 h9 hI hL
        obtain ⟨x, x1, x2, x3⟩ := hT0.at (p := a) (by omega)
        have hs := gA_s x1
        have hm := gMany_s x1
        have hlen := gA_len T a
        have hml := gMany_le T a
        have hlt := List.length_take_le a T
        have next : ∀ (iv2 lt2 : Nat → Int32), iv2 4 = nI T.length → iv2 9 = nI (gA T (a + 1)).length → I4 (fun j => j = 4 ∨ j = 9) iv iv2 → (∀ k, k < (gA T (a + 1)).length → lt2 k = nI ((gA T (a + 1)).getD k 0)) → WX D X [tR D h ad iv2, tI D ad 3 200 tx, tI D ad 10 202 lt2, tI D ad 11 202 en, tI D ad 12 202 bg, tI D ad 33 8 op] 0 0 110 [some (.ref h), some (.int (nI (gMany T (a + 1)))), some (.int (nI a))] [] := by
          intro iv2 lt2 g4 g9 gI gL
          refine x_iinc2 B 113 dX2_tongue_110 rfl (by first | exact xinc _ | rfl) ?_
          refine x_goto B 28 dX2_tongue_113 (by decide) ?_
          exact ih (a + 1) (by omega) iv2 lt2 g4 g9 gI gL
        refine x_iload2 B 29 dX2_tongue_28 rfl ?_
        refine x_aload0 B 30 dX2_tongue_29 rfl (by first | rfl | exact xisR_rf _) ?_
        refine g_X2_113_X2 B 33 (by repeat (first | with_reducible exact xr_h | refine xr_t ?_)) dX2_tongue_30 rfl ?_
        rw [h4]
        refine x_icmp_ge_f (tp := 116) B 36 dX2_tongue_33 (by decide) rfl (by (try simp only [xlit]); first | (rw [nI_leI (by omega) (by omega)]; omega) | (rw [nI_ltI (by omega) (by omega)]; omega) | (rw [nI_eq (by omega) (by omega)]; omega)) ?_
        refine x_aload0 B 37 dX2_tongue_36 rfl (by first | rfl | exact xisR_rf _) ?_
        refine g_X2_17_X2 B 40 (by repeat (first | with_reducible exact xr_h | refine xr_t ?_)) dX2_tongue_37 rfl ?_
        refine x_iload2 B 41 dX2_tongue_40 rfl ?_
        refine x_ialdv B 42 (by repeat (first | with_reducible exact xr_h | refine xr_t ?_)) (j := a) (by first | (simp only [xlit, nI_add, pk_mul]; done) | rfl | (simp only [xlit, nI_add, pk_mul]; congr 1; omega)) ⟨by first | omega | decide, by first | decide | omega⟩ x2 dX2_tongue_41 rfl ?_
        by_cases c : x = 32
        · rw [if_pos c] at hs
          rw [if_neg (by rw [c]; decide), Nat.add_zero] at hm
          refine x_bipush B 44 (v := 32) dX2_tongue_42 (by decide) rfl ?_
          refine x_icmp_eq_t B 110 dX2_tongue_44 (by decide) (by (try simp only [xlit]); first | (rw [nI_leI (by omega) (by omega)]; omega) | (rw [nI_ltI (by omega) (by omega)]; omega) | (rw [nI_eq (by omega) (by omega)]; omega)) ?_
          rw [← (show gMany T (a + 1) = gMany T a from hm)]
          exact next iv1 lt1 h4 (by rw [hs]; exact h9) hI (by rw [hs]; exact hL)
        · rw [if_neg c] at hs
          refine x_bipush B 44 (v := 32) dX2_tongue_42 (by decide) rfl ?_
          refine x_icmp_eq_f (tp := 110) B 47 dX2_tongue_44 (by decide) rfl (by (try simp only [xlit]); first | (rw [nI_leI (by omega) (by omega)]; omega) | (rw [nI_ltI (by omega) (by omega)]; omega) | (rw [nI_eq (by omega) (by omega)]; omega)) ?_
          refine x_aload0 B 48 dX2_tongue_47 rfl (by first | rfl | exact xisR_rf _) ?_
          refine g_X2_29_X2 B 51 (by repeat (first | with_reducible exact xr_h | refine xr_t ?_)) dX2_tongue_48 rfl ?_
          refine x_aload0 B 52 dX2_tongue_51 rfl (by first | rfl | exact xisR_rf _) ?_
          refine g_X2_217_X2 B 55 (by repeat (first | with_reducible exact xr_h | refine xr_t ?_)) dX2_tongue_52 rfl ?_
          rw [h9]
          refine x_aload0 B 56 dX2_tongue_55 rfl (by first | rfl | exact xisR_rf _) ?_
          refine g_X2_17_X2 B 59 (by repeat (first | with_reducible exact xr_h | refine xr_t ?_)) dX2_tongue_56 rfl ?_
          refine x_iload2 B 60 dX2_tongue_59 rfl ?_
          refine x_ialdv B 61 (by repeat (first | with_reducible exact xr_h | refine xr_t ?_)) (j := a) (by first | (simp only [xlit, nI_add, pk_mul]; done) | rfl | (simp only [xlit, nI_add, pk_mul]; congr 1; omega)) ⟨by first | omega | decide, by first | decide | omega⟩ x2 dX2_tongue_60 rfl ?_
          refine x_iast B 62 (by repeat (first | with_reducible exact xu_h | apply xu_t)) (j := (gA T a).length) (by first | (simp only [xlit, nI_add, pk_mul]; done) | rfl | (simp only [xlit, nI_add, pk_mul]; congr 1; omega)) ⟨by first | omega | decide, by first | decide | omega⟩ dX2_tongue_61 rfl ?_
          refine x_aload0 B 63 dX2_tongue_62 rfl (by first | rfl | exact xisR_rf _) ?_
          refine x_dup B 64 dX2_tongue_63 rfl rfl ?_
          refine g_X2_217_X2 B 67 (by repeat (first | with_reducible exact xr_h | refine xr_t ?_)) dX2_tongue_64 rfl ?_
          rw [h9]
          refine x_iconst B 68 (v := 1) dX2_tongue_67 (by decide) rfl ?_
          refine x_iadd B 69 dX2_tongue_68 rfl ?_
          refine s_X2_217_X2 B 72 (by repeat (first | with_reducible exact xu_h | apply xu_t)) dX2_tongue_69 rfl ?_
          rw [show nI (gA T a).length + 1 = nI (gA T (a + 1)).length by rw [hs, List.length_append]; exact nI_1 _]
          have g4 : upd iv1 9 (nI (gA T (a + 1)).length) 4 = nI T.length := (pk_un (by omega)).trans h4
          have gL : ∀ k, k < (gA T (a + 1)).length → upd lt1 (gA T a).length (nI x) k = nI ((gA T (a + 1)).getD k 0) := by
            intro k hk
            rw [hs] at hk ⊢
            rw [List.length_append, List.length_singleton] at hk
            by_cases q : k = (gA T a).length
            · rw [q, pk_us, getD_last]
            · rw [pk_un q, hL k (by omega), List.getD_eq_getElem?_getD, List.getD_eq_getElem?_getD, List.getElem?_append_left (by omega)]
          have nx := next _ _ g4 pk_us (hI.upd (Or.inr rfl)) gL
          refine x_iload1 B 73 dX2_tongue_72 rfl ?_
          refine x_aload0 B 74 dX2_tongue_73 rfl (by first | rfl | exact xisR_rf _) ?_
          refine g_X2_17_X2 B 77 (by repeat (first | with_reducible exact xr_h | refine xr_t ?_)) dX2_tongue_74 rfl ?_
          refine x_iload2 B 78 dX2_tongue_77 rfl ?_
          refine x_ialdv B 79 (by repeat (first | with_reducible exact xr_h | refine xr_t ?_)) (j := a) (by first | (simp only [xlit, nI_add, pk_mul]; done) | rfl | (simp only [xlit, nI_add, pk_mul]; congr 1; omega)) ⟨by first | omega | decide, by first | decide | omega⟩ x2 dX2_tongue_78 rfl ?_
          refine x_i2l B 80 dX2_tongue_79 rfl ?_
          refine x_ldc2 B 83 dX2_tongue_80 q1891 rfl ?_
          refine x_ldc2 B 86 dX2_tongue_83 q1961 rfl ?_
          refine x_callS B 89 (m_X2_in _ _ _) [] rfl q1869 q1870 q92 q1871 hd_X2_in rfl ⟨by first | decide | omega, by first | decide | omega⟩ ⟨by first | decide | omega, by first | decide | omega⟩ rfl (Nat.le_of_ble_eq_true rfl) dX2_tongue_86 rfl (fun _ _ _ h => h.elim) ?_
          rintro _ _ ⟨rfl, rfl⟩
          try simp only [xst, xput, xpre, List.set_cons_zero, List.set_cons_succ]
          rw [isW_x x3]
          by_cases c1 : 97 ≤ x ∧ x ≤ 106
          · rw [if_pos (by simp [isW, c1])] at hm
            refine x_if_ne_t B 103 dX2_tongue_89 (by decide) (by rw [decide_eq_true c1]; decide) ?_
            refine x_iconst B 104 (v := 1) dX2_tongue_103 (by decide) rfl ?_
            refine x_goto B 108 dX2_tongue_104 (by decide) ?_
            refine x_iadd B 109 dX2_tongue_108 rfl ?_
            rw [show nI (gMany T a) + 1 = nI (gMany T (a + 1)) by rw [hm]; exact nI_1 _]
            refine x_istore1 B 110 dX2_tongue_109 rfl ?_
            exact nx
          · refine x_if_ne_f (tp := 103) B 92 dX2_tongue_89 (by decide) rfl (by rw [decide_eq_false c1]; rfl) ?_
            refine x_aload0 B 93 dX2_tongue_92 rfl (by first | rfl | exact xisR_rf _) ?_
            refine g_X2_17_X2 B 96 (by repeat (first | with_reducible exact xr_h | refine xr_t ?_)) dX2_tongue_93 rfl ?_
            refine x_iload2 B 97 dX2_tongue_96 rfl ?_
            refine x_ialdv B 98 (by repeat (first | with_reducible exact xr_h | refine xr_t ?_)) (j := a) (by first | (simp only [xlit, nI_add, pk_mul]; done) | rfl | (simp only [xlit, nI_add, pk_mul]; congr 1; omega)) ⟨by first | omega | decide, by first | decide | omega⟩ x2 dX2_tongue_97 rfl ?_
            by_cases c2 : x = 46
            · rw [if_pos (by simp [isW, c2])] at hm
              refine x_bipush B 100 (v := 46) dX2_tongue_98 (by decide) rfl ?_
              refine x_icmp_ne_f (tp := 107) B 103 dX2_tongue_100 (by decide) rfl (by (try simp only [xlit]); first | (rw [nI_leI (by omega) (by omega)]; omega) | (rw [nI_ltI (by omega) (by omega)]; omega) | (rw [nI_eq (by omega) (by omega)]; omega)) ?_
              refine x_iconst B 104 (v := 1) dX2_tongue_103 (by decide) rfl ?_
              refine x_goto B 108 dX2_tongue_104 (by decide) ?_
              refine x_iadd B 109 dX2_tongue_108 rfl ?_
              rw [show nI (gMany T a) + 1 = nI (gMany T (a + 1)) by rw [hm]; exact nI_1 _]
              refine x_istore1 B 110 dX2_tongue_109 rfl ?_
              exact nx
            · rw [if_neg (by simp [isW, c1, c2]), Nat.add_zero] at hm
              refine x_bipush B 100 (v := 46) dX2_tongue_98 (by decide) rfl ?_
              refine x_icmp_ne_t B 107 dX2_tongue_100 (by decide) (by (try simp only [xlit]); first | (rw [nI_leI (by omega) (by omega)]; omega) | (rw [nI_ltI (by omega) (by omega)]; omega) | (rw [nI_eq (by omega) (by omega)]; omega)) ?_
              refine x_iconst B 108 (v := 0) dX2_tongue_107 (by decide) rfl ?_
              refine x_iadd B 109 dX2_tongue_108 rfl ?_
              rw [show nI (gMany T a) + 0 = nI (gMany T (a + 1)) by rw [hm]; exact nI_add _ 0]
              refine x_istore1 B 110 dX2_tongue_109 rfl ?_
              exact nx
    refine loop T.length 0 (by omega) _ _ ((pk_un (by omega)).trans hl) (by rw [pk_us]; simp [gA]; rfl) (I4.rf.upd (Or.inr rfl)) (fun k hk => ?_)
    have : k = 0 := by have : (gA T 0).length = 1 := by simp [gA]
                       omega
    subst this
    rw [pk_us]; simp [gA]; rfl
theorem m_X2_mark (hz : ZRep zn s) (k : Nat) (hk : k < 203) : XC D yX2_mark (ws_ yX2_mark cX2_mark 3 (Option.some Jvm.ClassFile.FieldType.boolean)) 0 0 (0) (0) [.ref h, .int (nI k)] [tR D h ad iv, tZ D ad 34 203 zn] (fun r cs' => r = some (.int (bI (!s k))) ∧ ∃ zn', ZRep zn' (fUp s k true) ∧ cs' = [tR D h ad iv, tZ D ad 34 203 zn']) x0 := by
  refine XC.of (by decide) (by simp [Value.category]) (Nat.le_of_ble_eq_true rfl) fun X B => ?_
  show WX D X [tR D h ad iv, tZ D ad 34 203 zn] 0 0 0 [some (.ref h), some (.int (nI k)), none] []
  refine x_aload0 B 1 dX2_mark_0 rfl (by first | rfl | exact xisR_rf _) ?_
  refine g_X2_83_X2 B 4 (by repeat (first | with_reducible exact xr_h | refine xr_t ?_)) dX2_mark_1 rfl ?_
  refine x_iload1 B 5 dX2_mark_4 rfl ?_
  refine x_zaldv B 6 (by repeat (first | with_reducible exact xr_h | refine xr_t ?_)) (j := k) (by first | (simp only [xlit, nI_add, pk_mul]; done) | rfl | (simp only [xlit, nI_add, pk_mul]; congr 1; omega)) ⟨by first | omega | decide, by first | decide | omega⟩ (hz k hk) dX2_mark_5 rfl ?_
  cases e : s k with
  | true =>
    refine x_if_ne_t B 13 dX2_mark_6 (by decide) (by decide) ?_
    refine x_iconst B 14 (v := 0) dX2_mark_13 (by decide) rfl ?_
    refine x_istore2 B 15 dX2_mark_14 rfl ?_
    refine x_aload0 B 16 dX2_mark_15 rfl (by first | rfl | exact xisR_rf _) ?_
    refine g_X2_83_X2 B 19 (by repeat (first | with_reducible exact xr_h | refine xr_t ?_)) dX2_mark_16 rfl ?_
    refine x_iload1 B 20 dX2_mark_19 rfl ?_
    refine x_iconst B 21 (v := 1) dX2_mark_20 (by decide) rfl ?_
    refine x_zast B 22 (by repeat (first | with_reducible exact xu_h | apply xu_t)) (j := k) (by first | (simp only [xlit, nI_add, pk_mul]; done) | rfl | (simp only [xlit, nI_add, pk_mul]; congr 1; omega)) ⟨by first | omega | decide, by first | decide | omega⟩ rfl dX2_mark_21 rfl ?_
    refine x_iload2 B 23 dX2_mark_22 rfl ?_
    exact x_zret B rfl ⟨by rw [e]; rfl, _, hz.set k true (by decide), rfl⟩ dX2_mark_23 ⟨by first | omega | decide, by first | omega | decide⟩ (by first | exact Or.inl rfl | exact Or.inr rfl | exact x_in01 _ _ _ | exact x_has01 _ _ | exact bI01 _ | assumption)
  | false =>
    refine x_if_ne_f (tp := 13) B 9 dX2_mark_6 (by decide) rfl rfl ?_
    refine x_iconst B 10 (v := 1) dX2_mark_9 (by decide) rfl ?_
    refine x_goto B 14 dX2_mark_10 (by decide) ?_
    refine x_istore2 B 15 dX2_mark_14 rfl ?_
    refine x_aload0 B 16 dX2_mark_15 rfl (by first | rfl | exact xisR_rf _) ?_
    refine g_X2_83_X2 B 19 (by repeat (first | with_reducible exact xr_h | refine xr_t ?_)) dX2_mark_16 rfl ?_
    refine x_iload1 B 20 dX2_mark_19 rfl ?_
    refine x_iconst B 21 (v := 1) dX2_mark_20 (by decide) rfl ?_
    refine x_zast B 22 (by repeat (first | with_reducible exact xu_h | apply xu_t)) (j := k) (by first | (simp only [xlit, nI_add, pk_mul]; done) | rfl | (simp only [xlit, nI_add, pk_mul]; congr 1; omega)) ⟨by first | omega | decide, by first | decide | omega⟩ rfl dX2_mark_21 rfl ?_
    refine x_iload2 B 23 dX2_mark_22 rfl ?_
    exact x_zret B rfl ⟨by rw [e]; rfl, _, hz.set k true (by decide), rfl⟩ dX2_mark_23 ⟨by first | omega | decide, by first | omega | decide⟩ (by first | exact Or.inl rfl | exact Or.inr rfl | exact x_in01 _ _ _ | exact x_has01 _ _ | exact bI01 _ | assumption)
end T21
