/-! the twin, 16: texts read -/
section T16
variable {D : xG} {h : Nat} {ad : Nat → Nat} {iv row zk tx rb : Nat → Int32} {T : List Nat} {tk : Nat × Nat} {X0 : HT} {d : Bool} {wf : Nat → Nat → Int32}
theorem TOut.bool {o : HF} {T : List Nat} {X : HT} {d : Bool} {r : Option Value} {iv' row' rb' : Nat → Int32} (h : TOut o T X d r iv' row' rb') : ∃ v : Int32, r = some (.int v) ∧ (v = 0 ∨ v = 1) := by
  unfold TOut at h
  split at h
  · exact ⟨0, h.1, Or.inl rfl⟩
  · exact ⟨1, h.1, Or.inr rfl⟩
abbrev tP (D : xG) (h : Nat) (ad : Nat → Nat) (iv tx row rb : Nat → Int32) (wf : Nat → Nat → Int32) : List va_W := [tR D h ad iv, tI D ad 3 200 tx, tI D ad 0 1404 row, tI D ad 20 4 rb, tI D ad 24 6 (wf 24), tI D ad 25 4 (wf 25), tI D ad 26 8 (wf 26), tI D ad 27 4 (wf 27), tI D ad 28 5 (wf 28), tI D ad 29 3 (wf 29), tI D ad 23 7 (wf 23), tI D ad 30 5 (wf 30), tI D ad 31 4 (wf 31), tI D ad 32 5 (wf 32)]
theorem hKind_le {T : List Nat} {tk : Nat × Nat} {k : Nat} (h : hKind T tk = some k) : k ≤ 4 := by
  unfold hKind at h
  repeat' split at h
  all_goals first | (cases h; omega) | cases h
theorem m_X2_readsClause (hT : TTx tx iv T) (hk : TTok iv T tk) (hX : HXk X0) (hR : TRs iv rb X0 d) (hD : d = true → TTo row X0) (hw : TWd wf) : XC D yX2_readsClause (ws_ yX2_readsClause cX2_readsClause 1 (Option.some Jvm.ClassFile.FieldType.boolean)) 5 200 (0) (0) [.ref h] (tP D h ad iv tx row rb wf) (fun r cs' => ∃ iv' row' rb', I4 P4 iv iv' ∧ TS 108 216 row row' ∧ (d = false → row' = row) ∧ TOut (hClause T tk X0) T X0 d r iv' row' rb' ∧ cs' = tP D h ad iv' tx row' rb' wf) x0 := by
  refine XC.of (by decide) (by simp [Value.category]) (Nat.le_of_ble_eq_true rfl) fun X B => ?_
  show WX D X (tP D h ad iv tx row rb wf) 0 0 0 [some (.ref h)] []
  generalize ho : hClause T tk X0 = o at B
  unfold hClause at ho
  refine x_aload0 B 1 dX2_readsClause_0 rfl (by first | rfl | exact xisR_rf _) ?_
  refine x_callV B 4 (m_X2_kindHere hT hk hw) [0, 1, 4, 5, 6, 7, 8] rfl ⟨_, _, _, (by repeat (first | with_reducible exact xr_h | refine xr_t ?_)), rfl, rfl⟩ q1902 q1904 qs43 q92 q1905 hd_X2_kindHere (by decide) ⟨by first | decide | omega, by first | decide | omega⟩ ⟨by first | decide | omega, by first | decide | omega⟩ rfl (Nat.le_of_ble_eq_true rfl) dX2_readsClause_1 rfl (fun _ _ _ h => h.elim) ?_
  rintro _ _ ⟨rfl, rfl⟩
  try simp only [xst, xput, xpre, List.set_cons_zero, List.set_cons_succ]
  cases e : hKind T tk with
  | some k =>
    have hk4 := hKind_le e
    rw [e] at ho; dsimp only at ho
    refine x_iconst B 5 (v := (-1)) dX2_readsClause_4 (by decide) rfl ?_
    refine x_icmp_eq_f (tp := 17) B 8 dX2_readsClause_5 (by decide) rfl (ne_m1 (by omega)) ?_
    refine x_aload0 B 9 dX2_readsClause_8 rfl (by first | rfl | exact xisR_rf _) ?_
    refine x_aload0 B 10 dX2_readsClause_9 rfl (by first | rfl | exact xisR_rf _) ?_
    refine x_callV B 13 (m_X2_kindHere hT hk hw) [0, 1, 4, 5, 6, 7, 8] rfl ⟨_, _, _, (by repeat (first | with_reducible exact xr_h | refine xr_t ?_)), rfl, rfl⟩ q1902 q1904 qs43 q92 q1905 hd_X2_kindHere (by decide) ⟨by first | decide | omega, by first | decide | omega⟩ ⟨by first | decide | omega, by first | decide | omega⟩ rfl (Nat.le_of_ble_eq_true rfl) dX2_readsClause_10 rfl (fun _ _ _ h => h.elim) ?_
    rintro _ _ ⟨rfl, rfl⟩
    try simp only [xst, xput, xpre, List.set_cons_zero, List.set_cons_succ]
    rw [e, show oI (some k) = nI k from rfl]
    refine x_callV B 16 (m_X2_readsBird hT hk hX hR hD k hk4) [0, 1, 2, 3] rfl ⟨_, _, _, (by repeat (first | with_reducible exact xr_h | refine xr_t ?_)), rfl, rfl⟩ q1910 q1912 qs45 q92 q1913 hd_X2_readsBird (by decide) ⟨by first | decide | omega, by first | decide | omega⟩ ⟨by first | decide | omega, by first | decide | omega⟩ rfl (Nat.le_of_ble_eq_true rfl) dX2_readsClause_13 rfl (fun _ _ _ h => h.elim) ?_
    rintro _ _ ⟨iv', row', rb', h1, h2, h3, h4, rfl⟩
    try simp only [xst, xput, xpre, List.set_cons_zero, List.set_cons_succ]
    rw [ho] at h4
    obtain ⟨v, rfl, hv⟩ := h4.bool
    exact x_zret B rfl ⟨_, _, _, h1, h2, h3, h4, rfl⟩  dX2_readsClause_16 ⟨by first | omega | decide, by first | omega | decide⟩ hv
  | none =>
    rw [e] at ho; dsimp only at ho
    refine x_iconst B 5 (v := (-1)) dX2_readsClause_4 (by decide) rfl ?_
    refine x_icmp_eq_t B 17 dX2_readsClause_5 (by decide) rfl ?_
    refine x_aload0 B 18 dX2_readsClause_17 rfl (by first | rfl | exact xisR_rf _) ?_
    refine x_aload0 B 19 dX2_readsClause_18 rfl (by first | rfl | exact xisR_rf _) ?_
    refine g_X2_68_X2 B 22 (by repeat (first | with_reducible exact xr_h | refine xr_t ?_)) dX2_readsClause_19 rfl ?_
    refine x_callV B 25 (m_X2_isWord hT hk (ad 29) wMan (wf 29) (hw 29 (by omega) (by omega)) (by decide)) [0, 1, 9] rfl ⟨_, _, _, (by repeat (first | with_reducible exact xr_h | refine xr_t ?_)), rfl, rfl⟩ q1906 q1908 qs44 q92 q1909 hd_X2_isWord (by decide) ⟨by first | decide | omega, by first | decide | omega⟩ ⟨by first | decide | omega, by first | decide | omega⟩ rfl (Nat.le_of_ble_eq_true rfl) dX2_readsClause_22 rfl (fun _ _ _ h => h.elim) ?_
    rintro _ _ ⟨rfl, rfl⟩
    try simp only [xst, xput, xpre, List.set_cons_zero, List.set_cons_succ]
    by_cases c0 : hIs T tk wMan = true
    · rw [if_pos c0] at ho
      refine x_if_eq_f (tp := 33) B 28 dX2_readsClause_25 (by decide) rfl (by rw [c0]; decide) ?_
      refine x_aload0 B 29 dX2_readsClause_28 rfl (by first | rfl | exact xisR_rf _) ?_
      refine x_callV B 32 (m_X2_readsMan hT hk hX hR hD) [0, 1, 2, 3] rfl ⟨_, _, _, (by repeat (first | with_reducible exact xr_h | refine xr_t ?_)), rfl, rfl⟩ q1922 q1924 qs48 q92 q1925 hd_X2_readsMan (by decide) ⟨by first | decide | omega, by first | decide | omega⟩ ⟨by first | decide | omega, by first | decide | omega⟩ rfl (Nat.le_of_ble_eq_true rfl) dX2_readsClause_29 rfl (fun _ _ _ h => h.elim) ?_
      rintro _ _ ⟨iv', row', rb', h1, h2, h3, h4, rfl⟩
      try simp only [xst, xput, xpre, List.set_cons_zero, List.set_cons_succ]
      rw [ho] at h4
      obtain ⟨v, rfl, hv⟩ := h4.bool
      exact x_zret B rfl ⟨_, _, _, h1, h2, h3, h4, rfl⟩  dX2_readsClause_32 ⟨by first | omega | decide, by first | omega | decide⟩ hv
    rw [if_neg c0] at ho
    rw [Bool.not_eq_true] at c0
    refine x_if_eq_t B 33 dX2_readsClause_25 (by decide) (by rw [c0]; rfl) ?_
    refine x_aload0 B 34 dX2_readsClause_33 rfl (by first | rfl | exact xisR_rf _) ?_
    refine x_aload0 B 35 dX2_readsClause_34 rfl (by first | rfl | exact xisR_rf _) ?_
    refine g_X2_50_X2 B 38 (by repeat (first | with_reducible exact xr_h | refine xr_t ?_)) dX2_readsClause_35 rfl ?_
    refine x_callV B 41 (m_X2_isWord hT hk (ad 23) wHarbour (wf 23) (hw 23 (by omega) (by omega)) (by decide)) [0, 1, 10] rfl ⟨_, _, _, (by repeat (first | with_reducible exact xr_h | refine xr_t ?_)), rfl, rfl⟩ q1906 q1908 qs44 q92 q1909 hd_X2_isWord (by decide) ⟨by first | decide | omega, by first | decide | omega⟩ ⟨by first | decide | omega, by first | decide | omega⟩ rfl (Nat.le_of_ble_eq_true rfl) dX2_readsClause_38 rfl (fun _ _ _ h => h.elim) ?_
    rintro _ _ ⟨rfl, rfl⟩
    try simp only [xst, xput, xpre, List.set_cons_zero, List.set_cons_succ]
    by_cases c1 : hIs T tk wHarbour = true
    · rw [if_pos c1] at ho; subst ho
      refine x_if_eq_f (tp := 51) B 44 dX2_readsClause_41 (by decide) rfl (by rw [c1]; decide) ?_
      refine x_aload0 B 45 dX2_readsClause_44 rfl (by first | rfl | exact xisR_rf _) ?_
      refine x_callV B 48 (m_X2_readsHarbour hT hk hX hR hD) [0, 1, 2, 3] rfl ⟨_, _, _, (by repeat (first | with_reducible exact xr_h | refine xr_t ?_)), rfl, rfl⟩ q1930 q1932 qs50 q92 q1933 hd_X2_readsHarbour (by decide) ⟨by first | decide | omega, by first | decide | omega⟩ ⟨by first | decide | omega, by first | decide | omega⟩ rfl (Nat.le_of_ble_eq_true rfl) dX2_readsClause_45 rfl (fun _ _ _ h => h.elim) ?_
      rintro _ _ ⟨iv', row', rb', h1, h2, h3, h4, rfl⟩
      try simp only [xst, xput, xpre, List.set_cons_zero, List.set_cons_succ]
      obtain ⟨v, rfl, hv⟩ := h4.bool
      refine x_goto B 110 dX2_readsClause_48 (by decide) ?_
      exact x_zret B rfl ⟨_, _, _, h1, h2, h3, h4, rfl⟩  dX2_readsClause_110 ⟨by first | omega | decide, by first | omega | decide⟩ hv
    rw [if_neg c1] at ho
    rw [Bool.not_eq_true] at c1
    refine x_if_eq_t B 51 dX2_readsClause_41 (by decide) (by rw [c1]; rfl) ?_
    refine x_aload0 B 52 dX2_readsClause_51 rfl (by first | rfl | exact xisR_rf _) ?_
    refine x_aload0 B 53 dX2_readsClause_52 rfl (by first | rfl | exact xisR_rf _) ?_
    refine g_X2_71_X2 B 56 (by repeat (first | with_reducible exact xr_h | refine xr_t ?_)) dX2_readsClause_53 rfl ?_
    refine x_callV B 59 (m_X2_isWord hT hk (ad 30) wKnows (wf 30) (hw 30 (by omega) (by omega)) (by decide)) [0, 1, 11] rfl ⟨_, _, _, (by repeat (first | with_reducible exact xr_h | refine xr_t ?_)), rfl, rfl⟩ q1906 q1908 qs44 q92 q1909 hd_X2_isWord (by decide) ⟨by first | decide | omega, by first | decide | omega⟩ ⟨by first | decide | omega, by first | decide | omega⟩ rfl (Nat.le_of_ble_eq_true rfl) dX2_readsClause_56 rfl (fun _ _ _ h => h.elim) ?_
    rintro _ _ ⟨rfl, rfl⟩
    try simp only [xst, xput, xpre, List.set_cons_zero, List.set_cons_succ]
    by_cases c2 : hIs T tk wKnows = true
    · rw [if_pos c2] at ho
      refine x_if_eq_f (tp := 69) B 62 dX2_readsClause_59 (by decide) rfl (by rw [c2]; decide) ?_
      refine x_aload0 B 63 dX2_readsClause_62 rfl (by first | rfl | exact xisR_rf _) ?_
      refine x_callV B 66 (m_X2_readsKnows hT hk hX hR hD) [0, 1, 2, 3] rfl ⟨_, _, _, (by repeat (first | with_reducible exact xr_h | refine xr_t ?_)), rfl, rfl⟩ q1934 q1936 qs51 q92 q1937 hd_X2_readsKnows (by decide) ⟨by first | decide | omega, by first | decide | omega⟩ ⟨by first | decide | omega, by first | decide | omega⟩ rfl (Nat.le_of_ble_eq_true rfl) dX2_readsClause_63 rfl (fun _ _ _ h => h.elim) ?_
      rintro _ _ ⟨iv', row', rb', h1, h2, h3, h4, rfl⟩
      try simp only [xst, xput, xpre, List.set_cons_zero, List.set_cons_succ]
      rw [ho] at h4
      obtain ⟨v, rfl, hv⟩ := h4.bool
      refine x_goto B 110 dX2_readsClause_66 (by decide) ?_
      exact x_zret B rfl ⟨_, _, _, h1, h2, h3, h4, rfl⟩  dX2_readsClause_110 ⟨by first | omega | decide, by first | omega | decide⟩ hv
    rw [if_neg c2] at ho
    rw [Bool.not_eq_true] at c2
    refine x_if_eq_t B 69 dX2_readsClause_59 (by decide) (by rw [c2]; rfl) ?_
    refine x_aload0 B 70 dX2_readsClause_69 rfl (by first | rfl | exact xisR_rf _) ?_
    refine x_aload0 B 71 dX2_readsClause_70 rfl (by first | rfl | exact xisR_rf _) ?_
    refine g_X2_74_X2 B 74 (by repeat (first | with_reducible exact xr_h | refine xr_t ?_)) dX2_readsClause_71 rfl ?_
    refine x_callV B 77 (m_X2_isWord hT hk (ad 31) wSits (wf 31) (hw 31 (by omega) (by omega)) (by decide)) [0, 1, 12] rfl ⟨_, _, _, (by repeat (first | with_reducible exact xr_h | refine xr_t ?_)), rfl, rfl⟩ q1906 q1908 qs44 q92 q1909 hd_X2_isWord (by decide) ⟨by first | decide | omega, by first | decide | omega⟩ ⟨by first | decide | omega, by first | decide | omega⟩ rfl (Nat.le_of_ble_eq_true rfl) dX2_readsClause_74 rfl (fun _ _ _ h => h.elim) ?_
    rintro _ _ ⟨rfl, rfl⟩
    try simp only [xst, xput, xpre, List.set_cons_zero, List.set_cons_succ]
    by_cases c3 : hIs T tk wSits = true
    · rw [if_pos c3] at ho
      refine x_if_eq_f (tp := 87) B 80 dX2_readsClause_77 (by decide) rfl (by rw [c3]; decide) ?_
      refine x_aload0 B 81 dX2_readsClause_80 rfl (by first | rfl | exact xisR_rf _) ?_
      refine x_callV B 84 (m_X2_readsSits hT hk hX hR hD) [0, 1, 2, 3] rfl ⟨_, _, _, (by repeat (first | with_reducible exact xr_h | refine xr_t ?_)), rfl, rfl⟩ q1941 q1943 qs52 q92 q1944 hd_X2_readsSits (by decide) ⟨by first | decide | omega, by first | decide | omega⟩ ⟨by first | decide | omega, by first | decide | omega⟩ rfl (Nat.le_of_ble_eq_true rfl) dX2_readsClause_81 rfl (fun _ _ _ h => h.elim) ?_
      rintro _ _ ⟨iv', row', rb', h1, h2, h3, h4, rfl⟩
      try simp only [xst, xput, xpre, List.set_cons_zero, List.set_cons_succ]
      rw [ho] at h4
      obtain ⟨v, rfl, hv⟩ := h4.bool
      refine x_goto B 110 dX2_readsClause_84 (by decide) ?_
      exact x_zret B rfl ⟨_, _, _, h1, h2, h3, h4, rfl⟩  dX2_readsClause_110 ⟨by first | omega | decide, by first | omega | decide⟩ hv
    rw [if_neg c3] at ho
    rw [Bool.not_eq_true] at c3
    refine x_if_eq_t B 87 dX2_readsClause_77 (by decide) (by rw [c3]; rfl) ?_
    refine x_aload0 B 88 dX2_readsClause_87 rfl (by first | rfl | exact xisR_rf _) ?_
    refine x_aload0 B 89 dX2_readsClause_88 rfl (by first | rfl | exact xisR_rf _) ?_
    refine g_X2_77_X2 B 92 (by repeat (first | with_reducible exact xr_h | refine xr_t ?_)) dX2_readsClause_89 rfl ?_
    refine x_callV B 95 (m_X2_isWord hT hk (ad 32) wCover (wf 32) (hw 32 (by omega) (by omega)) (by decide)) [0, 1, 13] rfl ⟨_, _, _, (by repeat (first | with_reducible exact xr_h | refine xr_t ?_)), rfl, rfl⟩ q1906 q1908 qs44 q92 q1909 hd_X2_isWord (by decide) ⟨by first | decide | omega, by first | decide | omega⟩ ⟨by first | decide | omega, by first | decide | omega⟩ rfl (Nat.le_of_ble_eq_true rfl) dX2_readsClause_92 rfl (fun _ _ _ h => h.elim) ?_
    rintro _ _ ⟨rfl, rfl⟩
    try simp only [xst, xput, xpre, List.set_cons_zero, List.set_cons_succ]
    by_cases c4 : hIs T tk wCover = true
    · rw [if_pos c4] at ho
      refine x_if_eq_f (tp := 109) B 98 dX2_readsClause_95 (by decide) rfl (by rw [c4]; decide) ?_
      refine x_aload0 B 99 dX2_readsClause_98 rfl (by first | rfl | exact xisR_rf _) ?_
      refine x_callV B 102 (m_X2_readsCover hT hk hX hR hD) [0, 1, 2, 3] rfl ⟨_, _, _, (by repeat (first | with_reducible exact xr_h | refine xr_t ?_)), rfl, rfl⟩ q1945 q1947 qs53 q92 q1948 hd_X2_readsCover (by decide) ⟨by first | decide | omega, by first | decide | omega⟩ ⟨by first | decide | omega, by first | decide | omega⟩ rfl (Nat.le_of_ble_eq_true rfl) dX2_readsClause_99 rfl (fun _ _ _ h => h.elim) ?_
      rintro _ _ ⟨iv', row', rb', h1, h2, h3, h4, rfl⟩
      try simp only [xst, xput, xpre, List.set_cons_zero, List.set_cons_succ]
      rw [ho] at h4
      obtain ⟨v, rfl, hv⟩ := h4.bool
      rcases hv with rfl | rfl
      · refine x_if_eq_t B 109 dX2_readsClause_102 (by decide) rfl ?_
        refine x_iconst B 110 (v := 0) dX2_readsClause_109 (by decide) rfl ?_
        exact x_zret B rfl ⟨_, _, _, h1, h2, h3, h4, rfl⟩ dX2_readsClause_110 ⟨by first | omega | decide, by first | omega | decide⟩ (by first | exact Or.inl rfl | exact Or.inr rfl | exact x_in01 _ _ _ | exact x_has01 _ _ | exact bI01 _ | assumption)
      · refine x_if_eq_f (tp := 109) B 105 dX2_readsClause_102 (by decide) rfl (by decide) ?_
        refine x_iconst B 106 (v := 1) dX2_readsClause_105 (by decide) rfl ?_
        refine x_goto B 110 dX2_readsClause_106 (by decide) ?_
        exact x_zret B rfl ⟨_, _, _, h1, h2, h3, h4, rfl⟩ dX2_readsClause_110 ⟨by first | omega | decide, by first | omega | decide⟩ (by first | exact Or.inl rfl | exact Or.inr rfl | exact x_in01 _ _ _ | exact x_has01 _ _ | exact bI01 _ | assumption)
    rw [if_neg c4] at ho; subst ho
    rw [Bool.not_eq_true] at c4
    refine x_if_eq_t B 109 dX2_readsClause_95 (by decide) (by rw [c4]; rfl) ?_
    refine x_iconst B 110 (v := 0) dX2_readsClause_109 (by decide) rfl ?_
    exact x_zret B rfl ⟨iv, row, rb, I4.rf, TS.rf, fun _ => rfl, ⟨rfl, hk.1⟩, rfl⟩ dX2_readsClause_110 ⟨by first | omega | decide, by first | omega | decide⟩ (by first | exact Or.inl rfl | exact Or.inr rfl | exact x_in01 _ _ _ | exact x_has01 _ _ | exact bI01 _ | assumption)
def hRest (T : List Nat) (n : Nat) (tk : Nat × Nat) (X : HT) : Nat ⊕ List HC := if T.length ≤ tk.1 then .inr [] else match n with
  | 0 => .inl tk.1
  | n + 1 => if T[tk.1]? ≠ some 59 then .inl tk.1 else hReads T n (hTok T tk.2) X
theorem hReads_eq (T : List Nat) (n : Nat) (tk : Nat × Nat) (X : HT) : hReads T n tk X = match hClause T tk X with
    | .inl f => .inl f
    | .inr (c, tk') => match hRest T n tk' (tellC X c) with
      | .inl f => .inl f
      | .inr cs => .inr (c :: cs) := by
  unfold hReads
  cases hClause T tk X with
  | inl f => rfl
  | inr q =>
    obtain ⟨c, tk'⟩ := q
    dsimp only
    unfold hRest
    by_cases h : T.length ≤ tk'.1
    · rw [if_pos h, if_pos h]
    · rw [if_neg h, if_neg h]
      cases n with
      | zero => rfl
      | succ n =>
        dsimp only
        by_cases h2 : T[tk'.1]? ≠ some 59
        · rw [if_pos h2, if_pos h2]
        · rw [if_neg h2, if_neg h2]
          cases hReads T n (hTok T tk'.2) (tellC X c) <;> rfl
def P6 (j : Nat) : Prop := P4 j ∨ j = 21 ∨ j = 22
theorem I4.p6 {a b : Nat → Int32} (h : I4 P4 a b) : I4 P6 a b := fun j hj => h j (fun z => hj (Or.inl z))
def TRd (o : Nat ⊕ List HC) (X : HT) (d : Bool) (r : Option Value) (iv' row' : Nat → Int32) (k : Nat) : Prop := match o with
  | .inl f => r = some (.int 0) ∧ iv' 16 = nI f
  | .inr cs => r = some (.int 1) ∧ iv' 21 = nI (k + cs.length) ∧ HXk (cs.foldl tellC X) ∧ (d = true → TTo row' (cs.foldl tellC X))
theorem m_X2_reads (hT : TTx tx iv T) (hX : HXk X0) (hD : TTo row X0) (hw : TWd wf) (d : Bool) : XC D yX2_reads (ws_ yX2_reads cX2_reads 3 (Option.some Jvm.ClassFile.FieldType.boolean)) 6 240 (0) (0) [.ref h, .int (bI d)] (tP D h ad iv tx row rb wf) (fun r cs' => ∃ iv' row' rb', I4 P6 iv iv' ∧ TS 108 216 row row' ∧ (d = false → row' = row) ∧ TRd (hParse T X0) X0 d r iv' row' 0 ∧ cs' = tP D h ad iv' tx row' rb' wf) x0 := by
  refine XC.of (by decide) (by simp [Value.category]) (Nat.le_of_ble_eq_true rfl) fun X B => ?_
  show WX D X (tP D h ad iv tx row rb wf) 0 0 0 [some (.ref h), some (.int (bI d)), none] []
  have hnm := hX.1.2.1
  have loop : ∀ (n : Nat), n ≤ 19 → ∀ (tk : Nat × Nat) (X1 : HT) (iv1 row1 rb1 : Nat → Int32), HXk X1 → TTok iv1 T tk → TRs iv1 rb1 X1 d → (d = true → TTo row1 X1) → I4 P6 iv iv1 → TS 108 216 row row1 → (d = false → row1 = row) → iv1 21 = nI (20 - n) → (∀ (r : Option Value) (iv' row' rb' : Nat → Int32), I4 P6 iv iv' → TS 108 216 row row' → (d = false → row' = row) → TRd (hRest T n tk X1) X1 d r iv' row' (20 - n) → ∃ iv2 row2 rb2, I4 P6 iv iv2 ∧ TS 108 216 row row2 ∧ (d = false → row2 = row) ∧ TRd (hParse T X0) X0 d r iv2 row2 0 ∧ tP D h ad iv' tx row' rb' wf = tP D h ad iv2 tx row2 rb2 wf) → WX D X (tP D h ad iv1 tx row1 rb1 wf) 0 0 75 [some (.ref h), some (.int (bI d)), some (.int 1)] [] := by
    intro n
    induction n with
    | zero =>
      intro hn tk X1 iv1 row1 rb1 gX gk gR gD gI gS gd g21 K
      have e1 : hRest T 0 tk X1 = if T.length ≤ tk.1 then .inr [] else .inl tk.1 := rfl
      have gT : TTx tx iv1 T := ⟨by rw [gI 4 (by simp [P6, P4])]; exact hT.1, hT.2⟩
      have b1 := gk.2.2.1
      have b2 := gk.2.2.2.1
      have b3 := gT.2.1
      refine x_iload2 B 76 dX2_reads_75 rfl ?_
      refine x_if_eq_f (tp := 145) B 79 dX2_reads_76 (by decide) rfl (by decide) ?_
      refine x_aload0 B 80 dX2_reads_79 rfl (by first | rfl | exact xisR_rf _) ?_
      refine g_X2_128_X2 B 83 (by repeat (first | with_reducible exact xr_h | refine xr_t ?_)) dX2_reads_80 rfl ?_
      refine x_aload0 B 84 dX2_reads_83 rfl (by first | rfl | exact xisR_rf _) ?_
      refine g_X2_113_X2 B 87 (by repeat (first | with_reducible exact xr_h | refine xr_t ?_)) dX2_reads_84 rfl ?_
      rw [gk.1, gT.1]
      by_cases c : T.length ≤ tk.1
      · rw [if_pos c] at e1
        refine x_icmp_ge_t B 145 dX2_reads_87 (by decide) (by (try simp only [xlit]); first | (rw [nI_leI (by omega) (by omega)]; omega) | (rw [nI_ltI (by omega) (by omega)]; omega) | (rw [nI_eq (by omega) (by omega)]; omega)) ?_
        refine x_iload2 B 146 dX2_reads_145 rfl ?_
        exact x_zret B rfl (K _ _ _ _ gI gS gd (by rw [e1]; exact ⟨rfl, g21, gX, gD⟩)) dX2_reads_146 ⟨by first | omega | decide, by first | omega | decide⟩ (by first | exact Or.inl rfl | exact Or.inr rfl | exact x_in01 _ _ _ | exact x_has01 _ _ | exact bI01 _ | assumption)
      · rw [if_neg c] at e1
        refine x_icmp_ge_f (tp := 145) B 90 dX2_reads_87 (by decide) rfl (by (try simp only [xlit]); first | (rw [nI_leI (by omega) (by omega)]; omega) | (rw [nI_ltI (by omega) (by omega)]; omega) | (rw [nI_eq (by omega) (by omega)]; omega)) ?_
        refine x_aload0 B 91 dX2_reads_90 rfl (by first | rfl | exact xisR_rf _) ?_
        refine g_X2_192_X2 B 94 (by repeat (first | with_reducible exact xr_h | refine xr_t ?_)) dX2_reads_91 rfl ?_
        rw [g21]
        refine x_bipush B 96 (v := 20) dX2_reads_94 (by decide) rfl ?_
        refine x_icmp_ge_t B 117 dX2_reads_96 (by decide) (by (try simp only [xlit]); first | (rw [nI_leI (by omega) (by omega)]; omega) | (rw [nI_ltI (by omega) (by omega)]; omega) | (rw [nI_eq (by omega) (by omega)]; omega)) ?_
        refine x_iconst B 118 (v := 0) dX2_reads_117 (by decide) rfl ?_
        refine x_istore2 B 119 dX2_reads_118 rfl ?_
        refine x_iload2 B 120 dX2_reads_119 rfl ?_
        refine x_if_eq_t B 75 dX2_reads_120 (by decide) rfl ?_
        refine x_iload2 B 76 dX2_reads_75 rfl ?_
        refine x_if_eq_t B 145 dX2_reads_76 (by decide) rfl ?_
        refine x_iload2 B 146 dX2_reads_145 rfl ?_
        exact x_zret B rfl (K _ _ _ _ gI gS gd (by rw [e1]; exact ⟨rfl, gk.1⟩)) dX2_reads_146 ⟨by first | omega | decide, by first | omega | decide⟩ (by first | exact Or.inl rfl | exact Or.inr rfl | exact x_in01 _ _ _ | exact x_has01 _ _ | exact bI01 _ | assumption)
    | succ n ih =>
      intro hn tk X1 iv1 row1 rb1 gX gk gR gD gI gS gd g21 K
      have e1 : hRest T (n + 1) tk X1 = if T.length ≤ tk.1 then .inr [] else if T[tk.1]? ≠ some 59 then .inl tk.1 else hReads T n (hTok T tk.2) X1 := rfl
      have gT : TTx tx iv1 T := ⟨by rw [gI 4 (by simp [P6, P4])]; exact hT.1, hT.2⟩
      have b1 := gk.2.2.1
      have b2 := gk.2.2.2.1
      have b3 := gT.2.1
      refine x_iload2 B 76 dX2_reads_75 rfl ?_
      refine x_if_eq_f (tp := 145) B 79 dX2_reads_76 (by decide) rfl (by decide) ?_
      refine x_aload0 B 80 dX2_reads_79 rfl (by first | rfl | exact xisR_rf _) ?_
      refine g_X2_128_X2 B 83 (by repeat (first | with_reducible exact xr_h | refine xr_t ?_)) dX2_reads_80 rfl ?_
      refine x_aload0 B 84 dX2_reads_83 rfl (by first | rfl | exact xisR_rf _) ?_
      refine g_X2_113_X2 B 87 (by repeat (first | with_reducible exact xr_h | refine xr_t ?_)) dX2_reads_84 rfl ?_
      rw [gk.1, gT.1]
      by_cases c : T.length ≤ tk.1
      · rw [if_pos c] at e1
        refine x_icmp_ge_t B 145 dX2_reads_87 (by decide) (by (try simp only [xlit]); first | (rw [nI_leI (by omega) (by omega)]; omega) | (rw [nI_ltI (by omega) (by omega)]; omega) | (rw [nI_eq (by omega) (by omega)]; omega)) ?_
        refine x_iload2 B 146 dX2_reads_145 rfl ?_
        exact x_zret B rfl (K _ _ _ _ gI gS gd (by rw [e1]; exact ⟨rfl, g21, gX, gD⟩)) dX2_reads_146 ⟨by first | omega | decide, by first | omega | decide⟩ (by first | exact Or.inl rfl | exact Or.inr rfl | exact x_in01 _ _ _ | exact x_has01 _ _ | exact bI01 _ | assumption)
      rw [if_neg c] at e1
      obtain ⟨x, x1, x2, x3⟩ := gT.at (p := tk.1) (by omega)
      refine x_icmp_ge_f (tp := 145) B 90 dX2_reads_87 (by decide) rfl (by (try simp only [xlit]); first | (rw [nI_leI (by omega) (by omega)]; omega) | (rw [nI_ltI (by omega) (by omega)]; omega) | (rw [nI_eq (by omega) (by omega)]; omega)) ?_
      refine x_aload0 B 91 dX2_reads_90 rfl (by first | rfl | exact xisR_rf _) ?_
      refine g_X2_192_X2 B 94 (by repeat (first | with_reducible exact xr_h | refine xr_t ?_)) dX2_reads_91 rfl ?_
      rw [g21]
      refine x_bipush B 96 (v := 20) dX2_reads_94 (by decide) rfl ?_
      refine x_icmp_ge_f (tp := 117) B 99 dX2_reads_96 (by decide) rfl (by (try simp only [xlit]); first | (rw [nI_leI (by omega) (by omega)]; omega) | (rw [nI_ltI (by omega) (by omega)]; omega) | (rw [nI_eq (by omega) (by omega)]; omega)) ?_
      refine x_aload0 B 100 dX2_reads_99 rfl (by first | rfl | exact xisR_rf _) ?_
      refine g_X2_17_X2 B 103 (by repeat (first | with_reducible exact xr_h | refine xr_t ?_)) dX2_reads_100 rfl ?_
      refine x_aload0 B 104 dX2_reads_103 rfl (by first | rfl | exact xisR_rf _) ?_
      refine g_X2_128_X2 B 107 (by repeat (first | with_reducible exact xr_h | refine xr_t ?_)) dX2_reads_104 rfl ?_
      rw [gk.1]
      refine x_ialdv B 108 (by repeat (first | with_reducible exact xr_h | refine xr_t ?_)) (j := tk.1) (by first | (simp only [xlit, nI_add, pk_mul]; done) | rfl | (simp only [xlit, nI_add, pk_mul]; congr 1; omega)) ⟨by first | omega | decide, by first | decide | omega⟩ x2 dX2_reads_107 rfl ?_
      by_cases c2 : x = 59
      · rw [if_neg (by rw [x1, c2]; simp)] at e1
        refine x_bipush B 110 (v := 59) dX2_reads_108 (by decide) rfl ?_
        refine x_icmp_ne_f (tp := 117) B 113 dX2_reads_110 (by decide) rfl (by (try simp only [xlit]); first | (rw [nI_leI (by omega) (by omega)]; omega) | (rw [nI_ltI (by omega) (by omega)]; omega) | (rw [nI_eq (by omega) (by omega)]; omega)) ?_
        refine x_iconst B 114 (v := 1) dX2_reads_113 (by decide) rfl ?_
        refine x_goto B 118 dX2_reads_114 (by decide) ?_
        refine x_istore2 B 119 dX2_reads_118 rfl ?_
        refine x_iload2 B 120 dX2_reads_119 rfl ?_
        refine x_if_eq_f (tp := 75) B 123 dX2_reads_120 (by decide) rfl (by decide) ?_
        refine x_aload0 B 124 dX2_reads_123 rfl (by first | rfl | exact xisR_rf _) ?_
        refine x_callV B 127 (m_X2_nextToken gT tk.2 b2 gk.2.1) [0, 1] rfl ⟨_, _, _, (by repeat (first | with_reducible exact xr_h | refine xr_t ?_)), rfl, rfl⟩ q1884 q1886 qs41 q92 q1887 hd_X2_nextToken (by decide) ⟨by first | decide | omega, by first | decide | omega⟩ ⟨by first | decide | omega, by first | decide | omega⟩ rfl (Nat.le_of_ble_eq_true rfl) dX2_reads_124 rfl (fun _ _ _ h => h.elim) ?_
        rintro _ _ ⟨rfl, iv2, k2, I2, rfl⟩
        try simp only [xst, xput, xpre, List.set_cons_zero, List.set_cons_succ]
        have gI2 : I4 P6 iv iv2 := gI.trans I2.p4.p6
        have gT2 : TTx tx iv2 T := gT.i4 I2.p4
        refine x_aload0 B 128 dX2_reads_127 rfl (by first | rfl | exact xisR_rf _) ?_
        refine x_callV B 131 (m_X2_readsClause gT2 k2 gX (gR.i4 I2) gD hw) [0, 1, 2, 3, 4, 5, 6, 7, 8, 9, 10, 11, 12, 13] rfl ⟨_, _, _, (by repeat (first | with_reducible exact xr_h | refine xr_t ?_)), rfl, rfl⟩ q1898 q1900 qs42 q92 q1901 hd_X2_readsClause (by decide) ⟨by first | decide | omega, by first | decide | omega⟩ ⟨by first | decide | omega, by first | decide | omega⟩ rfl (Nat.le_of_ble_eq_true rfl) dX2_reads_128 rfl (fun _ _ _ h => h.elim) ?_
        rintro _ _ ⟨iv3, row3, rb3, h1, h2, h3, h4, rfl⟩
        try simp only [xst, xput, xpre, List.set_cons_zero, List.set_cons_succ]
        have gI3 : I4 P6 iv iv3 := gI2.trans h1.p6
        have g3 : iv3 21 = nI (20 - (n + 1)) := by rw [h1 21 (by simp [P4]), I2 21 (by omega)]; exact g21
        have gd3 : d = false → row3 = row := fun z => (h3 z).trans (gd z)
        rw [hReads_eq] at e1
        cases eo : hClause T (hTok T tk.2) X1 with
        | inl f =>
          rw [eo] at h4 e1
          obtain ⟨rfl, h5⟩ := h4
          refine x_istore2 B 132 dX2_reads_131 rfl ?_
          refine x_aload0 B 133 dX2_reads_132 rfl (by first | rfl | exact xisR_rf _) ?_
          refine x_dup B 134 dX2_reads_133 rfl rfl ?_
          refine g_X2_192_X2 B 137 (by repeat (first | with_reducible exact xr_h | refine xr_t ?_)) dX2_reads_134 rfl ?_
          rw [g3]
          refine x_iconst B 138 (v := 1) dX2_reads_137 (by decide) rfl ?_
          refine x_iadd B 139 dX2_reads_138 rfl ?_
          rw [show nI (20 - (n + 1)) + 1 = nI (20 - (n + 1) + 1) from nI_1 _]
          refine s_X2_192_X2 B 142 (by repeat (first | with_reducible exact xu_h | apply xu_t)) dX2_reads_139 rfl ?_
          refine x_goto B 75 dX2_reads_142 (by decide) ?_
          refine x_iload2 B 76 dX2_reads_75 rfl ?_
          refine x_if_eq_t B 145 dX2_reads_76 (by decide) rfl ?_
          refine x_iload2 B 146 dX2_reads_145 rfl ?_
          exact x_zret B rfl (K _ _ _ _ (gI3.upd (Or.inr (Or.inl rfl))) (gS.trans h2) gd3 (by rw [e1]; exact ⟨rfl, by rw [pk_un (by omega)]; exact h5⟩)) dX2_reads_146 ⟨by first | omega | decide, by first | omega | decide⟩ (by first | exact Or.inl rfl | exact Or.inr rfl | exact x_in01 _ _ _ | exact x_has01 _ _ | exact bI01 _ | assumption)
        | inr q =>
          obtain ⟨c, tk2⟩ := q
          rw [eo] at h4 e1
          obtain ⟨rfl, h5, h6, h7, h8⟩ := h4
          dsimp only at e1
          refine x_istore2 B 132 dX2_reads_131 rfl ?_
          refine x_aload0 B 133 dX2_reads_132 rfl (by first | rfl | exact xisR_rf _) ?_
          refine x_dup B 134 dX2_reads_133 rfl rfl ?_
          refine g_X2_192_X2 B 137 (by repeat (first | with_reducible exact xr_h | refine xr_t ?_)) dX2_reads_134 rfl ?_
          rw [g3]
          refine x_iconst B 138 (v := 1) dX2_reads_137 (by decide) rfl ?_
          refine x_iadd B 139 dX2_reads_138 rfl ?_
          rw [show nI (20 - (n + 1)) + 1 = nI (20 - n) from by rw [nI_1]; congr 1; omega]
          refine s_X2_192_X2 B 142 (by repeat (first | with_reducible exact xu_h | apply xu_t)) dX2_reads_139 rfl ?_
          refine x_goto B 75 dX2_reads_142 (by decide) ?_
          refine ih (by omega) tk2 (tellC X1 c) _ row3 rb3 (gX.tell h8) ⟨by rw [pk_un (by omega)]; exact h5.1, by rw [pk_un (by omega)]; exact h5.2.1, h5.2.2⟩ ⟨by rw [pk_un (by omega)]; exact h6.1, by rw [pk_un (by omega)]; exact h6.2.1, h6.2.2.1, by rw [pk_un (by omega)]; exact h6.2.2.2⟩ h7 (gI3.upd (Or.inr (Or.inl rfl))) (gS.trans h2) gd3 pk_us (fun r iv' row' rb' a1 a2 a3 a4 => K r iv' row' rb' a1 a2 a3 ?_)
          rw [e1]
          cases er : hRest T n tk2 (tellC X1 c) with
          | inl f => rw [er] at a4; exact a4
          | inr cs =>
            rw [er] at a4
            obtain ⟨z1, z2, z3, z4⟩ := a4
            exact ⟨z1, by rw [z2]; congr 1; simp only [List.length_cons]; omega, z3, z4⟩
      · rw [if_pos (by rw [x1]; simpa using c2)] at e1
        refine x_bipush B 110 (v := 59) dX2_reads_108 (by decide) rfl ?_
        refine x_icmp_ne_t B 117 dX2_reads_110 (by decide) (by (try simp only [xlit]); first | (rw [nI_leI (by omega) (by omega)]; omega) | (rw [nI_ltI (by omega) (by omega)]; omega) | (rw [nI_eq (by omega) (by omega)]; omega)) ?_
        refine x_iconst B 118 (v := 0) dX2_reads_117 (by decide) rfl ?_
        refine x_istore2 B 119 dX2_reads_118 rfl ?_
        refine x_iload2 B 120 dX2_reads_119 rfl ?_
        refine x_if_eq_t B 75 dX2_reads_120 (by decide) rfl ?_
        refine x_iload2 B 76 dX2_reads_75 rfl ?_
        refine x_if_eq_t B 145 dX2_reads_76 (by decide) rfl ?_
        refine x_iload2 B 146 dX2_reads_145 rfl ?_
        exact x_zret B rfl (K _ _ _ _ gI gS gd (by rw [e1]; exact ⟨rfl, gk.1⟩)) dX2_reads_146 ⟨by first | omega | decide, by first | omega | decide⟩ (by first | exact Or.inl rfl | exact Or.inr rfl | exact x_in01 _ _ _ | exact x_has01 _ _ | exact bI01 _ | assumption)
  -- how it begins
  refine x_aload0 B 1 dX2_reads_0 rfl (by first | rfl | exact xisR_rf _) ?_
  refine x_iload1 B 2 dX2_reads_1 rfl ?_
  refine s_X2_155_X2 B 5 (by cases d <;> rfl) (by cases d <;> rfl) (by repeat (first | with_reducible exact xu_h | apply xu_t)) dX2_reads_2 rfl ?_
  have men : ∀ (m k : Nat), k + m = 4 → ∀ (iv1 rb1 : Nat → Int32), I4 P6 iv iv1 → iv1 17 = 0 → iv1 18 = nI X0.1 → iv1 19 = nI X0.2.1 → iv1 21 = 1 → iv1 22 = bI d → (∀ j, j < k → rb1 j = row (108 + 104 + j)) → WX D X (tP D h ad iv1 tx row rb1 wf) 0 0 39 [some (.ref h), some (.int (bI d)), some (.int (nI k))] [] := by
    intro m
    induction m with
    | zero =>
      intro k hk iv1 rb1 gI g17 g18 g19 g21 g22 grb
      obtain rfl : k = 4 := by omega
      have gT : TTx tx iv1 T := ⟨by rw [gI 4 (by simp [P6, P4])]; exact hT.1, hT.2⟩
      have gR : TRs iv1 rb1 X0 d := ⟨g18, g19, fun m hm => by rw [grb m (by omega)]; exact hD.1.2.2.2.2.2.2.2.2 m hm, g22⟩
      refine x_iload2 B 40 dX2_reads_39 rfl ?_
      refine x_iconst B 41 (v := 4) dX2_reads_40 (by decide) rfl ?_
      refine x_icmp_ge_t B 66 dX2_reads_41 (by decide) (by (try simp only [xlit]); first | (rw [nI_leI (by omega) (by omega)]; omega) | (rw [nI_ltI (by omega) (by omega)]; omega) | (rw [nI_eq (by omega) (by omega)]; omega)) ?_
      refine x_aload0 B 67 dX2_reads_66 rfl (by first | rfl | exact xisR_rf _) ?_
      refine x_callV B 70 (m_X2_nextToken gT 0 (Nat.zero_le _) g17) [0, 1] rfl ⟨_, _, _, (by repeat (first | with_reducible exact xr_h | refine xr_t ?_)), rfl, rfl⟩ q1884 q1886 qs41 q92 q1887 hd_X2_nextToken (by decide) ⟨by first | decide | omega, by first | decide | omega⟩ ⟨by first | decide | omega, by first | decide | omega⟩ rfl (Nat.le_of_ble_eq_true rfl) dX2_reads_67 rfl (fun _ _ _ h => h.elim) ?_
      rintro _ _ ⟨rfl, iv2, k2, I2, rfl⟩
      try simp only [xst, xput, xpre, List.set_cons_zero, List.set_cons_succ]
      have gI2 : I4 P6 iv iv2 := gI.trans I2.p4.p6
      have gT2 : TTx tx iv2 T := gT.i4 I2.p4
      refine x_aload0 B 71 dX2_reads_70 rfl (by first | rfl | exact xisR_rf _) ?_
      refine x_callV B 74 (m_X2_readsClause gT2 k2 hX (gR.i4 I2) (fun _ => hD) hw) [0, 1, 2, 3, 4, 5, 6, 7, 8, 9, 10, 11, 12, 13] rfl ⟨_, _, _, (by repeat (first | with_reducible exact xr_h | refine xr_t ?_)), rfl, rfl⟩ q1898 q1900 qs42 q92 q1901 hd_X2_readsClause (by decide) ⟨by first | decide | omega, by first | decide | omega⟩ ⟨by first | decide | omega, by first | decide | omega⟩ rfl (Nat.le_of_ble_eq_true rfl) dX2_reads_71 rfl (fun _ _ _ h => h.elim) ?_
      rintro _ _ ⟨iv3, row3, rb3, h1, h2, h3, h4, rfl⟩
      try simp only [xst, xput, xpre, List.set_cons_zero, List.set_cons_succ]
      have gI3 : I4 P6 iv iv3 := gI2.trans h1.p6
      have g3 : iv3 21 = nI (20 - 19) := by rw [h1 21 (by simp [P4]), I2 21 (by omega)]; exact g21
      have e1 : hParse T X0 = hReads T 19 (hTok T 0) X0 := rfl
      rw [hReads_eq] at e1
      cases eo : hClause T (hTok T 0) X0 with
      | inl f =>
        rw [eo] at h4 e1
        obtain ⟨rfl, h5⟩ := h4
        refine x_istore2 B 75 dX2_reads_74 rfl ?_
        refine x_iload2 B 76 dX2_reads_75 rfl ?_
        refine x_if_eq_t B 145 dX2_reads_76 (by decide) rfl ?_
        refine x_iload2 B 146 dX2_reads_145 rfl ?_
        exact x_zret B rfl ⟨_, _, _, gI3, h2, h3, (by rw [e1]; exact ⟨rfl, h5⟩), rfl⟩ dX2_reads_146 ⟨by first | omega | decide, by first | omega | decide⟩ (by first | exact Or.inl rfl | exact Or.inr rfl | exact x_in01 _ _ _ | exact x_has01 _ _ | exact bI01 _ | assumption)
      | inr q =>
        obtain ⟨c, tk2⟩ := q
        rw [eo] at h4 e1
        obtain ⟨rfl, h5, h6, h7, h8⟩ := h4
        dsimp only at e1
        refine x_istore2 B 75 dX2_reads_74 rfl ?_
        refine loop 19 (by omega) tk2 (tellC X0 c) iv3 row3 rb3 (hX.tell h8) h5 h6 h7 gI3 h2 h3 g3 (fun r iv' row' rb' a1 a2 a3 a4 => ⟨iv', row', rb', a1, a2, a3, ?_, rfl⟩)
        rw [e1]
        cases er : hRest T 19 tk2 (tellC X0 c) with
        | inl f => rw [er] at a4; exact a4
        | inr cs =>
          rw [er] at a4
          obtain ⟨z1, z2, z3, z4⟩ := a4
          exact ⟨z1, by rw [z2]; congr 1; simp only [List.length_cons]; omega, z3, z4⟩
    | succ m ih =>
      intro k hk iv1 rb1 gI g17 g18 g19 g21 g22 grb
      refine x_iload2 B 40 dX2_reads_39 rfl ?_
      refine x_iconst B 41 (v := 4) dX2_reads_40 (by decide) rfl ?_
      refine x_icmp_ge_f (tp := 66) B 44 dX2_reads_41 (by decide) rfl (by (try simp only [xlit]); first | (rw [nI_leI (by omega) (by omega)]; omega) | (rw [nI_ltI (by omega) (by omega)]; omega) | (rw [nI_eq (by omega) (by omega)]; omega)) ?_
      refine x_aload0 B 45 dX2_reads_44 rfl (by first | rfl | exact xisR_rf _) ?_
      refine g_X2_47_X2 B 48 (by repeat (first | with_reducible exact xr_h | refine xr_t ?_)) dX2_reads_45 rfl ?_
      refine x_iload2 B 49 dX2_reads_48 rfl ?_
      refine x_aload0 B 50 dX2_reads_49 rfl (by first | rfl | exact xisR_rf _) ?_
      refine g_X2_7_X2 B 53 (by repeat (first | with_reducible exact xr_h | refine xr_t ?_)) dX2_reads_50 rfl ?_
      refine x_sipush B 56 (v := 212) dX2_reads_53 (by decide) rfl ?_
      refine x_iload2 B 57 dX2_reads_56 rfl ?_
      refine x_iadd B 58 dX2_reads_57 rfl ?_
      refine x_iald B 59 (by repeat (first | with_reducible exact xr_h | refine xr_t ?_)) (j := 108 + 104 + k) (by first | (simp only [xlit, nI_add, pk_mul]; done) | rfl | (simp only [xlit, nI_add, pk_mul]; congr 1; omega)) ⟨by first | omega | decide, by first | decide | omega⟩ dX2_reads_58 rfl ?_
      refine x_iast B 60 (by repeat (first | with_reducible exact xu_h | apply xu_t)) (j := k) (by first | (simp only [xlit, nI_add, pk_mul]; done) | rfl | (simp only [xlit, nI_add, pk_mul]; congr 1; omega)) ⟨by first | omega | decide, by first | decide | omega⟩ dX2_reads_59 rfl ?_
      refine x_iinc2 B 63 dX2_reads_60 rfl (by first | exact xinc _ | rfl) ?_
      refine x_goto B 39 dX2_reads_63 (by decide) ?_
      refine ih (k + 1) (by omega) iv1 _ gI g17 g18 g19 g21 g22 (fun j hj => ?_)
      by_cases q : j = k
      · subst q; rw [pk_us]
      · rw [pk_un q]; exact grb j (by omega)
  refine x_aload0 B 6 dX2_reads_5 rfl (by first | rfl | exact xisR_rf _) ?_
  refine x_iconst B 7 (v := 0) dX2_reads_6 (by decide) rfl ?_
  refine s_X2_125_X2 B 10 (by repeat (first | with_reducible exact xu_h | apply xu_t)) dX2_reads_7 rfl ?_
  refine x_aload0 B 11 dX2_reads_10 rfl (by first | rfl | exact xisR_rf _) ?_
  refine x_iconst B 12 (v := 1) dX2_reads_11 (by decide) rfl ?_
  refine s_X2_192_X2 B 15 (by repeat (first | with_reducible exact xu_h | apply xu_t)) dX2_reads_12 rfl ?_
  refine x_aload0 B 16 dX2_reads_15 rfl (by first | rfl | exact xisR_rf _) ?_
  refine x_aload0 B 17 dX2_reads_16 rfl (by first | rfl | exact xisR_rf _) ?_
  refine g_X2_7_X2 B 20 (by repeat (first | with_reducible exact xr_h | refine xr_t ?_)) dX2_reads_17 rfl ?_
  refine x_bipush B 22 (v := 108) dX2_reads_20 (by decide) rfl ?_
  refine x_ialdv B 23 (by repeat (first | with_reducible exact xr_h | refine xr_t ?_)) (j := 108) (by first | (simp only [xlit, nI_add, pk_mul]; done) | rfl | (simp only [xlit, nI_add, pk_mul]; congr 1; omega)) ⟨by first | omega | decide, by first | decide | omega⟩ hD.1.1 dX2_reads_22 rfl ?_
  refine s_X2_149_X2 B 26 (by repeat (first | with_reducible exact xu_h | apply xu_t)) dX2_reads_23 rfl ?_
  refine x_aload0 B 27 dX2_reads_26 rfl (by first | rfl | exact xisR_rf _) ?_
  refine x_aload0 B 28 dX2_reads_27 rfl (by first | rfl | exact xisR_rf _) ?_
  refine g_X2_7_X2 B 31 (by repeat (first | with_reducible exact xr_h | refine xr_t ?_)) dX2_reads_28 rfl ?_
  refine x_bipush B 33 (v := 109) dX2_reads_31 (by decide) rfl ?_
  refine x_ialdv B 34 (by repeat (first | with_reducible exact xr_h | refine xr_t ?_)) (j := 109) (by first | (simp only [xlit, nI_add, pk_mul]; done) | rfl | (simp only [xlit, nI_add, pk_mul]; congr 1; omega)) ⟨by first | omega | decide, by first | decide | omega⟩ hD.1.2.1 dX2_reads_33 rfl ?_
  refine s_X2_159_X2 B 37 (by repeat (first | with_reducible exact xu_h | apply xu_t)) dX2_reads_34 rfl ?_
  refine x_iconst B 38 (v := 0) dX2_reads_37 (by decide) rfl ?_
  refine x_istore2 B 39 dX2_reads_38 rfl ?_
  exact men 4 0 rfl _ rb (((((I4.rf.upd (Or.inr (Or.inr rfl))).upd (Or.inl (Or.inr (Or.inl rfl)))).upd (Or.inr (Or.inl rfl))).upd (Or.inl (Or.inr (Or.inr (Or.inl rfl))))).upd (Or.inl (Or.inr (Or.inr (Or.inr rfl))))) (by rw [pk_un (by omega), pk_un (by omega), pk_un (by omega), pk_us]) (by rw [pk_un (by omega), pk_us]) pk_us (by rw [pk_un (by omega), pk_un (by omega), pk_us]) (by rw [pk_un (by omega), pk_un (by omega), pk_un (by omega), pk_un (by omega), pk_us]) (fun j hj => by omega)
end T16
