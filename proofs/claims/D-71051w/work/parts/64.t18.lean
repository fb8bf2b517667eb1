/-! the twin, 18: a harbour told; a tongue told -/
def sHarbour (T : List Nat) (X : HT) : Int32 × Option HT := match hParse T X with
  | .inl _ => (-4, none)
  | .inr cs => (nI cs.length, some (cs.foldl tellC X))
section T18
variable {D : xG} {h : Nat} {ad : Nat → Nat} {iv row zk tx rb lt en bg op : Nat → Int32} {T : List Nat} {tk : Nat × Nat} {X0 : HT} {d : Bool} {wf : Nat → Nat → Int32}
theorem hReads_len {T : List Nat} : ∀ (n : Nat) (tk : Nat × Nat) (X : HT) (cs : List HC), hReads T n tk X = .inr cs → cs.length ≤ n + 1 := by
  intro n
  induction n with
  | zero =>
    intro tk X cs h
    rw [hReads_eq] at h
    split at h
    · cases h
    · rename_i c tk' _
      unfold hRest at h
      by_cases c1 : T.length ≤ tk'.1
      · rw [if_pos c1] at h; dsimp only at h; cases h; simp
      · rw [if_neg c1] at h; dsimp only at h; cases h
  | succ n ih =>
    intro tk X cs h
    rw [hReads_eq] at h
    split at h
    · cases h
    · rename_i c tk' _
      unfold hRest at h
      by_cases c1 : T.length ≤ tk'.1
      · rw [if_pos c1] at h; dsimp only at h; cases h; simp
      · rw [if_neg c1] at h; dsimp only at h
        by_cases c2 : T[tk'.1]? ≠ some 59
        · rw [if_pos c2] at h; dsimp only at h; cases h
        · rw [if_neg c2] at h
          cases e : hReads T n (hTok T tk'.2) (tellC X c) with
          | inl f => rw [e] at h; cases h
          | inr cs2 => rw [e] at h; cases h; have := ih _ _ _ e; simp; omega
theorem m_X2_harbour (hT : TTx tx iv T) (hX : HXk X0) (hD : TTo row X0) (hw : TWd wf) (q : Int32 × Option HT) (hq : sHarbour T X0 = q) : XC D yX2_harbour (ws_ yX2_harbour cX2_harbour 1 (Option.some Jvm.ClassFile.FieldType.int)) 7 280 (0) (0) [.ref h] [tR D h ad iv, tI D ad 3 200 tx, tI D ad 0 1404 row, tI D ad 20 4 rb, tI D ad 24 6 (wf 24), tI D ad 25 4 (wf 25), tI D ad 26 8 (wf 26), tI D ad 27 4 (wf 27), tI D ad 28 5 (wf 28), tI D ad 29 3 (wf 29), tI D ad 23 7 (wf 23), tI D ad 30 5 (wf 30), tI D ad 31 4 (wf 31), tI D ad 32 5 (wf 32), tZ D ad 2 2 zk] (fun r cs' => r = some (.int q.1) ∧ ∃ iv' rb' row' zk', (match q.2 with | none => I4 P6 iv iv' ∧ row' = row ∧ zk' = zk | some X1 => HXk X1 ∧ TTo row' X1 ∧ TW row' iv' X1.1 X1.2.1 X1.2.2.1 X1.2.2.2 [] ∧ zk' 0 = 0 ∧ zk' 1 = 0 ∧ iv' 4 = 0 ∧ iv' 5 = 0 ∧ I4 (fun j => P6 j ∨ j = 1 ∨ j = 4 ∨ j = 5) iv iv') ∧ cs' = [tR D h ad iv', tI D ad 3 200 tx, tI D ad 0 1404 row', tI D ad 20 4 rb', tI D ad 24 6 (wf 24), tI D ad 25 4 (wf 25), tI D ad 26 8 (wf 26), tI D ad 27 4 (wf 27), tI D ad 28 5 (wf 28), tI D ad 29 3 (wf 29), tI D ad 23 7 (wf 23), tI D ad 30 5 (wf 30), tI D ad 31 4 (wf 31), tI D ad 32 5 (wf 32), tZ D ad 2 2 zk']) x0 := by
  refine XC.of (by decide) (by simp [Value.category]) (Nat.le_of_ble_eq_true rfl) fun X B => ?_
  show WX D X [tR D h ad iv, tI D ad 3 200 tx, tI D ad 0 1404 row, tI D ad 20 4 rb, tI D ad 24 6 (wf 24), tI D ad 25 4 (wf 25), tI D ad 26 8 (wf 26), tI D ad 27 4 (wf 27), tI D ad 28 5 (wf 28), tI D ad 29 3 (wf 29), tI D ad 23 7 (wf 23), tI D ad 30 5 (wf 30), tI D ad 31 4 (wf 31), tI D ad 32 5 (wf 32), tZ D ad 2 2 zk] 0 0 0 [some (.ref h)] []
  refine x_aload0 B 1 dX2_harbour_0 rfl (by first | rfl | exact xisR_rf _) ?_
  refine x_iconst B 2 (v := 0) dX2_harbour_1 (by decide) rfl ?_
  refine x_callV B 5 (m_X2_reads (row := row) (rb := rb) hT hX hD hw false) [0, 1, 2, 3, 4, 5, 6, 7, 8, 9, 10, 11, 12, 13] rfl ⟨_, _, _, (by repeat (first | with_reducible exact xr_h | refine xr_t ?_)), rfl, rfl⟩ q1880 q1882 qs40 q92 q1883 hd_X2_reads (by decide) ⟨by first | decide | omega, by first | decide | omega⟩ ⟨by first | decide | omega, by first | decide | omega⟩ rfl (Nat.le_of_ble_eq_true rfl) dX2_harbour_2 rfl (fun _ _ _ h => h.elim) ?_
  rintro _ _ ⟨iv1, row1, rb1, h1, h2, h3, h4, rfl⟩
  try simp only [xst, xput, xpre, List.set_cons_zero, List.set_cons_succ]
  obtain rfl := h3 rfl
  cases ep : hParse T X0 with
  | inl f =>
    rw [ep] at h4
    obtain ⟨rfl, h5⟩ := h4
    simp only [sHarbour, ep] at hq; subst hq
    refine x_if_ne_f (tp := 11) B 8 dX2_harbour_5 (by decide) rfl rfl ?_
    refine x_bipush B 10 (v := (-4)) dX2_harbour_8 (by decide) rfl ?_
    exact x_iret B rfl ⟨rfl, iv1, rb1, _, zk, ⟨h1, rfl, rfl⟩, rfl⟩ dX2_harbour_10 ⟨by first | omega | decide, by first | omega | decide⟩
  | inr cs =>
    rw [ep] at h4
    obtain ⟨rfl, -⟩ := h4
    simp only [sHarbour, ep] at hq; subst hq
    have hT1 : TTx tx iv1 T := ⟨by rw [h1 4 (by simp [P6, P4])]; exact hT.1, hT.2⟩
    refine x_if_ne_t B 11 dX2_harbour_5 (by decide) (by decide) ?_
    refine x_aload0 B 12 dX2_harbour_11 rfl (by first | rfl | exact xisR_rf _) ?_
    refine x_iconst B 13 (v := 1) dX2_harbour_12 (by decide) rfl ?_
    refine x_callV B 16 (m_X2_reads (rb := rb1) hT1 hX hD hw true) [0, 1, 2, 3, 4, 5, 6, 7, 8, 9, 10, 11, 12, 13] rfl ⟨_, _, _, (by repeat (first | with_reducible exact xr_h | refine xr_t ?_)), rfl, rfl⟩ q1880 q1882 qs40 q92 q1883 hd_X2_reads (by decide) ⟨by first | decide | omega, by first | decide | omega⟩ ⟨by first | decide | omega, by first | decide | omega⟩ rfl (Nat.le_of_ble_eq_true rfl) dX2_harbour_13 rfl (fun _ _ _ h => h.elim) ?_
    rintro _ _ ⟨iv2, row2, rb2, g1, g2, -, g4, rfl⟩
    try simp only [xst, xput, xpre, List.set_cons_zero, List.set_cons_succ]
    rw [ep] at g4
    obtain ⟨rfl, g5, g6, g7⟩ := g4
    have g7 := g7 rfl
    have hlen := hReads_len _ _ _ _ ep
    have hb := g6.1.1
    have hm := g6.1.2.1
    rw [Nat.zero_add] at g5
    refine x_pop B 17 dX2_harbour_16 rfl rfl ?_
    refine x_aload0 B 18 dX2_harbour_17 rfl (by first | rfl | exact xisR_rf _) ?_
    refine x_iconst B 19 (v := 0) dX2_harbour_18 (by decide) rfl ?_
    refine s_X2_113_X2 B 22 (by repeat (first | with_reducible exact xu_h | apply xu_t)) dX2_harbour_19 rfl ?_
    refine x_aload0 B 23 dX2_harbour_22 rfl (by first | rfl | exact xisR_rf _) ?_
    refine x_bipush B 25 (v := 108) dX2_harbour_23 (by decide) rfl ?_
    refine x_iconst B 26 (v := 0) dX2_harbour_25 (by decide) rfl ?_
    rw [show (0 : Int32) = nI 0 from rfl]
    refine x_callV B 29 (m_X2_copyHarbour 108 0 (by omega) (by omega) (by omega)) [0, 2] rfl ⟨_, _, _, (by repeat (first | with_reducible exact xr_h | refine xr_t ?_)), rfl, rfl⟩ q1949 q1951 qs54 q92 q1952 hd_X2_copyHarbour (by decide) ⟨by first | decide | omega, by first | decide | omega⟩ ⟨by first | decide | omega, by first | decide | omega⟩ rfl (Nat.le_of_ble_eq_true rfl) dX2_harbour_26 rfl (fun _ _ _ h => h.elim) ?_
    rintro _ _ ⟨rfl, row3, c1, c2, rfl⟩
    try simp only [xst, xput, xpre, List.set_cons_zero, List.set_cons_succ]
    refine x_aload0 B 30 dX2_harbour_29 rfl (by first | rfl | exact xisR_rf _) ?_
    refine x_iconst B 31 (v := 0) dX2_harbour_30 (by decide) rfl ?_
    refine s_X2_206_X2 B 34 (by repeat (first | with_reducible exact xu_h | apply xu_t)) dX2_harbour_31 rfl ?_
    refine x_aload0 B 35 dX2_harbour_34 rfl (by first | rfl | exact xisR_rf _) ?_
    refine g_X2_13_X2 B 38 (by repeat (first | with_reducible exact xr_h | refine xr_t ?_)) dX2_harbour_35 rfl ?_
    refine x_iconst B 39 (v := 0) dX2_harbour_38 (by decide) rfl ?_
    refine x_iconst B 40 (v := 0) dX2_harbour_39 (by decide) rfl ?_
    refine x_zast B 41 (by repeat (first | with_reducible exact xu_h | apply xu_t)) (j := 0) (by first | (simp only [xlit, nI_add, pk_mul]; done) | rfl | (simp only [xlit, nI_add, pk_mul]; congr 1; omega)) ⟨by first | omega | decide, by first | decide | omega⟩ rfl dX2_harbour_40 rfl ?_
    refine x_aload0 B 42 dX2_harbour_41 rfl (by first | rfl | exact xisR_rf _) ?_
    refine g_X2_13_X2 B 45 (by repeat (first | with_reducible exact xr_h | refine xr_t ?_)) dX2_harbour_42 rfl ?_
    refine x_iconst B 46 (v := 1) dX2_harbour_45 (by decide) rfl ?_
    refine x_iconst B 47 (v := 0) dX2_harbour_46 (by decide) rfl ?_
    refine x_zast B 48 (by repeat (first | with_reducible exact xu_h | apply xu_t)) (j := 1) (by first | (simp only [xlit, nI_add, pk_mul]; done) | rfl | (simp only [xlit, nI_add, pk_mul]; congr 1; omega)) ⟨by first | omega | decide, by first | decide | omega⟩ rfl dX2_harbour_47 rfl ?_
    refine x_aload0 B 49 dX2_harbour_48 rfl (by first | rfl | exact xisR_rf _) ?_
    refine x_iconst B 50 (v := 0) dX2_harbour_49 (by decide) rfl ?_
    refine s_X2_209_X2 B 53 (by repeat (first | with_reducible exact xu_h | apply xu_t)) dX2_harbour_50 rfl ?_
    refine x_aload0 B 54 dX2_harbour_53 rfl (by first | rfl | exact xisR_rf _) ?_
    refine g_X2_192_X2 B 57 (by repeat (first | with_reducible exact xr_h | refine xr_t ?_)) dX2_harbour_54 rfl ?_
    rw [show upd (upd (upd iv2 4 (nI 0)) 1 0) 5 0 21 = nI cs.length from by rw [pk_un (by omega), pk_un (by omega), pk_un (by omega)]; exact g5]
    have t3 : TRep row3 0 (cs.foldl tellC X0).1 (cs.foldl tellC X0).2.1 (cs.foldl tellC X0).2.2.1 (cs.foldl tellC X0).2.2.2 := g7.1.copy hb hm c1
    have I2 : I4 (fun j => P6 j ∨ j = 1 ∨ j = 4 ∨ j = 5) iv iv2 := fun j hj => (g1 j (fun z => hj (Or.inl z))).trans (h1 j (fun z => hj (Or.inl z)))
    exact x_iret B rfl ⟨rfl, _, rb2, row3, _, ⟨g6, ⟨g7.1.keep hb hm c2 (by omega), fun b w q1 q2 q3 => by rw [c2 _ (by omega)]; exact g7.2 b w q1 q2 q3⟩, ⟨t3, ⟨g6.1, by rw [g6.2]; omega⟩, by rw [pk_un (by omega), pk_us]; rfl, by simp, fun k S hk => by simp at hk⟩, by rw [pk_un (by omega), pk_us]; decide, by rw [pk_us]; decide, by rw [pk_un (by omega), pk_un (by omega), pk_us]; rfl, pk_us, ((I2.upd (Or.inr (Or.inr (Or.inl rfl)))).upd (Or.inr (Or.inl rfl))).upd (Or.inr (Or.inr (Or.inr rfl)))⟩, rfl⟩ dX2_harbour_57 ⟨by first | omega | decide, by first | omega | decide⟩
end T18
