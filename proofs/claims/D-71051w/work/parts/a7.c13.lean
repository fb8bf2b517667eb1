/-! THE COMPONENT, 17: what is done can be undone -/
theorem bAd_at {bs : List (Option SR)} {k : Nat} {x : Option SR} (h : bs[k]? = some x) : bAd bs k = x.map (fun r => r.1 0) := by
  unfold bAd
  rw [List.getD_eq_getElem?_getD, h]; rfl
theorem CU.push {bs : List (Option SR)} {nb nm : Nat} {kd : Nat → Nat} {U : List HS} {N : HS} (h : CU bs nb nm kd U) (hl : U.length < 8) {r : SR} (hr : SRp nb nm r N) (hG : HG nb nm kd N) : CU (bs.set U.length (some r)) nb nm kd (U ++ [N]) := by
  obtain ⟨h1, h2, h3⟩ := h
  refine ⟨by rw [List.length_set]; exact h1, by rw [List.length_append, List.length_singleton]; omega, fun k S hk => ?_⟩
  rw [List.getElem?_set]
  rcases Nat.lt_trichotomy k U.length with c | c | c
  · rw [List.getElem?_append_left c] at hk
    rw [if_neg (by omega)]
    exact h3 k S hk
  · subst c
    rw [List.getElem?_append_right (Nat.le_refl _), Nat.sub_self] at hk
    cases hk
    rw [if_pos rfl, if_pos (by omega)]
    exact ⟨r, rfl, hr, hG⟩
  · rw [List.getElem?_eq_none (by rw [List.length_append, List.length_singleton]; omega)] at hk
    cases hk
section C13
variable {D : xG} {h : Nat} {ad : Nat → Nat} {iv : Nat → Int32} {tg : Option Nat} {bf : Nat → Option Nat} {bp : va_W} {nb nm : Nat} {kd : Nat → Nat} {rn : SR}
theorem m_X0_note (bs : List (Option SR)) (U : List HS) (N : HS) (hU : CU bs nb nm kd U) (h11 : iv 11 = nI U.length) (hN : SRp nb nm rn N) (hG : HG nb nm kd N) (e7 : ad 7 = rn.1 0) : XC D yX0_note (ws_ yX0_note cX0_note 2 (Option.none : Option Jvm.ClassFile.FieldType)) 4 160 (13) (111) [.ref h] [cR h ad iv tg, cT D h rn, cBk D ad bs, cTs D h bs] (fun r cs' => r = none ∧ ∃ iv' bs', CU bs' nb nm kd (hPush U N) ∧ iv' 11 = nI (hPush U N).length ∧ (∀ j, j ≠ 11 → iv' j = iv j) ∧ cs' = [cR h ad iv' tg, cT D h rn, cBk D ad bs', cTs D h bs']) x0 := by
  refine XC.of (by decide) (by simp [Value.category]) (Nat.le_of_ble_eq_true rfl) fun X B => ?_
  show WX D X [cR h ad iv tg, cT D h rn, cBk D ad bs, cTs D h bs] 0 0 0 [some (.ref h), none] []
  have hb8 := hG.1.1
  have hm4 := hG.1.2.1
  have tail : ∀ (iv1 : Nat → Int32) (bs1 : List (Option SR)) (U1 : List HS) a1, CU bs1 nb nm kd U1 → U1.length < 8 → iv1 11 = nI U1.length → (∀ j, j ≠ 11 → iv1 j = iv j) → U1 ++ [N] = hPush U N → WX D X [cR h ad iv1 tg, cT D h rn, cBk D ad bs1, cTs D h bs1] 0 0 49 [some (.ref h), a1] [] := by
    intro iv1 bs1 U1 a1 hU1 hl h11' hJ hpush
    have hm : U1.length < bs1.length := by rw [hU1.1]; exact hl
    have fin : ∀ (bs2 : List (Option SR)) (r : SR) k1 n1, k1 ≤ 13 → n1 ≤ 111 → CU bs2 nb nm kd U1 → bs2[U1.length]? = some (some r) → WX D X [cR h ad iv1 tg, cT D h rn, cBk D ad bs2, cTs D h bs2] k1 n1 78 [some (.ref h), a1] [] := by
      intro bs2 r k1 n1 hk1 hn1 hU2 hr
      obtain ⟨s, t, es, el⟩ := split_at hr
      refine x_aload0 B 79 dX0_note_78 rfl (by first | rfl | exact xisR_rf _) ?_
      refine g_X0_57_X0 B 82 (by repeat (first | with_reducible exact xr_h | with_reducible exact xr_m cT_0 | with_reducible exact xr_m cT_1 | with_reducible exact xr_m cT_2 | with_reducible exact xr_m cT_3 | with_reducible exact xr_m cT_4 | refine xr_t ?_)) dX0_note_79 rfl ?_
      refine x_aload0 B 83 dX0_note_82 rfl (by first | rfl | exact xisR_rf _) ?_
      refine x_dup B 84 dX0_note_83 rfl rfl ?_
      refine g_X0_40_X0 B 87 (by repeat (first | with_reducible exact xr_h | with_reducible exact xr_m cT_0 | with_reducible exact xr_m cT_1 | with_reducible exact xr_m cT_2 | with_reducible exact xr_m cT_3 | with_reducible exact xr_m cT_4 | refine xr_t ?_)) dX0_note_84 rfl ?_
      rw [h11']
      refine x_dup_x1 B 88 dX0_note_87 rfl rfl rfl ?_
      refine x_iconst B 89 (v := 1) dX0_note_88 (by decide) rfl ?_
      refine x_iadd B 90 dX0_note_89 rfl ?_
      refine s_X0_40_X0 B 93 (by repeat (first | with_reducible exact xu_h | apply xu_t)) dX0_note_90 rfl ?_
      rw [nI_1]
      refine x_aalds B 94 (f := (bAd bs2)) (t0 := 7) rfl rfl (by repeat (first | with_reducible exact xr_h | with_reducible exact xr_m cT_0 | with_reducible exact xr_m cT_1 | with_reducible exact xr_m cT_2 | with_reducible exact xr_m cT_3 | with_reducible exact xr_m cT_4 | refine xr_t ?_)) (j := U1.length) (by first | (simp only [xlit, nI_add, pk_mul]; done) | rfl | (simp only [xlit, nI_add, pk_mul]; congr 1; omega)) ⟨by first | omega | decide, by first | decide | omega⟩ (bAd_at hr) dX0_note_93 rfl ?_
      rw [es]
      refine x_cut [3] (cin := [cTs D h (s ++ some r :: t)]) (new := [cTs D h (s ++ t), cT D h r]) rfl (by decide) (cTs_cut D h s t r) ?_
      simp only [xput, xpre, List.set_cons_zero, List.set_cons_succ]
      refine x_aload0 B 95 dX0_note_94 rfl (by first | rfl | exact xisR_rf _) ?_
      refine g_X0_27_X0 B 98 (by repeat (first | with_reducible exact xr_h | with_reducible exact xr_m cT_0 | with_reducible exact xr_m cT_1 | with_reducible exact xr_m cT_2 | with_reducible exact xr_m cT_3 | with_reducible exact xr_m cT_4 | refine xr_t ?_)) dX0_note_95 rfl ?_ ; try rw [e7]
      refine x_callV B 101 (m_X1_setT (r := r) (ro := rn) hN.2) [0, 2] rfl ⟨_, _, _, (by repeat (first | with_reducible exact xr_h | with_reducible exact xr_m cT_0 | with_reducible exact xr_m cT_1 | with_reducible exact xr_m cT_2 | with_reducible exact xr_m cT_3 | with_reducible exact xr_m cT_4 | refine xr_t ?_)), rfl, rfl⟩ q196 q197 q198 q89 q199 hd_X1_set (by decide) ⟨by first | decide | omega, by first | decide | omega⟩ ⟨by first | decide | omega, by first | decide | omega⟩ rfl (Nat.le_of_ble_eq_true rfl) dX0_note_98 rfl (fun _ _ _ h => h.elim) ?_
      rintro _ _ ⟨rfl, r', er, hS, rfl⟩
      try simp only [xst, xput, xpre, List.set_cons_zero, List.set_cons_succ]
      refine x_cut [4, 0] (cin := [cTs D h (s ++ t), cT D h r']) (new := [cTs D h (s ++ some r' :: t)]) rfl (by decide) (cTs_add D h s t r') ?_
      simp only [xput, xpre, List.set_cons_zero, List.set_cons_succ]
      refine x_perm (cs' := [cR h ad (upd iv1 11 (nI (U1.length + 1))) tg, cT D h rn, cBk D ad (s ++ some r :: t), cTs D h (s ++ some r' :: t)]) (List.Perm.refl _) ?_
      have eb : bAd (s ++ some r :: t) = bAd (s ++ some r' :: t) := by
        funext j
        have := bAd_set (bs := s ++ some r :: t) (k := s.length) (r := r) (r' := r') (by rw [List.getElem?_append_right (Nat.le_refl _), Nat.sub_self]; rfl) er j
        rw [set_mid] at this
        exact this.symm
      rw [show cBk D ad (s ++ some r :: t) = cBk D ad (s ++ some r' :: t) by show [(ad 10, aQ (D.2.1 7) 8 (bAd (s ++ some r :: t)))] = _; rw [eb]]
      have hset : s ++ some r' :: t = bs2.set U1.length (some r') := by rw [es, ← el, set_mid]
      refine x_pop B 102 dX0_note_101 rfl rfl ?_
      refine x_vret B rfl ⟨rfl, _, s ++ some r' :: t, ?_, ?_, ?_, rfl⟩ dX0_note_102 ⟨by first | omega | decide, by first | omega | decide⟩
      · rw [← hpush, hset]
        exact hU2.push hl (hS nb nm N hb8 hm4 hN) hG
      · rw [pk_us, ← hpush, List.length_append, List.length_singleton]
      · intro j hj
        rw [pk_un hj]; exact hJ j hj
    refine x_aload0 B 50 dX0_note_49 rfl (by first | rfl | exact xisR_rf _) ?_
    refine g_X0_57_X0 B 53 (by repeat (first | with_reducible exact xr_h | with_reducible exact xr_m cT_0 | with_reducible exact xr_m cT_1 | with_reducible exact xr_m cT_2 | with_reducible exact xr_m cT_3 | with_reducible exact xr_m cT_4 | refine xr_t ?_)) dX0_note_50 rfl ?_
    refine x_aload0 B 54 dX0_note_53 rfl (by first | rfl | exact xisR_rf _) ?_
    refine g_X0_40_X0 B 57 (by repeat (first | with_reducible exact xr_h | with_reducible exact xr_m cT_0 | with_reducible exact xr_m cT_1 | with_reducible exact xr_m cT_2 | with_reducible exact xr_m cT_3 | with_reducible exact xr_m cT_4 | refine xr_t ?_)) dX0_note_54 rfl ?_
    rw [h11']
    have hx : bs1[U1.length]? = some (bs1[U1.length]) := List.getElem?_eq_getElem hm
    cases eo : bs1[U1.length] with
    | some r =>
      rw [eo] at hx
      refine x_aalds B 58 (f := (bAd bs1)) (t0 := 7) rfl rfl (by repeat (first | with_reducible exact xr_h | with_reducible exact xr_m cT_0 | with_reducible exact xr_m cT_1 | with_reducible exact xr_m cT_2 | with_reducible exact xr_m cT_3 | with_reducible exact xr_m cT_4 | refine xr_t ?_)) (j := U1.length) (by first | (simp only [xlit, nI_add, pk_mul]; done) | rfl | (simp only [xlit, nI_add, pk_mul]; congr 1; omega)) ⟨by first | omega | decide, by first | decide | omega⟩ (bAd_at hx) dX0_note_57 rfl ?_
      refine x_ifnonnull B 78 dX0_note_58 (by decide) ?_
      exact fin bs1 r 0 0 (by omega) (by omega) hU1 hx
    | none =>
      rw [eo] at hx
      refine x_aaldn B 58 (f := (bAd bs1)) (t0 := 7) rfl rfl (by repeat (first | with_reducible exact xr_h | with_reducible exact xr_m cT_0 | with_reducible exact xr_m cT_1 | with_reducible exact xr_m cT_2 | with_reducible exact xr_m cT_3 | with_reducible exact xr_m cT_4 | refine xr_t ?_)) (j := U1.length) (by first | (simp only [xlit, nI_add, pk_mul]; done) | rfl | (simp only [xlit, nI_add, pk_mul]; congr 1; omega)) ⟨by first | omega | decide, by first | decide | omega⟩ (bAd_at hx) dX0_note_57 rfl ?_
      refine x_ifnonnullN B 61 dX0_note_58 rfl ?_
      refine x_aload0 B 62 dX0_note_61 rfl (by first | rfl | exact xisR_rf _) ?_
      refine g_X0_57_X0 B 65 (by repeat (first | with_reducible exact xr_h | with_reducible exact xr_m cT_0 | with_reducible exact xr_m cT_1 | with_reducible exact xr_m cT_2 | with_reducible exact xr_m cT_3 | with_reducible exact xr_m cT_4 | refine xr_t ?_)) dX0_note_62 rfl ?_
      refine x_aload0 B 66 dX0_note_65 rfl (by first | rfl | exact xisR_rf _) ?_
      refine g_X0_40_X0 B 69 (by repeat (first | with_reducible exact xr_h | with_reducible exact xr_m cT_0 | with_reducible exact xr_m cT_1 | with_reducible exact xr_m cT_2 | with_reducible exact xr_m cT_3 | with_reducible exact xr_m cT_4 | refine xr_t ?_)) dX0_note_66 rfl ?_
      rw [h11']
      refine x_new B 72 (C := RX1) (T := TX1) (N := 7) (ci := 1) (fs := [.null, .null, .null, .null, .int 0, .int 0, .null]) in_X1 tyX1 tyX1_ok q142 q143 q89 rfl (by intro j hj; have hj2 : j = 0 ∨ j = 1 ∨ j = 2 ∨ j = 3 ∨ j = 4 ∨ j = 5 ∨ j = 6 := by { omega }; rcases hj2 with rfl | rfl | rfl | rfl | rfl | rfl | rfl <;> rfl) ⟨by first | decide | omega, by first | decide | omega⟩ dX0_note_69 rfl (fun q => ?_)
      refine x_dup B 73 dX0_note_72 rfl rfl ?_
      refine x_aload0 B 74 dX0_note_73 rfl (by first | rfl | exact xisR_rf _) ?_
      refine x_callIN B 77 (m_X1_init (q := q)) [0] rfl q144 q145 q89 q146 rfl hd_X1_init (by decide) ⟨by first | decide | omega, by first | decide | omega⟩ ⟨by first | decide | omega, by first | decide | omega⟩ rfl (Nat.le_of_ble_eq_true rfl) dX0_note_74 rfl (fun _ _ _ h => h.elim) ?_
      rintro _ _ ⟨rfl, sa, rfl, rfl⟩
      try simp only [xst, xput, xpre, List.set_cons_zero, List.set_cons_succ]
      refine x_mkT ?_
      refine x_aast B 78 (t0 := 7) (j := U1.length) rfl ⟨_, xr_m cT_0, Or.inl ⟨1, _, _, rfl, rfl, Or.inl rfl⟩⟩ rfl ⟨by omega, by decide⟩ (by repeat (first | with_reducible exact xu_h | apply xu_t)) dX0_note_77 rfl ?_
      obtain ⟨s, t, es, el⟩ := split_at hx
      have hset : bs1.set U1.length (some (sa, fun _ _ => 0, fun _ => 0, fun _ => 0, fun _ => 0, 0, 0)) = s ++ some (sa, fun _ _ => 0, fun _ => 0, fun _ => 0, fun _ => 0, 0, 0) :: t := by rw [es, ← el, set_mid]
      generalize hrr : ((sa, fun _ _ => 0, fun _ => 0, fun _ => 0, fun _ => 0, 0, 0) : SR) = rr at *
      have hr0 : sa 0 = rr.1 0 := by rw [← hrr]
      refine x_cut [4, 0] (cin := [cTs D h bs1, cT D h rr]) (new := [cTs D h (bs1.set U1.length (some rr))]) rfl (by decide) (by rw [hset, es]; exact cTs_put D h s t rr) ?_
      simp only [xput, xpre, List.set_cons_zero, List.set_cons_succ]
      refine x_perm (cs' := [cR h ad iv1 tg, cT D h rn, [(ad 10, aQ (D.2.1 7) 8 (va_up (bAd bs1) U1.length (some (sa 0))))], cTs D h (bs1.set U1.length (some rr))]) (List.Perm.refl _) ?_
      have h2 : (bs1.set U1.length (some rr))[U1.length]? = some (some rr) := by rw [List.getElem?_set, if_pos rfl, if_pos hm]
      refine x_altQ (i := 2) (bAd (bs1.set U1.length (some rr))) rfl (fun j hj => ?_) ?_
      · unfold va_up
        by_cases c : j = U1.length
        · rw [if_pos c, c, bAd_at h2, hr0]; rfl
        · rw [if_neg c]
          unfold bAd
          rw [List.getD_eq_getElem?_getD, List.getD_eq_getElem?_getD, List.getElem?_set, if_neg (fun e => c e.symm)]
      · refine fin _ rr _ _ (by omega) (by omega) ⟨by rw [List.length_set]; exact hU1.1, hU1.2.1, fun k S hk => ?_⟩ h2
        have := (List.getElem?_eq_some_iff.mp hk).1
        rw [List.getElem?_set, if_neg (by omega)]
        exact hU1.2.2 k S hk
  refine x_aload0 B 1 dX0_note_0 rfl (by first | rfl | exact xisR_rf _) ?_
  refine g_X0_40_X0 B 4 (by repeat (first | with_reducible exact xr_h | with_reducible exact xr_m cT_0 | with_reducible exact xr_m cT_1 | with_reducible exact xr_m cT_2 | with_reducible exact xr_m cT_3 | with_reducible exact xr_m cT_4 | refine xr_t ?_)) dX0_note_1 rfl ?_
  refine x_bipush B 6 (v := 8) dX0_note_4 (by decide) rfl ?_
  rw [h11]
  by_cases c : U.length = 8
  · rw [c]
    refine x_icmp_ne_f (tp := 49) B 9 dX0_note_6 (by decide) rfl rfl ?_
    obtain ⟨hl8, -, hU3⟩ := id hU
    have hx : bs[0]? = some (bs[0]) := List.getElem?_eq_getElem (by omega)
    have hx0 : U[0]? = some (U[0]) := List.getElem?_eq_getElem (by omega)
    obtain ⟨r0, hr0, -, -⟩ := hU3 0 _ hx0
    obtain ⟨s, t, es, el⟩ := split_at hr0
    obtain rfl : s = [] := List.eq_nil_of_length_eq_zero el
    have es : bs = some r0 :: t := es
    have ht7 : t.length = 7 := by rw [es] at hl8; simpa using hl8
    refine x_aload0 B 10 dX0_note_9 rfl (by first | rfl | exact xisR_rf _) ?_
    refine g_X0_57_X0 B 13 (by repeat (first | with_reducible exact xr_h | with_reducible exact xr_m cT_0 | with_reducible exact xr_m cT_1 | with_reducible exact xr_m cT_2 | with_reducible exact xr_m cT_3 | with_reducible exact xr_m cT_4 | refine xr_t ?_)) dX0_note_10 rfl ?_
    refine x_iconst B 14 (v := 0) dX0_note_13 (by decide) rfl ?_
    refine x_aalds B 15 (f := (bAd bs)) (t0 := 7) rfl rfl (by repeat (first | with_reducible exact xr_h | with_reducible exact xr_m cT_0 | with_reducible exact xr_m cT_1 | with_reducible exact xr_m cT_2 | with_reducible exact xr_m cT_3 | with_reducible exact xr_m cT_4 | refine xr_t ?_)) (j := 0) (by first | (simp only [xlit, nI_add, pk_mul]; done) | rfl | (simp only [xlit, nI_add, pk_mul]; congr 1; omega)) ⟨by first | omega | decide, by first | decide | omega⟩ (bAd_at hr0) dX0_note_14 rfl ?_
    refine x_astore1 B 16 dX0_note_15 rfl (by first | rfl | exact xisR_rf _) ?_
    refine x_aload0 B 17 dX0_note_16 rfl (by first | rfl | exact xisR_rf _) ?_
    refine g_X0_57_X0 B 20 (by repeat (first | with_reducible exact xr_h | with_reducible exact xr_m cT_0 | with_reducible exact xr_m cT_1 | with_reducible exact xr_m cT_2 | with_reducible exact xr_m cT_3 | with_reducible exact xr_m cT_4 | refine xr_t ?_)) dX0_note_17 rfl ?_
    refine x_iconst B 21 (v := 1) dX0_note_20 (by decide) rfl ?_
    refine x_aload0 B 22 dX0_note_21 rfl (by first | rfl | exact xisR_rf _) ?_
    refine g_X0_57_X0 B 25 (by repeat (first | with_reducible exact xr_h | with_reducible exact xr_m cT_0 | with_reducible exact xr_m cT_1 | with_reducible exact xr_m cT_2 | with_reducible exact xr_m cT_3 | with_reducible exact xr_m cT_4 | refine xr_t ?_)) dX0_note_22 rfl ?_
    refine x_iconst B 26 (v := 0) dX0_note_25 (by decide) rfl ?_
    refine x_bipush B 28 (v := 7) dX0_note_26 (by decide) rfl ?_
    refine x_acopyQ B 31 (t := 7) (ci := 1) (r9 := (RX1, TX1, 7)) (n0 := 8) (n1 := 8) (i := 1) (j := 0) (m0 := 7) (f := bAd bs) rfl rfl (by repeat (first | with_reducible exact xm_h | apply xm_t)) (by repeat (first | with_reducible exact xu_h | apply xu_t)) rfl rfl rfl (by decide) (fun x y hx7 hy => ?_) q200 (by decide) (Nat.le_of_ble_eq_true rfl) dX0_note_28 rfl ?_
    · have hk : bs[1 + x]? = some (bs[1 + x]) := List.getElem?_eq_getElem (by omega)
      rw [bAd_at hk] at hy
      cases eo : bs[1 + x] with
      | none => rw [eo] at hy; cases hy
      | some r =>
        rw [eo] at hy hk
        cases hy
        exact ⟨1, _, _, xr_t (xr_t (xr_t (xr_m (cTs_mem hk cT_0)))), rfl, rfl⟩
    refine x_aload0 B 32 dX0_note_31 rfl (by first | rfl | exact xisR_rf _) ?_
    refine g_X0_57_X0 B 35 (by repeat (first | with_reducible exact xr_h | with_reducible exact xr_m cT_0 | with_reducible exact xr_m cT_1 | with_reducible exact xr_m cT_2 | with_reducible exact xr_m cT_3 | with_reducible exact xr_m cT_4 | refine xr_t ?_)) dX0_note_32 rfl ?_
    refine x_bipush B 37 (v := 7) dX0_note_35 (by decide) rfl ?_
    refine x_aload1 B 38 dX0_note_37 rfl (by first | rfl | exact xisR_rf _) ?_
    refine x_aast B 39 (t0 := 7) (j := 7) rfl ⟨_, xr_t (xr_t (xr_t (xr_m (cTs_mem hr0 cT_0)))), Or.inl ⟨1, _, _, rfl, rfl, Or.inl rfl⟩⟩ rfl (by decide) (by repeat (first | with_reducible exact xu_h | apply xu_t)) dX0_note_38 rfl ?_
    refine x_aload0 B 40 dX0_note_39 rfl (by first | rfl | exact xisR_rf _) ?_
    refine x_dup B 41 dX0_note_40 rfl rfl ?_
    refine g_X0_40_X0 B 44 (by repeat (first | with_reducible exact xr_h | with_reducible exact xr_m cT_0 | with_reducible exact xr_m cT_1 | with_reducible exact xr_m cT_2 | with_reducible exact xr_m cT_3 | with_reducible exact xr_m cT_4 | refine xr_t ?_)) dX0_note_41 rfl ?_
    rw [h11, c]
    refine x_iconst B 45 (v := 1) dX0_note_44 (by decide) rfl ?_
    refine x_isub B 46 dX0_note_45 rfl ?_
    refine s_X0_40_X0 B 49 (by repeat (first | with_reducible exact xu_h | apply xu_t)) dX0_note_46 rfl ?_
    refine x_cut [3] (cin := [cTs D h bs]) (new := [cTs D h (t ++ [some r0])]) rfl (by decide) (by rw [es]; exact cTs_rot D h (some r0) t) ?_
    simp only [xput, xpre, List.set_cons_zero, List.set_cons_succ]
    refine x_altQ (i := 2) (bAd (t ++ [some r0])) rfl (fun j hj => ?_) ?_
    · unfold va_up
      by_cases c7 : j = 7
      · rw [if_pos c7, c7, bAd_at (bs := t ++ [some r0]) (k := 7) (x := some r0) (by rw [List.getElem?_append_right (by omega), ht7]; rfl)]; rfl
      · rw [if_neg c7]
        have e1 : va_cpy (bAd bs) (bAd bs) 1 0 7 j = bAd bs (1 + j) := by
          unfold va_cpy
          rw [if_pos (by omega)]; congr 1
        rw [e1]
        unfold bAd
        rw [List.getD_eq_getElem?_getD, List.getD_eq_getElem?_getD, List.getElem?_append_left (by omega), es, Nat.add_comm, List.getElem?_cons_succ]
    have e1 : hPush U N = U.drop 1 ++ [N] := by unfold hPush; rw [if_pos c]
    refine tail _ (t ++ [some r0]) (U.drop 1) _ ⟨by rw [List.length_append, ht7]; rfl, by rw [List.length_drop]; omega, fun k S hk => ?_⟩ (by rw [List.length_drop]; omega) (by rw [pk_us, List.length_drop, c]; decide) (fun j hj => pk_un hj) e1.symm
    rw [List.getElem?_drop] at hk
    obtain ⟨r, g1, g2, g3⟩ := hU3 (1 + k) S hk
    have hk8 := (List.getElem?_eq_some_iff.mp g1).1
    refine ⟨r, ?_, g2, g3⟩
    rw [es, Nat.add_comm, List.getElem?_cons_succ] at g1
    have := (List.getElem?_eq_some_iff.mp g1).1
    rw [List.getElem?_append_left this]; exact g1
  · refine x_icmp_ne_t B 49 dX0_note_6 (by decide) (by (try simp only [xlit]); first | (rw [nI_leI (by omega) (by omega)]; omega) | (rw [nI_ltI (by omega) (by omega)]; omega) | (rw [nI_eq (by omega) (by omega)]; omega)) ?_
    have e1 : hPush U N = U ++ [N] := by unfold hPush; rw [if_neg c]
    exact tail iv bs U none hU (by have := hU.2.1; omega) h11 (fun j hj => rfl) e1.symm
theorem m_X0_begin {ro : SR} {kf : Nat → Option Nat} (hf : CFit ro.2.1) (e6 : ad 6 = ro.1 0) (e7 : ad 7 = rn.1 0) : XC D yX0_begin (ws_ yX0_begin cX0_begin 1 (Option.none : Option Jvm.ClassFile.FieldType)) 3 120 (0) (0) [.ref h] [cR h ad iv tg, cT D h rn, cT D h ro, [(ad 9, aQ (D.2.1 7) 2 kf)]] (fun r cs' => r = none ∧ ∃ rn', rn'.1 = rn.1 ∧ (∀ nb nm S, nb ≤ 8 → nm ≤ 4 → SRp nb nm ro S → SRp nb nm rn' S) ∧ cs' = [cR h ad (upd (upd iv 11 0) 13 0) tg, cT D h rn', cT D h ro, [(ad 9, aQ (D.2.1 7) 2 (fun _ => none))]]) x0 := by
  refine XC.of (by decide) (by simp [Value.category]) (Nat.le_of_ble_eq_true rfl) fun X B => ?_
  show WX D X [cR h ad iv tg, cT D h rn, cT D h ro, [(ad 9, aQ (D.2.1 7) 2 kf)]] 0 0 0 [some (.ref h)] []
  refine x_aload0 B 1 dX0_begin_0 rfl (by first | rfl | exact xisR_rf _) ?_
  refine g_X0_27_X0 B 4 (by repeat (first | with_reducible exact xr_h | with_reducible exact xr_m cT_0 | with_reducible exact xr_m cT_1 | with_reducible exact xr_m cT_2 | with_reducible exact xr_m cT_3 | with_reducible exact xr_m cT_4 | refine xr_t ?_)) dX0_begin_1 rfl ?_ ; try rw [e7]
  refine x_aload0 B 5 dX0_begin_4 rfl (by first | rfl | exact xisR_rf _) ?_
  refine g_X0_31_X0 B 8 (by repeat (first | with_reducible exact xr_h | with_reducible exact xr_m cT_0 | with_reducible exact xr_m cT_1 | with_reducible exact xr_m cT_2 | with_reducible exact xr_m cT_3 | with_reducible exact xr_m cT_4 | refine xr_t ?_)) dX0_begin_5 rfl ?_ ; try rw [e6]
  refine x_callV B 11 (m_X1_setT (r := rn) (ro := ro) hf) [1, 2] rfl ⟨_, _, _, (by repeat (first | with_reducible exact xr_h | with_reducible exact xr_m cT_0 | with_reducible exact xr_m cT_1 | with_reducible exact xr_m cT_2 | with_reducible exact xr_m cT_3 | with_reducible exact xr_m cT_4 | refine xr_t ?_)), rfl, rfl⟩ q196 q197 q198 q89 q199 hd_X1_set (by decide) ⟨by first | decide | omega, by first | decide | omega⟩ ⟨by first | decide | omega, by first | decide | omega⟩ rfl (Nat.le_of_ble_eq_true rfl) dX0_begin_8 rfl (fun _ _ _ h => h.elim) ?_
  rintro _ _ ⟨rfl, rn', er, hS, rfl⟩
  try simp only [xst, xput, xpre, List.set_cons_zero, List.set_cons_succ]
  refine x_pop B 12 dX0_begin_11 rfl rfl ?_
  refine x_aload0 B 13 dX0_begin_12 rfl (by first | rfl | exact xisR_rf _) ?_
  refine x_iconst B 14 (v := 0) dX0_begin_13 (by decide) rfl ?_
  refine s_X0_40_X0 B 17 (by repeat (first | with_reducible exact xu_h | apply xu_t)) dX0_begin_14 rfl ?_
  refine x_aload0 B 18 dX0_begin_17 rfl (by first | rfl | exact xisR_rf _) ?_
  refine x_iconst B 19 (v := 0) dX0_begin_18 (by decide) rfl ?_
  refine s_X0_44_X0 B 22 (by repeat (first | with_reducible exact xu_h | apply xu_t)) dX0_begin_19 rfl ?_
  refine x_aload0 B 23 dX0_begin_22 rfl (by first | rfl | exact xisR_rf _) ?_
  refine g_X0_47_X0 B 26 (by repeat (first | with_reducible exact xr_h | with_reducible exact xr_m cT_0 | with_reducible exact xr_m cT_1 | with_reducible exact xr_m cT_2 | with_reducible exact xr_m cT_3 | with_reducible exact xr_m cT_4 | refine xr_t ?_)) dX0_begin_23 rfl ?_
  refine x_null B 27 dX0_begin_26 rfl ?_
  refine x_callS B 30 (m_fillN (f := kf) 7 2 rfl (by decide) (ad 9)) [3] rfl q203 q204 q90 q205 hd_J0_fill_2 (by decide) ⟨by first | decide | omega, by first | decide | omega⟩ ⟨by first | decide | omega, by first | decide | omega⟩ rfl (Nat.le_of_ble_eq_true rfl) dX0_begin_27 rfl (fun _ _ _ h => h.elim) ?_
  rintro _ _ ⟨rfl, rfl⟩
  try simp only [xst, xput, xpre, List.set_cons_zero, List.set_cons_succ]
  exact x_vret B rfl ⟨rfl, rn', er, hS, rfl⟩ dX0_begin_30 ⟨by first | omega | decide, by first | omega | decide⟩
theorem m_X0_empty {ro : SR} (e6 : ad 6 = ro.1 0) : XC D yX0_empty (ws_ yX0_empty cX0_empty 1 (Option.none : Option Jvm.ClassFile.FieldType)) 2 80 (0) (0) [.ref h] [cR h ad iv tg, cT D h ro] (fun r cs' => r = none ∧ cs' = [cR h ad (upd (upd iv 1 0) 2 0) tg, cT D h (ro.1, ro.2.1, ro.2.2.1, ro.2.2.2.1, (fun _ => -1), 0, ro.2.2.2.2.2.2)]) x0 := by
  refine XC.of (by decide) (by simp [Value.category]) (Nat.le_of_ble_eq_true rfl) fun X B => ?_
  show WX D X [cR h ad iv tg, cT D h ro] 0 0 0 [some (.ref h)] []
  refine x_aload0 B 1 dX0_empty_0 rfl (by first | rfl | exact xisR_rf _) ?_
  refine x_iconst B 2 (v := 0) dX0_empty_1 (by decide) rfl ?_
  refine s_X0_69_X0 B 5 (by repeat (first | with_reducible exact xu_h | apply xu_t)) dX0_empty_2 rfl ?_
  refine x_aload0 B 6 dX0_empty_5 rfl (by first | rfl | exact xisR_rf _) ?_
  refine x_iconst B 7 (v := 0) dX0_empty_6 (by decide) rfl ?_
  refine s_X0_72_X0 B 10 (by repeat (first | with_reducible exact xu_h | apply xu_t)) dX0_empty_7 rfl ?_
  refine x_aload0 B 11 dX0_empty_10 rfl (by first | rfl | exact xisR_rf _) ?_
  refine g_X0_31_X0 B 14 (by repeat (first | with_reducible exact xr_h | with_reducible exact xr_m cT_0 | with_reducible exact xr_m cT_1 | with_reducible exact xr_m cT_2 | with_reducible exact xr_m cT_3 | with_reducible exact xr_m cT_4 | refine xr_t ?_)) dX0_empty_11 rfl ?_ ; try rw [e6]
  refine x_iconst B 15 (v := 0) dX0_empty_14 (by decide) rfl ?_
  refine s_X0_75_X1 B 18 (by apply xu_t; exact xu_m (cT_up0 _ _)) dX0_empty_15 rfl ?_
  refine x_aload0 B 19 dX0_empty_18 rfl (by first | rfl | exact xisR_rf _) ?_
  refine g_X0_31_X0 B 22 (by repeat (first | with_reducible exact xr_h | with_reducible exact xr_m cT_0 | with_reducible exact xr_m cT_1 | with_reducible exact xr_m cT_2 | with_reducible exact xr_m cT_3 | with_reducible exact xr_m cT_4 | refine xr_t ?_)) dX0_empty_19 rfl ?_ ; try rw [e6]
  refine g_X0_78_X1 B 25 (by repeat (first | with_reducible exact xr_h | with_reducible exact xr_m cT_0 | with_reducible exact xr_m cT_1 | with_reducible exact xr_m cT_2 | with_reducible exact xr_m cT_3 | with_reducible exact xr_m cT_4 | refine xr_t ?_)) dX0_empty_22 rfl ?_
  refine x_iconst B 26 (v := (-1)) dX0_empty_25 (by decide) rfl ?_
  refine x_cut [1] (cin := [cT D h (ro.1, ro.2.1, ro.2.2.1, ro.2.2.2.1, ro.2.2.2.2.1, 0, ro.2.2.2.2.2.2)]) (new := cL D h (ro.1, ro.2.1, ro.2.2.1, ro.2.2.2.1, ro.2.2.2.2.1, 0, ro.2.2.2.2.2.2)) rfl (by decide) (by rw [cT_xf]; exact List.Perm.refl _) ?_
  simp only [xput, xpre, List.set_cons_zero, List.set_cons_succ]
  refine x_callS B 29 (m_fillI (f := ro.2.2.2.2.1) 4 (-1) (by decide) (ro.1 4)) [4] rfl q189 q190 q90 q191 hd_J0_fill (by decide) ⟨by first | decide | omega, by first | decide | omega⟩ ⟨by first | decide | omega, by first | decide | omega⟩ rfl (Nat.le_of_ble_eq_true rfl) dX0_empty_26 rfl (fun _ _ _ h => h.elim) ?_
  rintro _ _ ⟨rfl, rfl⟩
  try simp only [xst, xput, xpre, List.set_cons_zero, List.set_cons_succ]
  refine x_cut [6, 0, 1, 2, 3, 4] (cin := cL D h (ro.1, ro.2.1, ro.2.2.1, ro.2.2.2.1, (fun _ => -1), 0, ro.2.2.2.2.2.2)) (new := [cT D h (ro.1, ro.2.1, ro.2.2.1, ro.2.2.2.1, (fun _ => -1), 0, ro.2.2.2.2.2.2)]) rfl (by decide) (by rw [cT_xf]; exact List.Perm.refl _) ?_
  simp only [xput, xpre, List.set_cons_zero, List.set_cons_succ]
  refine x_perm (cs' := [cR h ad (upd (upd iv 1 0) 2 0) tg, cT D h (ro.1, ro.2.1, ro.2.2.1, ro.2.2.2.1, (fun _ => -1), 0, ro.2.2.2.2.2.2)]) (List.Perm.refl _) ?_
  exact x_vret B rfl ⟨rfl, rfl⟩ dX0_empty_29 ⟨by first | omega | decide, by first | omega | decide⟩
end C13
