/-! the twin, 11: reels -/
section T11
variable {D : xG} {h : Nat} {ad : Nat → Nat} {iv row zk tx : Nat → Int32} {base nb nm : Nat} {kd : Nat → Nat} {S N : HS} {U : List HS} {rz rs rp mv : Nat → Int32} {R : HR}
theorem TRl.set {r : Nat} (hR : TRl rz rs rp R) (hr : r < 3) {rz' rs' rp' : Nat → Int32} {s n : Nat} {f : Nat → Int32} (h1 : rz' r = nI n) (h2 : rs' r = nI s) (h3 : ∀ i, i < n → rp' (12 * r + i) = f i) (hs : s < 4) (hn : n ≤ 12) (g1 : ∀ k, k ≠ r → rz' k = rz k) (g2 : ∀ k, k ≠ r → rs' k = rs k) (g3 : ∀ k, (k < 12 * r ∨ 12 * r + 12 ≤ k) → rp' k = rp k) : TRl rz' rs' rp' (fUp R r (some (s, n, f))) := by
  intro k hk
  unfold fUp
  by_cases c : k = r
  · subst c; right; exact ⟨s, n, f, by rw [if_pos rfl], hs, hn, h1, h2, h3⟩
  · rw [if_neg c]
    rcases hR k hk with ⟨q1, q2⟩ | ⟨s', n', f', q1, q2, q3, q4, q5, q6⟩
    · left; exact ⟨q1, by rw [g1 k c]; exact q2⟩
    · right; exact ⟨s', n', f', q1, q2, q3, by rw [g1 k c]; exact q4, by rw [g2 k c]; exact q5, fun i hi => by rw [g3 _ (by omega)]; exact q6 i hi⟩
theorem m_isReel (b : Int32) : XC D yX2_isReel (ws_ yX2_isReel cX2_isReel 1 (Option.some Jvm.ClassFile.FieldType.boolean)) 1 40 (0) (0) [.int b] [] (fun r cs' => r = some (.int (bI (toR b 0 3).isSome)) ∧ cs' = []) x0 := by
  refine XC.of (by decide) (by simp [Value.category]) (Nat.le_of_ble_eq_true rfl) fun X B => ?_
  show WX D X [] 0 0 0 [some (.int b)] []
  refine x_iload0 B 1 dX2_isReel_0 rfl ?_
  refine x_i2l B 2 dX2_isReel_1 rfl ?_
  refine x_lconst B 3 (v := 0) dX2_isReel_2 (by decide) rfl ?_
  refine x_ldc2 B 6 dX2_isReel_3 q2196 rfl ?_
  refine x_callS B 9 (m_X2_in _ _ _) [] rfl q1869 q1870 q92 q1871 hd_X2_in rfl ⟨by first | decide | omega, by first | decide | omega⟩ ⟨by first | decide | omega, by first | decide | omega⟩ rfl (Nat.le_of_ble_eq_true rfl) dX2_isReel_6 rfl (fun _ _ _ h => h.elim) ?_
  rintro _ _ ⟨rfl, rfl⟩
  try simp only [xst, xput, xpre, List.set_cons_zero, List.set_cons_succ]
  rw [show x_in b.toInt64 0 2 = bI (toR b 0 3).isSome from xinR b 0 2 rfl rfl (by decide) (by decide)]
  exact x_zret B rfl ⟨rfl, rfl⟩ dX2_isReel_9 ⟨by first | omega | decide, by first | omega | decide⟩ (by first | exact Or.inl rfl | exact Or.inr rfl | exact x_in01 _ _ _ | exact x_has01 _ _ | exact bI01 _ | assumption)
theorem m_X2_reel (hR : TRl rz rs rp R) (r s n : Int32) (q : Int32 × HR) (hq : sReel R r s n = q) : XC D yX2_reel (ws_ yX2_reel cX2_reel 5 (Option.some Jvm.ClassFile.FieldType.int)) 2 80 (0) (0) [.ref h, .int r, .int s, .int n] [tR D h ad iv, tI D ad 13 3 rz, tI D ad 14 3 rs, tI D ad 15 36 rp] (fun r cs' => r = some (.int q.1) ∧ ∃ rz' rs' rp', TRl rz' rs' rp' q.2 ∧ cs' = [tR D h ad iv, tI D ad 13 3 rz', tI D ad 14 3 rs', tI D ad 15 36 rp']) x0 := by
  refine XC.of (by decide) (by simp [Value.category]) (Nat.le_of_ble_eq_true rfl) fun X B => ?_
  show WX D X [tR D h ad iv, tI D ad 13 3 rz, tI D ad 14 3 rs, tI D ad 15 36 rp] 0 0 0 [some (.ref h), some (.int r), some (.int s), some (.int n), none] []
  refine x_iload1 B 1 dX2_reel_0 rfl ?_
  refine x_callS B 4 (m_isReel r) [] rfl q2193 q2194 q92 q2195 hd_X2_isReel rfl ⟨by first | decide | omega, by first | decide | omega⟩ ⟨by first | decide | omega, by first | decide | omega⟩ rfl (Nat.le_of_ble_eq_true rfl) dX2_reel_1 rfl (fun _ _ _ h => h.elim) ?_
  rintro _ _ ⟨rfl, rfl⟩
  try simp only [xst, xput, xpre, List.set_cons_zero, List.set_cons_succ]
  rcases toR_c r 0 3 (by omega) with ⟨e, e'⟩ | ⟨r, -, hr, rfl, e, e'⟩
  · rw [e']
    refine x_if_ne_f (tp := 10) B 7 dX2_reel_4 (by decide) rfl rfl ?_
    simp only [sReel, e] at hq; subst hq
    refine x_bipush B 9 (v := (-2)) dX2_reel_7 (by decide) rfl ?_
    exact x_iret B rfl ⟨rfl, _, _, _, hR, rfl⟩ dX2_reel_9 ⟨by first | omega | decide, by first | omega | decide⟩
  rw [e']
  refine x_if_ne_t B 10 dX2_reel_4 (by decide) (by decide) ?_
  refine x_iload2 B 11 dX2_reel_10 rfl ?_
  refine x_i2l B 12 dX2_reel_11 rfl ?_
  refine x_lconst B 13 (v := 0) dX2_reel_12 (by decide) rfl ?_
  refine x_ldc2 B 16 dX2_reel_13 q2086 rfl ?_
  refine x_callS B 19 (m_X2_in _ _ _) [] rfl q1869 q1870 q92 q1871 hd_X2_in rfl ⟨by first | decide | omega, by first | decide | omega⟩ ⟨by first | decide | omega, by first | decide | omega⟩ rfl (Nat.le_of_ble_eq_true rfl) dX2_reel_16 rfl (fun _ _ _ h => h.elim) ?_
  rintro _ _ ⟨rfl, rfl⟩
  try simp only [xst, xput, xpre, List.set_cons_zero, List.set_cons_succ]
  rw [show x_in s.toInt64 0 3 = bI (toR s 0 4).isSome from xinR s 0 3 rfl rfl (by decide) (by decide)]
  rcases toR_c s 0 4 (by omega) with ⟨e2, e2'⟩ | ⟨s, -, hs, rfl, e2, e2'⟩
  · rw [e2']
    refine x_if_eq_t B 28 dX2_reel_19 (by decide) rfl ?_
    simp only [sReel, e, e2] at hq; subst hq
    refine x_bipush B 30 (v := (-3)) dX2_reel_28 (by decide) rfl ?_
    exact x_iret B rfl ⟨rfl, _, _, _, hR, rfl⟩ dX2_reel_30 ⟨by first | omega | decide, by first | omega | decide⟩
  rw [e2']
  refine x_if_eq_f (tp := 28) B 22 dX2_reel_19 (by decide) rfl (by decide) ?_
  by_cases c1 : n ≤ 12
  · refine x_iload3 B 23 dX2_reel_22 rfl ?_
    refine x_bipush B 25 (v := 12) dX2_reel_23 (by decide) rfl ?_
    refine x_icmp_le_t B 31 dX2_reel_25 (by decide) c1 ?_
    by_cases c2 : 0 ≤ n
    · refine x_iload3 B 32 dX2_reel_31 rfl ?_
      refine x_if_ge_t B 38 dX2_reel_32 (by decide) c2 ?_
      obtain ⟨k, hk, rfl⟩ := nI_of2 (x := n) (M := 12) (n := 12) (by decide) (Int32.not_lt.mpr c2) c1
      simp only [sReel, e, e2] at hq
      rw [if_neg (by simpa using c1), if_neg (by simpa using c2), nI_toInt (by omega)] at hq
      subst hq
      refine x_aload0 B 39 dX2_reel_38 rfl (by first | rfl | exact xisR_rf _) ?_
      refine g_X2_38_X2 B 42 (by repeat (first | with_reducible exact xr_h | refine xr_t ?_)) dX2_reel_39 rfl ?_
      refine x_iload1 B 43 dX2_reel_42 rfl ?_
      refine x_iload3 B 44 dX2_reel_43 rfl ?_
      refine x_iast B 45 (by repeat (first | with_reducible exact xu_h | apply xu_t)) (j := r) (by first | (simp only [xlit, nI_add, pk_mul]; done) | rfl | (simp only [xlit, nI_add, pk_mul]; congr 1; omega)) ⟨by first | omega | decide, by first | decide | omega⟩ dX2_reel_44 rfl ?_
      refine x_aload0 B 46 dX2_reel_45 rfl (by first | rfl | exact xisR_rf _) ?_
      refine g_X2_41_X2 B 49 (by repeat (first | with_reducible exact xr_h | refine xr_t ?_)) dX2_reel_46 rfl ?_
      refine x_iload1 B 50 dX2_reel_49 rfl ?_
      refine x_iload2 B 51 dX2_reel_50 rfl ?_
      refine x_iast B 52 (by repeat (first | with_reducible exact xu_h | apply xu_t)) (j := r) (by first | (simp only [xlit, nI_add, pk_mul]; done) | rfl | (simp only [xlit, nI_add, pk_mul]; congr 1; omega)) ⟨by first | omega | decide, by first | decide | omega⟩ dX2_reel_51 rfl ?_
      have loop : ∀ (m i : Nat), i + m = 12 → ∀ rp', (∀ j, j < i → rp' (12 * r + j) = if s = 3 then -1 else 0) → (∀ j, (j < 12 * r ∨ 12 * r + 12 ≤ j) → rp' j = rp j) → WX D X [tR D h ad iv, tI D ad 13 3 (upd rz r (nI k)), tI D ad 14 3 (upd rs r (nI s)), tI D ad 15 36 rp'] 0 0 55 [some (.ref h), some (.int (nI r)), some (.int (nI s)), some (.int (nI k)), some (.int (nI i))] [] := by
        intro m
        induction m with
        | zero =>
          intro i hi rp' h1 h2
          obtain rfl : i = 12 := by omega
          refine x_iload4 B 57 dX2_reel_55 rfl ?_
          refine x_bipush B 59 (v := 12) dX2_reel_57 (by decide) rfl ?_
          refine x_icmp_ge_t B 90 dX2_reel_59 (by decide) (by (try simp only [xlit]); first | (rw [nI_leI (by omega) (by omega)]; omega) | (rw [nI_ltI (by omega) (by omega)]; omega) | (rw [nI_eq (by omega) (by omega)]; omega)) ?_
          refine x_iload3 B 91 dX2_reel_90 rfl ?_
          exact x_iret B rfl ⟨rfl, _, _, _, hR.set hr pk_us pk_us (fun i hi => h1 i (by simp at hi; omega)) hs (by simp; omega) (fun k hk => pk_un hk) (fun k hk => pk_un hk) h2, rfl⟩ dX2_reel_91 ⟨by first | omega | decide, by first | omega | decide⟩
        | succ m ih =>
          intro i hi rp' h1 h2
          have next : ∀ v : Int32, v = (if s = 3 then -1 else 0) → WX D X [tR D h ad iv, tI D ad 13 3 (upd rz r (nI k)), tI D ad 14 3 (upd rs r (nI s)), tI D ad 15 36 (upd rp' (12 * r + i) v)] 0 0 84 [some (.ref h), some (.int (nI r)), some (.int (nI s)), some (.int (nI k)), some (.int (nI i))] [] := by
            intro v hv
            refine x_iinc4 B 87 dX2_reel_84 rfl (by first | exact xinc _ | rfl) ?_
            refine x_goto B 55 dX2_reel_87 (by decide) ?_
            refine ih (i + 1) (by omega) _ (fun j hj => ?_) (fun j hj => by rw [pk_un (by omega)]; exact h2 j hj)
            by_cases c : j = i
            · subst c; rw [pk_us]; exact hv
            · rw [pk_un (by omega)]; exact h1 j (by omega)
          refine x_iload4 B 57 dX2_reel_55 rfl ?_
          refine x_bipush B 59 (v := 12) dX2_reel_57 (by decide) rfl ?_
          refine x_icmp_ge_f (tp := 90) B 62 dX2_reel_59 (by decide) rfl (by (try simp only [xlit]); first | (rw [nI_leI (by omega) (by omega)]; omega) | (rw [nI_ltI (by omega) (by omega)]; omega) | (rw [nI_eq (by omega) (by omega)]; omega)) ?_
          by_cases c : s = 3
          · refine x_aload0 B 63 dX2_reel_62 rfl (by first | rfl | exact xisR_rf _) ?_
            refine g_X2_44_X2 B 66 (by repeat (first | with_reducible exact xr_h | refine xr_t ?_)) dX2_reel_63 rfl ?_
            refine x_bipush B 68 (v := 12) dX2_reel_66 (by decide) rfl ?_
            refine x_iload1 B 69 dX2_reel_68 rfl ?_
            refine x_imul B 70 dX2_reel_69 rfl ?_
            refine x_iload4 B 72 dX2_reel_70 rfl ?_
            refine x_iadd B 73 dX2_reel_72 rfl ?_
            refine x_iload2 B 74 dX2_reel_73 rfl ?_
            refine x_iconst B 75 (v := 3) dX2_reel_74 (by decide) rfl ?_
            refine x_icmp_ne_f (tp := 82) B 78 dX2_reel_75 (by decide) rfl (by (try simp only [xlit]); first | (rw [nI_leI (by omega) (by omega)]; omega) | (rw [nI_ltI (by omega) (by omega)]; omega) | (rw [nI_eq (by omega) (by omega)]; omega)) ?_
            refine x_iconst B 79 (v := (-1)) dX2_reel_78 (by decide) rfl ?_
            refine x_goto B 83 dX2_reel_79 (by decide) ?_
            refine x_iast B 84 (by repeat (first | with_reducible exact xu_h | apply xu_t)) (j := 12 * r + i) (by first | (simp only [xlit, nI_add, pk_mul]; done) | rfl | (simp only [xlit, nI_add, pk_mul]; congr 1; omega)) ⟨by first | omega | decide, by first | decide | omega⟩ dX2_reel_83 rfl ?_
            exact next _ (by rw [if_pos c])
          · refine x_aload0 B 63 dX2_reel_62 rfl (by first | rfl | exact xisR_rf _) ?_
            refine g_X2_44_X2 B 66 (by repeat (first | with_reducible exact xr_h | refine xr_t ?_)) dX2_reel_63 rfl ?_
            refine x_bipush B 68 (v := 12) dX2_reel_66 (by decide) rfl ?_
            refine x_iload1 B 69 dX2_reel_68 rfl ?_
            refine x_imul B 70 dX2_reel_69 rfl ?_
            refine x_iload4 B 72 dX2_reel_70 rfl ?_
            refine x_iadd B 73 dX2_reel_72 rfl ?_
            refine x_iload2 B 74 dX2_reel_73 rfl ?_
            refine x_iconst B 75 (v := 3) dX2_reel_74 (by decide) rfl ?_
            refine x_icmp_ne_t B 82 dX2_reel_75 (by decide) (by (try simp only [xlit]); first | (rw [nI_leI (by omega) (by omega)]; omega) | (rw [nI_ltI (by omega) (by omega)]; omega) | (rw [nI_eq (by omega) (by omega)]; omega)) ?_
            refine x_iconst B 83 (v := 0) dX2_reel_82 (by decide) rfl ?_
            refine x_iast B 84 (by repeat (first | with_reducible exact xu_h | apply xu_t)) (j := 12 * r + i) (by first | (simp only [xlit, nI_add, pk_mul]; done) | rfl | (simp only [xlit, nI_add, pk_mul]; congr 1; omega)) ⟨by first | omega | decide, by first | decide | omega⟩ dX2_reel_83 rfl ?_
            exact next _ (by rw [if_neg c])
      refine x_iconst B 53 (v := 0) dX2_reel_52 (by decide) rfl ?_
      refine x_istore4 B 55 dX2_reel_53 rfl ?_
      exact loop 12 0 rfl rp (fun j hj => by omega) (fun _ _ => rfl)
    · refine x_iload3 B 32 dX2_reel_31 rfl ?_
      refine x_if_ge_f (tp := 38) B 35 dX2_reel_32 (by decide) rfl c2 ?_
      simp only [sReel, e, e2] at hq
      rw [if_neg (by simpa using c1), if_pos c2] at hq
      subst hq
      refine x_bipush B 37 (v := (-16)) dX2_reel_35 (by decide) rfl ?_
      exact x_iret B rfl ⟨rfl, _, _, _, hR, rfl⟩ dX2_reel_37 ⟨by first | omega | decide, by first | omega | decide⟩
  · refine x_iload3 B 23 dX2_reel_22 rfl ?_
    refine x_bipush B 25 (v := 12) dX2_reel_23 (by decide) rfl ?_
    refine x_icmp_le_f (tp := 31) B 28 dX2_reel_25 (by decide) rfl c1 ?_
    simp only [sReel, e, e2] at hq
    rw [if_pos c1] at hq
    subst hq
    refine x_bipush B 30 (v := (-3)) dX2_reel_28 (by decide) rfl ?_
    exact x_iret B rfl ⟨rfl, _, _, _, hR, rfl⟩ dX2_reel_30 ⟨by first | omega | decide, by first | omega | decide⟩
theorem m_X2_noPlace (hR : TRl rz rs rp R) (r s : Nat) (i : Int32) (hr : r < 3) (hs : s < 4) : XC D yX2_noPlace (ws_ yX2_noPlace cX2_noPlace 4 (Option.some Jvm.ClassFile.FieldType.int)) 1 40 (0) (0) [.ref h, .int (nI r), .int (nI s), .int i] [tR D h ad iv, tI D ad 13 3 rz, tI D ad 14 3 rs] (fun q cs' => q = some (.int (sNo R r s i)) ∧ cs' = [tR D h ad iv, tI D ad 13 3 rz, tI D ad 14 3 rs]) x0 := by
  refine XC.of (by decide) (by simp [Value.category]) (Nat.le_of_ble_eq_true rfl) fun X B => ?_
  show WX D X [tR D h ad iv, tI D ad 13 3 rz, tI D ad 14 3 rs] 0 0 0 [some (.ref h), some (.int (nI r)), some (.int (nI s)), some (.int i)] []
  rcases hR r hr with ⟨q1, q2⟩ | ⟨s', n', f', q1, q2, q3, q4, q5, q6⟩
  · refine x_aload0 B 1 dX2_noPlace_0 rfl (by first | rfl | exact xisR_rf _) ?_
    refine g_X2_38_X2 B 4 (by repeat (first | with_reducible exact xr_h | refine xr_t ?_)) dX2_noPlace_1 rfl ?_
    refine x_iload1 B 5 dX2_noPlace_4 rfl ?_
    refine x_ialdv B 6 (by repeat (first | with_reducible exact xr_h | refine xr_t ?_)) (j := r) (by first | (simp only [xlit, nI_add, pk_mul]; done) | rfl | (simp only [xlit, nI_add, pk_mul]; congr 1; omega)) ⟨by first | omega | decide, by first | decide | omega⟩ q2 dX2_noPlace_5 rfl ?_
    refine x_if_ge_f (tp := 12) B 9 dX2_noPlace_6 (by decide) rfl (by decide) ?_
    refine x_bipush B 11 (v := (-11)) dX2_noPlace_9 (by decide) rfl ?_
    exact x_iret B rfl ⟨by simp only [sNo, q1], rfl⟩ dX2_noPlace_11 ⟨by first | omega | decide, by first | omega | decide⟩
  · refine x_aload0 B 1 dX2_noPlace_0 rfl (by first | rfl | exact xisR_rf _) ?_
    refine g_X2_38_X2 B 4 (by repeat (first | with_reducible exact xr_h | refine xr_t ?_)) dX2_noPlace_1 rfl ?_
    refine x_iload1 B 5 dX2_noPlace_4 rfl ?_
    refine x_ialdv B 6 (by repeat (first | with_reducible exact xr_h | refine xr_t ?_)) (j := r) (by first | (simp only [xlit, nI_add, pk_mul]; done) | rfl | (simp only [xlit, nI_add, pk_mul]; congr 1; omega)) ⟨by first | omega | decide, by first | decide | omega⟩ q4 dX2_noPlace_5 rfl ?_
    refine x_if_ge_t B 12 dX2_noPlace_6 (by decide) (nI_pos' (by omega)) ?_
    refine x_aload0 B 13 dX2_noPlace_12 rfl (by first | rfl | exact xisR_rf _) ?_
    refine g_X2_41_X2 B 16 (by repeat (first | with_reducible exact xr_h | refine xr_t ?_)) dX2_noPlace_13 rfl ?_
    refine x_iload1 B 17 dX2_noPlace_16 rfl ?_
    refine x_ialdv B 18 (by repeat (first | with_reducible exact xr_h | refine xr_t ?_)) (j := r) (by first | (simp only [xlit, nI_add, pk_mul]; done) | rfl | (simp only [xlit, nI_add, pk_mul]; congr 1; omega)) ⟨by first | omega | decide, by first | decide | omega⟩ q5 dX2_noPlace_17 rfl ?_
    by_cases c : s' = s
    · refine x_iload2 B 19 dX2_noPlace_18 rfl ?_
      refine x_icmp_eq_t B 25 dX2_noPlace_19 (by decide) (by (try simp only [xlit]); first | (rw [nI_leI (by omega) (by omega)]; omega) | (rw [nI_ltI (by omega) (by omega)]; omega) | (rw [nI_eq (by omega) (by omega)]; omega)) ?_
      refine x_iload3 B 26 dX2_noPlace_25 rfl ?_
      refine x_i2l B 27 dX2_noPlace_26 rfl ?_
      refine x_lconst B 28 (v := 0) dX2_noPlace_27 (by decide) rfl ?_
      refine x_aload0 B 29 dX2_noPlace_28 rfl (by first | rfl | exact xisR_rf _) ?_
      refine g_X2_38_X2 B 32 (by repeat (first | with_reducible exact xr_h | refine xr_t ?_)) dX2_noPlace_29 rfl ?_
      refine x_iload1 B 33 dX2_noPlace_32 rfl ?_
      refine x_ialdv B 34 (by repeat (first | with_reducible exact xr_h | refine xr_t ?_)) (j := r) (by first | (simp only [xlit, nI_add, pk_mul]; done) | rfl | (simp only [xlit, nI_add, pk_mul]; congr 1; omega)) ⟨by first | omega | decide, by first | decide | omega⟩ q4 dX2_noPlace_33 rfl ?_
      refine x_iconst B 35 (v := 1) dX2_noPlace_34 (by decide) rfl ?_
      refine x_isub B 36 dX2_noPlace_35 rfl ?_
      refine x_i2l B 37 dX2_noPlace_36 rfl ?_
      refine x_callS B 40 (m_X2_in _ _ _) [] rfl q1869 q1870 q92 q1871 hd_X2_in rfl ⟨by first | decide | omega, by first | decide | omega⟩ ⟨by first | decide | omega, by first | decide | omega⟩ rfl (Nat.le_of_ble_eq_true rfl) dX2_noPlace_37 rfl (fun _ _ _ h => h.elim) ?_
      rintro _ _ ⟨rfl, rfl⟩
      try simp only [xst, xput, xpre, List.set_cons_zero, List.set_cons_succ]
      rw [xinB i (by omega)]
      rcases toR_c i 0 n' (by omega) with ⟨e, e'⟩ | ⟨i, -, hi, rfl, e, e'⟩
      · rw [e']
        refine x_if_eq_t B 47 dX2_noPlace_40 (by decide) rfl ?_
        refine x_bipush B 49 (v := (-14)) dX2_noPlace_47 (by decide) rfl ?_
        exact x_iret B rfl ⟨by simp only [sNo, q1]; rw [if_neg (by simpa using c), e], rfl⟩ dX2_noPlace_49 ⟨by first | omega | decide, by first | omega | decide⟩
      · rw [e']
        refine x_if_eq_f (tp := 47) B 43 dX2_noPlace_40 (by decide) rfl (by decide) ?_
        refine x_iconst B 44 (v := 0) dX2_noPlace_43 (by decide) rfl ?_
        refine x_goto B 49 dX2_noPlace_44 (by decide) ?_
        exact x_iret B rfl ⟨by simp only [sNo, q1]; rw [if_neg (by simpa using c), e], rfl⟩ dX2_noPlace_49 ⟨by first | omega | decide, by first | omega | decide⟩
    · refine x_iload2 B 19 dX2_noPlace_18 rfl ?_
      refine x_icmp_eq_f (tp := 25) B 22 dX2_noPlace_19 (by decide) rfl (by (try simp only [xlit]); first | (rw [nI_leI (by omega) (by omega)]; omega) | (rw [nI_ltI (by omega) (by omega)]; omega) | (rw [nI_eq (by omega) (by omega)]; omega)) ?_
      refine x_bipush B 24 (v := (-12)) dX2_noPlace_22 (by decide) rfl ?_
      exact x_iret B rfl ⟨by simp only [sNo, q1]; rw [if_pos c], rfl⟩ dX2_noPlace_24 ⟨by first | omega | decide, by first | omega | decide⟩
theorem m_X2_play (hR : TRl rz rs rp R) (r s i : Int32) : XC D yX2_play (ws_ yX2_play cX2_play 6 (Option.some Jvm.ClassFile.FieldType.int)) 2 80 (0) (0) [.ref h, .int r, .int s, .int i] [tR D h ad iv, tI D ad 13 3 rz, tI D ad 14 3 rs, tI D ad 15 36 rp] (fun q cs' => q = some (.int (sPlay R r s i)) ∧ cs' = [tR D h ad iv, tI D ad 13 3 rz, tI D ad 14 3 rs, tI D ad 15 36 rp]) x0 := by
  refine XC.of (by decide) (by simp [Value.category]) (Nat.le_of_ble_eq_true rfl) fun X B => ?_
  show WX D X [tR D h ad iv, tI D ad 13 3 rz, tI D ad 14 3 rs, tI D ad 15 36 rp] 0 0 0 [some (.ref h), some (.int r), some (.int s), some (.int i), none, none] []
  refine x_iload1 B 1 dX2_play_0 rfl ?_
  refine x_callS B 4 (m_isReel r) [] rfl q2193 q2194 q92 q2195 hd_X2_isReel rfl ⟨by first | decide | omega, by first | decide | omega⟩ ⟨by first | decide | omega, by first | decide | omega⟩ rfl (Nat.le_of_ble_eq_true rfl) dX2_play_1 rfl (fun _ _ _ h => h.elim) ?_
  rintro _ _ ⟨rfl, rfl⟩
  try simp only [xst, xput, xpre, List.set_cons_zero, List.set_cons_succ]
  rcases toR_c r 0 3 (by omega) with ⟨e, e'⟩ | ⟨r, -, hr, rfl, e, e'⟩
  · rw [e']
    refine x_if_ne_f (tp := 10) B 7 dX2_play_4 (by decide) rfl rfl ?_
    refine x_bipush B 9 (v := (-2)) dX2_play_7 (by decide) rfl ?_
    exact x_iret B rfl ⟨by simp only [sPlay, e], rfl⟩ dX2_play_9 ⟨by first | omega | decide, by first | omega | decide⟩
  rw [e']
  refine x_if_ne_t B 10 dX2_play_4 (by decide) (by decide) ?_
  refine x_iload2 B 11 dX2_play_10 rfl ?_
  refine x_i2l B 12 dX2_play_11 rfl ?_
  refine x_lconst B 13 (v := 0) dX2_play_12 (by decide) rfl ?_
  refine x_ldc2 B 16 dX2_play_13 q2086 rfl ?_
  refine x_callS B 19 (m_X2_in _ _ _) [] rfl q1869 q1870 q92 q1871 hd_X2_in rfl ⟨by first | decide | omega, by first | decide | omega⟩ ⟨by first | decide | omega, by first | decide | omega⟩ rfl (Nat.le_of_ble_eq_true rfl) dX2_play_16 rfl (fun _ _ _ h => h.elim) ?_
  rintro _ _ ⟨rfl, rfl⟩
  try simp only [xst, xput, xpre, List.set_cons_zero, List.set_cons_succ]
  rw [show x_in s.toInt64 0 3 = bI (toR s 0 4).isSome from xinR s 0 3 rfl rfl (by decide) (by decide)]
  rcases toR_c s 0 4 (by omega) with ⟨e2, e2'⟩ | ⟨s, -, hs, rfl, e2, e2'⟩
  · rw [e2']
    refine x_if_ne_f (tp := 25) B 22 dX2_play_19 (by decide) rfl rfl ?_
    refine x_bipush B 24 (v := (-3)) dX2_play_22 (by decide) rfl ?_
    exact x_iret B rfl ⟨by simp only [sPlay, e, e2], rfl⟩ dX2_play_24 ⟨by first | omega | decide, by first | omega | decide⟩
  rw [e2']
  refine x_if_ne_t B 25 dX2_play_19 (by decide) (by decide) ?_
  refine x_aload0 B 26 dX2_play_25 rfl (by first | rfl | exact xisR_rf _) ?_
  refine x_iload1 B 27 dX2_play_26 rfl ?_
  refine x_iload2 B 28 dX2_play_27 rfl ?_
  refine x_iload3 B 29 dX2_play_28 rfl ?_
  refine x_callV B 32 (m_X2_noPlace hR r s i hr hs) [0, 1, 2] rfl ⟨_, _, _, (by repeat (first | with_reducible exact xr_h | refine xr_t ?_)), rfl, rfl⟩ q2201 q2203 qs82 q92 q2204 hd_X2_noPlace (by decide) ⟨by first | decide | omega, by first | decide | omega⟩ ⟨by first | decide | omega, by first | decide | omega⟩ rfl (Nat.le_of_ble_eq_true rfl) dX2_play_29 rfl (fun _ _ _ h => h.elim) ?_
  rintro _ _ ⟨rfl, rfl⟩
  try simp only [xst, xput, xpre, List.set_cons_zero, List.set_cons_succ]
  rcases hR r hr with ⟨q1, q2⟩ | ⟨s', n', f', q1, q2, q3, q4, q5, q6⟩
  · rw [show sNo R r s i = -11 by simp only [sNo, q1]]
    refine x_istore4 B 34 dX2_play_32 rfl ?_
    refine x_iload4 B 36 dX2_play_34 rfl ?_
    refine x_if_eq_f (tp := 42) B 39 dX2_play_36 (by decide) rfl (by decide) ?_
    refine x_iload4 B 41 dX2_play_39 rfl ?_
    exact x_iret B rfl ⟨by simp only [sPlay, e, e2, q1], rfl⟩ dX2_play_41 ⟨by first | omega | decide, by first | omega | decide⟩
  by_cases c : s' = s
  · subst c
    rcases toR_c i 0 n' (by omega) with ⟨e3, e3'⟩ | ⟨i, -, hi, rfl, e3, e3'⟩
    · rw [show sNo R r s' i = -14 by simp only [sNo, q1, ne_eq, not_true_eq_false, if_false, e3]]
      refine x_istore4 B 34 dX2_play_32 rfl ?_
      refine x_iload4 B 36 dX2_play_34 rfl ?_
      refine x_if_eq_f (tp := 42) B 39 dX2_play_36 (by decide) rfl (by decide) ?_
      refine x_iload4 B 41 dX2_play_39 rfl ?_
      exact x_iret B rfl ⟨by simp only [sPlay, e, e2, q1, ne_eq, not_true_eq_false, if_false, e3], rfl⟩ dX2_play_41 ⟨by first | omega | decide, by first | omega | decide⟩
    rw [show sNo R r s' (nI i) = 0 by simp only [sNo, q1, ne_eq, not_true_eq_false, if_false, e3]]
    refine x_istore4 B 34 dX2_play_32 rfl ?_
    refine x_iload4 B 36 dX2_play_34 rfl ?_
    refine x_if_eq_t B 42 dX2_play_36 (by decide) rfl ?_
    have hp : sPlay R (nI r) (nI s') (nI i) = if s' = 3 then (if f' i = -1 then -15 else f' i) else if s' < 2 then f' i + 100000 else if f' i < 0 then hRem (-(f' i + 1)) + 2000000 else hRem (f' i) := by simp only [sPlay, e, e2, q1, ne_eq, not_true_eq_false, if_false, e3]
    rw [hp] at B
    refine x_aload0 B 43 dX2_play_42 rfl (by first | rfl | exact xisR_rf _) ?_
    refine g_X2_44_X2 B 46 (by repeat (first | with_reducible exact xr_h | refine xr_t ?_)) dX2_play_43 rfl ?_
    refine x_bipush B 48 (v := 12) dX2_play_46 (by decide) rfl ?_
    refine x_iload1 B 49 dX2_play_48 rfl ?_
    refine x_imul B 50 dX2_play_49 rfl ?_
    refine x_iload3 B 51 dX2_play_50 rfl ?_
    refine x_iadd B 52 dX2_play_51 rfl ?_
    refine x_ialdv B 53 (by repeat (first | with_reducible exact xr_h | refine xr_t ?_)) (j := 12 * r + i) (by first | (simp only [xlit, nI_add, pk_mul]; done) | rfl | (simp only [xlit, nI_add, pk_mul]; congr 1; omega)) ⟨by first | omega | decide, by first | decide | omega⟩ (q6 i hi) dX2_play_52 rfl ?_
    by_cases c3 : s' = 3
    · refine x_istore5 B 55 dX2_play_53 rfl ?_
      refine x_iload2 B 56 dX2_play_55 rfl ?_
      refine x_iconst B 57 (v := 3) dX2_play_56 (by decide) rfl ?_
      refine x_icmp_ne_f (tp := 74) B 60 dX2_play_57 (by decide) rfl (by (try simp only [xlit]); first | (rw [nI_leI (by omega) (by omega)]; omega) | (rw [nI_ltI (by omega) (by omega)]; omega) | (rw [nI_eq (by omega) (by omega)]; omega)) ?_
      rw [if_pos c3] at B
      refine x_iload5 B 62 dX2_play_60 rfl ?_
      refine x_iconst B 63 (v := (-1)) dX2_play_62 (by decide) rfl ?_
      refine x_icmp_ne B 71 66 dX2_play_63 (by decide) rfl (fun c4 => ?_) (fun c4 => ?_)
      · rw [if_neg c4] at B
        refine x_iload5 B 73 dX2_play_71 rfl ?_
        exact x_iret B rfl ⟨rfl, rfl⟩ dX2_play_73 ⟨by first | omega | decide, by first | omega | decide⟩
      · rw [if_pos (by simpa using c4)] at B
        refine x_bipush B 68 (v := (-15)) dX2_play_66 (by decide) rfl ?_
        refine x_goto B 73 dX2_play_68 (by decide) ?_
        exact x_iret B rfl ⟨rfl, rfl⟩ dX2_play_73 ⟨by first | omega | decide, by first | omega | decide⟩
    · refine x_istore5 B 55 dX2_play_53 rfl ?_
      refine x_iload2 B 56 dX2_play_55 rfl ?_
      refine x_iconst B 57 (v := 3) dX2_play_56 (by decide) rfl ?_
      refine x_icmp_ne_t B 74 dX2_play_57 (by decide) (by (try simp only [xlit]); first | (rw [nI_leI (by omega) (by omega)]; omega) | (rw [nI_ltI (by omega) (by omega)]; omega) | (rw [nI_eq (by omega) (by omega)]; omega)) ?_
      rw [if_neg c3] at B
      by_cases c2 : s' < 2
      · rw [if_pos c2] at B
        refine x_iload2 B 75 dX2_play_74 rfl ?_
        refine x_iconst B 76 (v := 2) dX2_play_75 (by decide) rfl ?_
        refine x_icmp_ge_f (tp := 88) B 79 dX2_play_76 (by decide) rfl (by (try simp only [xlit]); first | (rw [nI_leI (by omega) (by omega)]; omega) | (rw [nI_ltI (by omega) (by omega)]; omega) | (rw [nI_eq (by omega) (by omega)]; omega)) ?_
        refine x_iload5 B 81 dX2_play_79 rfl ?_
        refine x_ldcw B 84 dX2_play_81 q2205 rfl ?_
        refine x_iadd B 85 dX2_play_84 rfl ?_
        refine x_goto B 115 dX2_play_85 (by decide) ?_
        exact x_iret B rfl ⟨rfl, rfl⟩ dX2_play_115 ⟨by first | omega | decide, by first | omega | decide⟩
      · rw [if_neg c2] at B
        refine x_iload2 B 75 dX2_play_74 rfl ?_
        refine x_iconst B 76 (v := 2) dX2_play_75 (by decide) rfl ?_
        refine x_icmp_ge_t B 88 dX2_play_76 (by decide) (by (try simp only [xlit]); first | (rw [nI_leI (by omega) (by omega)]; omega) | (rw [nI_ltI (by omega) (by omega)]; omega) | (rw [nI_eq (by omega) (by omega)]; omega)) ?_
        refine x_iload5 B 90 dX2_play_88 rfl ?_
        refine x_if_ge B 109 93 dX2_play_90 (by decide) rfl (fun c5 => ?_) (fun c5 => ?_)
        · rw [if_neg (Int32.not_lt.mpr c5)] at B
          refine x_iload5 B 111 dX2_play_109 rfl ?_
          refine x_ldcw B 114 dX2_play_111 q2210 rfl ?_
          refine x_irem B 115 dX2_play_114 (by decide) rfl ?_
          exact x_iret B rfl ⟨rfl, rfl⟩ dX2_play_115 ⟨by first | omega | decide, by first | omega | decide⟩
        · rw [if_pos (Int32.not_le.mp (by simpa using c5))] at B
          refine x_iload5 B 95 dX2_play_93 rfl ?_
          refine x_iconst B 96 (v := 1) dX2_play_95 (by decide) rfl ?_
          refine x_iadd B 97 dX2_play_96 rfl ?_
          refine x_ineg B 98 dX2_play_97 rfl ?_
          refine x_ldcw B 101 dX2_play_98 q2210 rfl ?_
          refine x_irem B 102 dX2_play_101 (by decide) rfl ?_
          refine x_ldcw B 105 dX2_play_102 q2211 rfl ?_
          refine x_iadd B 106 dX2_play_105 rfl ?_
          refine x_goto B 115 dX2_play_106 (by decide) ?_
          exact x_iret B rfl ⟨rfl, rfl⟩ dX2_play_115 ⟨by first | omega | decide, by first | omega | decide⟩
  · rw [show sNo R r s i = -12 by simp only [sNo, q1]; rw [if_pos c]]
    refine x_istore4 B 34 dX2_play_32 rfl ?_
    refine x_iload4 B 36 dX2_play_34 rfl ?_
    refine x_if_eq_f (tp := 42) B 39 dX2_play_36 (by decide) rfl (by decide) ?_
    refine x_iload4 B 41 dX2_play_39 rfl ?_
    exact x_iret B rfl ⟨by simp only [sPlay, e, e2, q1]; rw [if_pos c], rfl⟩ dX2_play_41 ⟨by first | omega | decide, by first | omega | decide⟩
theorem m_X2_record (hW : TW row iv nb nm kd N U) (hR : TRl rz rs rp R) (r s i v : Int32) (q : Int32 × HR) (hq : sRecord R nb r s i v = q) : XC D yX2_record (ws_ yX2_record cX2_record 7 (Option.some Jvm.ClassFile.FieldType.int)) 2 80 (0) (0) [.ref h, .int r, .int s, .int i, .int v] [tR D h ad iv, tI D ad 13 3 rz, tI D ad 14 3 rs, tI D ad 15 36 rp, tI D ad 0 1404 row] (fun r cs' => r = some (.int q.1) ∧ ∃ rp', TRl rz rs rp' q.2 ∧ cs' = [tR D h ad iv, tI D ad 13 3 rz, tI D ad 14 3 rs, tI D ad 15 36 rp', tI D ad 0 1404 row]) x0 := by
  refine XC.of (by decide) (by simp [Value.category]) (Nat.le_of_ble_eq_true rfl) fun X B => ?_
  show WX D X [tR D h ad iv, tI D ad 13 3 rz, tI D ad 14 3 rs, tI D ad 15 36 rp, tI D ad 0 1404 row] 0 0 0 [some (.ref h), some (.int r), some (.int s), some (.int i), some (.int v), none, none] []
  have hT := hW.1
  have hO := hW.2.1.1
  have hnb := hO.1
  refine x_iload1 B 1 dX2_record_0 rfl ?_
  refine x_callS B 4 (m_isReel r) [] rfl q2193 q2194 q92 q2195 hd_X2_isReel rfl ⟨by first | decide | omega, by first | decide | omega⟩ ⟨by first | decide | omega, by first | decide | omega⟩ rfl (Nat.le_of_ble_eq_true rfl) dX2_record_1 rfl (fun _ _ _ h => h.elim) ?_
  rintro _ _ ⟨rfl, rfl⟩
  try simp only [xst, xput, xpre, List.set_cons_zero, List.set_cons_succ]
  rcases toR_c r 0 3 (by omega) with ⟨e, e'⟩ | ⟨r, -, hr, rfl, e, e'⟩
  · rw [e']
    refine x_if_eq_t B 27 dX2_record_4 (by decide) rfl ?_
    simp only [sRecord, e] at hq; subst hq
    refine x_bipush B 29 (v := (-2)) dX2_record_27 (by decide) rfl ?_
    exact x_iret B rfl ⟨rfl, _, hR, rfl⟩ dX2_record_29 ⟨by first | omega | decide, by first | omega | decide⟩
  rw [e']
  refine x_if_eq_f (tp := 27) B 7 dX2_record_4 (by decide) rfl (by decide) ?_
  have go : ¬ (s = 3 ∧ toB v nb = none) → WX D X [tR D h ad iv, tI D ad 13 3 rz, tI D ad 14 3 rs, tI D ad 15 36 rp, tI D ad 0 1404 row] 0 0 30 [some (.ref h), some (.int (nI r)), some (.int s), some (.int i), some (.int v), none, none] [] := by
    intro c0
    simp only [sRecord, e] at hq
    rw [if_neg c0] at hq
    refine x_iload2 B 31 dX2_record_30 rfl ?_
    refine x_i2l B 32 dX2_record_31 rfl ?_
    refine x_lconst B 33 (v := 0) dX2_record_32 (by decide) rfl ?_
    refine x_ldc2 B 36 dX2_record_33 q2086 rfl ?_
    refine x_callS B 39 (m_X2_in _ _ _) [] rfl q1869 q1870 q92 q1871 hd_X2_in rfl ⟨by first | decide | omega, by first | decide | omega⟩ ⟨by first | decide | omega, by first | decide | omega⟩ rfl (Nat.le_of_ble_eq_true rfl) dX2_record_36 rfl (fun _ _ _ h => h.elim) ?_
    rintro _ _ ⟨rfl, rfl⟩
    try simp only [xst, xput, xpre, List.set_cons_zero, List.set_cons_succ]
    rw [show x_in s.toInt64 0 3 = bI (toR s 0 4).isSome from xinR s 0 3 rfl rfl (by decide) (by decide)]
    rcases toR_c s 0 4 (by omega) with ⟨e2, e2'⟩ | ⟨s, -, hs, rfl, e2, e2'⟩
    · rw [e2']
      refine x_if_ne_f (tp := 45) B 42 dX2_record_39 (by decide) rfl rfl ?_
      simp only [e2] at hq; subst hq
      refine x_bipush B 44 (v := (-3)) dX2_record_42 (by decide) rfl ?_
      exact x_iret B rfl ⟨rfl, _, hR, rfl⟩ dX2_record_44 ⟨by first | omega | decide, by first | omega | decide⟩
    rw [e2']
    refine x_if_ne_t B 45 dX2_record_39 (by decide) (by decide) ?_
    simp only [e2] at hq
    refine x_aload0 B 46 dX2_record_45 rfl (by first | rfl | exact xisR_rf _) ?_
    refine x_iload1 B 47 dX2_record_46 rfl ?_
    refine x_iload2 B 48 dX2_record_47 rfl ?_
    refine x_iload3 B 49 dX2_record_48 rfl ?_
    refine x_callV B 52 (m_X2_noPlace hR r s i hr hs) [0, 1, 2] rfl ⟨_, _, _, (by repeat (first | with_reducible exact xr_h | refine xr_t ?_)), rfl, rfl⟩ q2201 q2203 qs82 q92 q2204 hd_X2_noPlace (by decide) ⟨by first | decide | omega, by first | decide | omega⟩ ⟨by first | decide | omega, by first | decide | omega⟩ rfl (Nat.le_of_ble_eq_true rfl) dX2_record_49 rfl (fun _ _ _ h => h.elim) ?_
    rintro _ _ ⟨rfl, rfl⟩
    try simp only [xst, xput, xpre, List.set_cons_zero, List.set_cons_succ]
    rcases hR r hr with ⟨q1, q2⟩ | ⟨s', n', f', q1, q2, q3, q4, q5, q6⟩
    · rw [show sNo R r s i = -11 by simp only [sNo, q1]]
      simp only [q1] at hq; subst hq
      refine x_istore5 B 54 dX2_record_52 rfl ?_
      refine x_iload5 B 56 dX2_record_54 rfl ?_
      refine x_if_eq_f (tp := 62) B 59 dX2_record_56 (by decide) rfl (by decide) ?_
      refine x_iload5 B 61 dX2_record_59 rfl ?_
      exact x_iret B rfl ⟨rfl, _, hR, rfl⟩ dX2_record_61 ⟨by first | omega | decide, by first | omega | decide⟩
    simp only [q1] at hq
    by_cases c : s' = s
    · subst c
      rcases toR_c i 0 n' (by omega) with ⟨e3, e3'⟩ | ⟨i, -, hi, rfl, e3, e3'⟩
      · rw [show sNo R r s' i = -14 by simp only [sNo, q1, ne_eq, not_true_eq_false, if_false, e3]]
        simp only [ne_eq, not_true_eq_false, if_false, e3] at hq; subst hq
        refine x_istore5 B 54 dX2_record_52 rfl ?_
        refine x_iload5 B 56 dX2_record_54 rfl ?_
        refine x_if_eq_f (tp := 62) B 59 dX2_record_56 (by decide) rfl (by decide) ?_
        refine x_iload5 B 61 dX2_record_59 rfl ?_
        exact x_iret B rfl ⟨rfl, _, hR, rfl⟩ dX2_record_61 ⟨by first | omega | decide, by first | omega | decide⟩
      rw [show sNo R r s' (nI i) = 0 by simp only [sNo, q1, ne_eq, not_true_eq_false, if_false, e3]]
      simp only [ne_eq, not_true_eq_false, if_false, e3] at hq
      refine x_istore5 B 54 dX2_record_52 rfl ?_
      refine x_iload5 B 56 dX2_record_54 rfl ?_
      refine x_if_eq_t B 62 dX2_record_56 (by decide) rfl ?_
      have set : ∀ x, TRl rz rs (upd rp (12 * r + i) x) (fUp R r (some (s', n', fUp f' i x))) := by
        intro x
        refine hR.set hr q4 q5 (fun j hj => ?_) q2 q3 (fun _ _ => rfl) (fun _ _ => rfl) (fun j hj => pk_un (by omega))
        unfold fUp
        by_cases c4 : j = i
        · subst c4; rw [pk_us, if_pos rfl]
        · rw [pk_un (by omega), if_neg c4]; exact q6 j hj
      by_cases s0 : s' = 0
      · rw [if_pos s0] at hq; subst hq
        refine x_iload2 B 63 dX2_record_62 rfl ?_
        refine x_if_ne_f (tp := 72) B 66 dX2_record_63 (by decide) rfl (by (try simp only [xlit]); first | (rw [nI_leI (by omega) (by omega)]; omega) | (rw [nI_ltI (by omega) (by omega)]; omega) | (rw [nI_eq (by omega) (by omega)]; omega)) ?_
        refine x_iload4 B 68 dX2_record_66 rfl ?_
        refine x_i2b B 69 dX2_record_68 rfl ?_
        refine x_goto B 85 dX2_record_69 (by decide) ?_
        refine x_istore6 B 87 dX2_record_85 rfl ?_
        refine x_aload0 B 88 dX2_record_87 rfl (by first | rfl | exact xisR_rf _) ?_
        refine g_X2_44_X2 B 91 (by repeat (first | with_reducible exact xr_h | refine xr_t ?_)) dX2_record_88 rfl ?_
        refine x_bipush B 93 (v := 12) dX2_record_91 (by decide) rfl ?_
        refine x_iload1 B 94 dX2_record_93 rfl ?_
        refine x_imul B 95 dX2_record_94 rfl ?_
        refine x_iload3 B 96 dX2_record_95 rfl ?_
        refine x_iadd B 97 dX2_record_96 rfl ?_
        refine x_iload6 B 99 dX2_record_97 rfl ?_
        refine x_iast B 100 (by repeat (first | with_reducible exact xu_h | apply xu_t)) (j := 12 * r + i) (by first | (simp only [xlit, nI_add, pk_mul]; done) | rfl | (simp only [xlit, nI_add, pk_mul]; congr 1; omega)) ⟨by first | omega | decide, by first | decide | omega⟩ dX2_record_99 rfl ?_
        refine x_iload2 B 101 dX2_record_100 rfl ?_
        refine x_iconst B 102 (v := 2) dX2_record_101 (by decide) rfl ?_
        refine x_icmp_ge_f (tp := 114) B 105 dX2_record_102 (by decide) rfl (by (try simp only [xlit]); first | (rw [nI_leI (by omega) (by omega)]; omega) | (rw [nI_ltI (by omega) (by omega)]; omega) | (rw [nI_eq (by omega) (by omega)]; omega)) ?_
        refine x_iload6 B 107 dX2_record_105 rfl ?_
        refine x_ldcw B 110 dX2_record_107 q2205 rfl ?_
        refine x_iadd B 111 dX2_record_110 rfl ?_
        refine x_goto B 125 dX2_record_111 (by decide) ?_
        exact x_iret B rfl ⟨rfl, _, set _, rfl⟩ dX2_record_125 ⟨by first | omega | decide, by first | omega | decide⟩
      rw [if_neg s0] at hq
      refine x_iload2 B 63 dX2_record_62 rfl ?_
      refine x_if_ne_t B 72 dX2_record_63 (by decide) (by (try simp only [xlit]); first | (rw [nI_leI (by omega) (by omega)]; omega) | (rw [nI_ltI (by omega) (by omega)]; omega) | (rw [nI_eq (by omega) (by omega)]; omega)) ?_
      by_cases s1 : s' = 1
      · rw [if_pos s1] at hq; subst hq
        refine x_iload2 B 73 dX2_record_72 rfl ?_
        refine x_iconst B 74 (v := 1) dX2_record_73 (by decide) rfl ?_
        refine x_icmp_ne_f (tp := 83) B 77 dX2_record_74 (by decide) rfl (by (try simp only [xlit]); first | (rw [nI_leI (by omega) (by omega)]; omega) | (rw [nI_ltI (by omega) (by omega)]; omega) | (rw [nI_eq (by omega) (by omega)]; omega)) ?_
        refine x_iload4 B 79 dX2_record_77 rfl ?_
        refine x_i2s B 80 dX2_record_79 rfl ?_
        refine x_goto B 85 dX2_record_80 (by decide) ?_
        refine x_istore6 B 87 dX2_record_85 rfl ?_
        refine x_aload0 B 88 dX2_record_87 rfl (by first | rfl | exact xisR_rf _) ?_
        refine g_X2_44_X2 B 91 (by repeat (first | with_reducible exact xr_h | refine xr_t ?_)) dX2_record_88 rfl ?_
        refine x_bipush B 93 (v := 12) dX2_record_91 (by decide) rfl ?_
        refine x_iload1 B 94 dX2_record_93 rfl ?_
        refine x_imul B 95 dX2_record_94 rfl ?_
        refine x_iload3 B 96 dX2_record_95 rfl ?_
        refine x_iadd B 97 dX2_record_96 rfl ?_
        refine x_iload6 B 99 dX2_record_97 rfl ?_
        refine x_iast B 100 (by repeat (first | with_reducible exact xu_h | apply xu_t)) (j := 12 * r + i) (by first | (simp only [xlit, nI_add, pk_mul]; done) | rfl | (simp only [xlit, nI_add, pk_mul]; congr 1; omega)) ⟨by first | omega | decide, by first | decide | omega⟩ dX2_record_99 rfl ?_
        refine x_iload2 B 101 dX2_record_100 rfl ?_
        refine x_iconst B 102 (v := 2) dX2_record_101 (by decide) rfl ?_
        refine x_icmp_ge_f (tp := 114) B 105 dX2_record_102 (by decide) rfl (by (try simp only [xlit]); first | (rw [nI_leI (by omega) (by omega)]; omega) | (rw [nI_ltI (by omega) (by omega)]; omega) | (rw [nI_eq (by omega) (by omega)]; omega)) ?_
        refine x_iload6 B 107 dX2_record_105 rfl ?_
        refine x_ldcw B 110 dX2_record_107 q2205 rfl ?_
        refine x_iadd B 111 dX2_record_110 rfl ?_
        refine x_goto B 125 dX2_record_111 (by decide) ?_
        exact x_iret B rfl ⟨rfl, _, set _, rfl⟩ dX2_record_125 ⟨by first | omega | decide, by first | omega | decide⟩
      rw [if_neg s1] at hq
      refine x_iload2 B 73 dX2_record_72 rfl ?_
      refine x_iconst B 74 (v := 1) dX2_record_73 (by decide) rfl ?_
      refine x_icmp_ne_t B 83 dX2_record_74 (by decide) (by (try simp only [xlit]); first | (rw [nI_leI (by omega) (by omega)]; omega) | (rw [nI_ltI (by omega) (by omega)]; omega) | (rw [nI_eq (by omega) (by omega)]; omega)) ?_
      refine x_iload4 B 85 dX2_record_83 rfl ?_
      refine x_istore6 B 87 dX2_record_85 rfl ?_
      refine x_aload0 B 88 dX2_record_87 rfl (by first | rfl | exact xisR_rf _) ?_
      refine g_X2_44_X2 B 91 (by repeat (first | with_reducible exact xr_h | refine xr_t ?_)) dX2_record_88 rfl ?_
      refine x_bipush B 93 (v := 12) dX2_record_91 (by decide) rfl ?_
      refine x_iload1 B 94 dX2_record_93 rfl ?_
      refine x_imul B 95 dX2_record_94 rfl ?_
      refine x_iload3 B 96 dX2_record_95 rfl ?_
      refine x_iadd B 97 dX2_record_96 rfl ?_
      refine x_iload6 B 99 dX2_record_97 rfl ?_
      refine x_iast B 100 (by repeat (first | with_reducible exact xu_h | apply xu_t)) (j := 12 * r + i) (by first | (simp only [xlit, nI_add, pk_mul]; done) | rfl | (simp only [xlit, nI_add, pk_mul]; congr 1; omega)) ⟨by first | omega | decide, by first | decide | omega⟩ dX2_record_99 rfl ?_
      refine x_iload2 B 101 dX2_record_100 rfl ?_
      refine x_iconst B 102 (v := 2) dX2_record_101 (by decide) rfl ?_
      refine x_icmp_ge_t B 114 dX2_record_102 (by decide) (by (try simp only [xlit]); first | (rw [nI_leI (by omega) (by omega)]; omega) | (rw [nI_ltI (by omega) (by omega)]; omega) | (rw [nI_eq (by omega) (by omega)]; omega)) ?_
      by_cases s2 : s' = 2
      · rw [if_pos s2] at hq; subst hq
        refine x_iload2 B 115 dX2_record_114 rfl ?_
        refine x_iconst B 116 (v := 2) dX2_record_115 (by decide) rfl ?_
        refine x_icmp_ne_f (tp := 123) B 119 dX2_record_116 (by decide) rfl (by (try simp only [xlit]); first | (rw [nI_leI (by omega) (by omega)]; omega) | (rw [nI_ltI (by omega) (by omega)]; omega) | (rw [nI_eq (by omega) (by omega)]; omega)) ?_
        refine x_iconst B 120 (v := 1) dX2_record_119 (by decide) rfl ?_
        refine x_goto B 125 dX2_record_120 (by decide) ?_
        exact x_iret B rfl ⟨rfl, _, set _, rfl⟩ dX2_record_125 ⟨by first | omega | decide, by first | omega | decide⟩
      rw [if_neg s2] at hq; subst hq
      refine x_iload2 B 115 dX2_record_114 rfl ?_
      refine x_iconst B 116 (v := 2) dX2_record_115 (by decide) rfl ?_
      refine x_icmp_ne_t B 123 dX2_record_116 (by decide) (by (try simp only [xlit]); first | (rw [nI_leI (by omega) (by omega)]; omega) | (rw [nI_ltI (by omega) (by omega)]; omega) | (rw [nI_eq (by omega) (by omega)]; omega)) ?_
      refine x_iload4 B 125 dX2_record_123 rfl ?_
      exact x_iret B rfl ⟨rfl, _, set _, rfl⟩ dX2_record_125 ⟨by first | omega | decide, by first | omega | decide⟩
    · rw [show sNo R r s i = -12 by simp only [sNo, q1]; rw [if_pos c]]
      rw [if_pos c] at hq; subst hq
      refine x_istore5 B 54 dX2_record_52 rfl ?_
      refine x_iload5 B 56 dX2_record_54 rfl ?_
      refine x_if_eq_f (tp := 62) B 59 dX2_record_56 (by decide) rfl (by decide) ?_
      refine x_iload5 B 61 dX2_record_59 rfl ?_
      exact x_iret B rfl ⟨rfl, _, hR, rfl⟩ dX2_record_61 ⟨by first | omega | decide, by first | omega | decide⟩
  by_cases c3 : s = 3
  · subst c3
    refine x_iload2 B 8 dX2_record_7 rfl ?_
    refine x_iconst B 9 (v := 3) dX2_record_8 (by decide) rfl ?_
    refine x_icmp_ne_f (tp := 30) B 12 dX2_record_9 (by decide) rfl rfl ?_
    rcases toB_c v (show nb ≤ 100 by omega) with ⟨b1, b2⟩ | ⟨b1, b2, b3, b4⟩ | ⟨j, hj, b1, b2, b3⟩
    · refine x_iload4 B 14 dX2_record_12 rfl ?_
      refine x_iconst B 15 (v := (-1)) dX2_record_14 (by decide) rfl ?_
      refine x_icmp_eq_t B 30 dX2_record_15 (by decide) b1 ?_
      exact go (by rw [b2]; simp)
    · refine x_iload4 B 14 dX2_record_12 rfl ?_
      refine x_iconst B 15 (v := (-1)) dX2_record_14 (by decide) rfl ?_
      refine x_icmp_eq_f (tp := 30) B 18 dX2_record_15 (by decide) rfl b1 ?_
      refine x_aload0 B 19 dX2_record_18 rfl (by first | rfl | exact xisR_rf _) ?_
      refine x_iload4 B 21 dX2_record_19 rfl ?_
      refine x_callV B 24 (m_isBird v hT.1 hnb) [0, 4] rfl ⟨_, _, _, (by repeat (first | with_reducible exact xr_h | refine xr_t ?_)), rfl, rfl⟩ q1974 q1976 qs57 q92 q1977 hd_X2_isBird (by decide) ⟨by first | decide | omega, by first | decide | omega⟩ ⟨by first | decide | omega, by first | decide | omega⟩ rfl (Nat.le_of_ble_eq_true rfl) dX2_record_21 rfl (fun _ _ _ h => h.elim) ?_
      rintro _ _ ⟨rfl, rfl⟩
      try simp only [xst, xput, xpre, List.set_cons_zero, List.set_cons_succ]
      rw [b4]
      refine x_if_ne_f (tp := 30) B 27 dX2_record_24 (by decide) rfl rfl ?_
      simp only [sRecord, e, b3, and_self, if_true] at hq; subst hq
      refine x_bipush B 29 (v := (-2)) dX2_record_27 (by decide) rfl ?_
      exact x_iret B rfl ⟨rfl, _, hR, rfl⟩ dX2_record_29 ⟨by first | omega | decide, by first | omega | decide⟩
    · refine x_iload4 B 14 dX2_record_12 rfl ?_
      refine x_iconst B 15 (v := (-1)) dX2_record_14 (by decide) rfl ?_
      refine x_icmp_eq_f (tp := 30) B 18 dX2_record_15 (by decide) rfl (by rw [b1]; exact ne_m1 (by omega)) ?_
      refine x_aload0 B 19 dX2_record_18 rfl (by first | rfl | exact xisR_rf _) ?_
      refine x_iload4 B 21 dX2_record_19 rfl ?_
      refine x_callV B 24 (m_isBird v hT.1 hnb) [0, 4] rfl ⟨_, _, _, (by repeat (first | with_reducible exact xr_h | refine xr_t ?_)), rfl, rfl⟩ q1974 q1976 qs57 q92 q1977 hd_X2_isBird (by decide) ⟨by first | decide | omega, by first | decide | omega⟩ ⟨by first | decide | omega, by first | decide | omega⟩ rfl (Nat.le_of_ble_eq_true rfl) dX2_record_21 rfl (fun _ _ _ h => h.elim) ?_
      rintro _ _ ⟨rfl, rfl⟩
      try simp only [xst, xput, xpre, List.set_cons_zero, List.set_cons_succ]
      rw [b3]
      refine x_if_ne_t B 30 dX2_record_24 (by decide) (by decide) ?_
      exact go (by rw [b2]; simp)
  · refine x_iload2 B 8 dX2_record_7 rfl ?_
    refine x_iconst B 9 (v := 3) dX2_record_8 (by decide) rfl ?_
    refine x_icmp_ne_t B 30 dX2_record_9 (by decide) c3 ?_
    exact go (fun z => c3 z.1)
theorem m_X2_drop (hR : TRl rz rs rp R) (r : Int32) (q : Int32 × HR) (hq : sDrop R r = q) : XC D yX2_drop (ws_ yX2_drop cX2_drop 3 (Option.some Jvm.ClassFile.FieldType.int)) 2 80 (0) (0) [.ref h, .int r] [tR D h ad iv, tI D ad 13 3 rz] (fun r cs' => r = some (.int q.1) ∧ ∃ rz', TRl rz' rs rp q.2 ∧ cs' = [tR D h ad iv, tI D ad 13 3 rz']) x0 := by
  refine XC.of (by decide) (by simp [Value.category]) (Nat.le_of_ble_eq_true rfl) fun X B => ?_
  show WX D X [tR D h ad iv, tI D ad 13 3 rz] 0 0 0 [some (.ref h), some (.int r), none] []
  refine x_iload1 B 1 dX2_drop_0 rfl ?_
  refine x_callS B 4 (m_isReel r) [] rfl q2193 q2194 q92 q2195 hd_X2_isReel rfl ⟨by first | decide | omega, by first | decide | omega⟩ ⟨by first | decide | omega, by first | decide | omega⟩ rfl (Nat.le_of_ble_eq_true rfl) dX2_drop_1 rfl (fun _ _ _ h => h.elim) ?_
  rintro _ _ ⟨rfl, rfl⟩
  try simp only [xst, xput, xpre, List.set_cons_zero, List.set_cons_succ]
  rcases toR_c r 0 3 (by omega) with ⟨e, e'⟩ | ⟨r, -, hr, rfl, e, e'⟩
  · rw [e']
    refine x_if_ne_f (tp := 10) B 7 dX2_drop_4 (by decide) rfl rfl ?_
    simp only [sDrop, e] at hq; subst hq
    refine x_bipush B 9 (v := (-2)) dX2_drop_7 (by decide) rfl ?_
    exact x_iret B rfl ⟨rfl, _, hR, rfl⟩ dX2_drop_9 ⟨by first | omega | decide, by first | omega | decide⟩
  rw [e']
  refine x_if_ne_t B 10 dX2_drop_4 (by decide) (by decide) ?_
  rcases hR r hr with ⟨q1, q2⟩ | ⟨s', n', f', q1, q2, q3, q4, q5, q6⟩
  · refine x_aload0 B 11 dX2_drop_10 rfl (by first | rfl | exact xisR_rf _) ?_
    refine g_X2_38_X2 B 14 (by repeat (first | with_reducible exact xr_h | refine xr_t ?_)) dX2_drop_11 rfl ?_
    refine x_iload1 B 15 dX2_drop_14 rfl ?_
    refine x_ialdv B 16 (by repeat (first | with_reducible exact xr_h | refine xr_t ?_)) (j := r) (by first | (simp only [xlit, nI_add, pk_mul]; done) | rfl | (simp only [xlit, nI_add, pk_mul]; congr 1; omega)) ⟨by first | omega | decide, by first | decide | omega⟩ q2 dX2_drop_15 rfl ?_
    refine x_if_ge_f (tp := 22) B 19 dX2_drop_16 (by decide) rfl (by decide) ?_
    simp only [sDrop, e, q1] at hq; subst hq
    refine x_bipush B 21 (v := (-11)) dX2_drop_19 (by decide) rfl ?_
    exact x_iret B rfl ⟨rfl, _, hR, rfl⟩ dX2_drop_21 ⟨by first | omega | decide, by first | omega | decide⟩
  · refine x_aload0 B 11 dX2_drop_10 rfl (by first | rfl | exact xisR_rf _) ?_
    refine g_X2_38_X2 B 14 (by repeat (first | with_reducible exact xr_h | refine xr_t ?_)) dX2_drop_11 rfl ?_
    refine x_iload1 B 15 dX2_drop_14 rfl ?_
    refine x_ialdv B 16 (by repeat (first | with_reducible exact xr_h | refine xr_t ?_)) (j := r) (by first | (simp only [xlit, nI_add, pk_mul]; done) | rfl | (simp only [xlit, nI_add, pk_mul]; congr 1; omega)) ⟨by first | omega | decide, by first | decide | omega⟩ q4 dX2_drop_15 rfl ?_
    refine x_if_ge_t B 22 dX2_drop_16 (by decide) (nI_pos' (by omega)) ?_
    simp only [sDrop, e, q1] at hq; subst hq
    refine x_aload0 B 23 dX2_drop_22 rfl (by first | rfl | exact xisR_rf _) ?_
    refine g_X2_38_X2 B 26 (by repeat (first | with_reducible exact xr_h | refine xr_t ?_)) dX2_drop_23 rfl ?_
    refine x_iload1 B 27 dX2_drop_26 rfl ?_
    refine x_ialdv B 28 (by repeat (first | with_reducible exact xr_h | refine xr_t ?_)) (j := r) (by first | (simp only [xlit, nI_add, pk_mul]; done) | rfl | (simp only [xlit, nI_add, pk_mul]; congr 1; omega)) ⟨by first | omega | decide, by first | decide | omega⟩ q4 dX2_drop_27 rfl ?_
    refine x_istore2 B 29 dX2_drop_28 rfl ?_
    refine x_aload0 B 30 dX2_drop_29 rfl (by first | rfl | exact xisR_rf _) ?_
    refine g_X2_38_X2 B 33 (by repeat (first | with_reducible exact xr_h | refine xr_t ?_)) dX2_drop_30 rfl ?_
    refine x_iload1 B 34 dX2_drop_33 rfl ?_
    refine x_iconst B 35 (v := (-1)) dX2_drop_34 (by decide) rfl ?_
    refine x_iast B 36 (by repeat (first | with_reducible exact xu_h | apply xu_t)) (j := r) (by first | (simp only [xlit, nI_add, pk_mul]; done) | rfl | (simp only [xlit, nI_add, pk_mul]; congr 1; omega)) ⟨by first | omega | decide, by first | decide | omega⟩ dX2_drop_35 rfl ?_
    refine x_iload2 B 37 dX2_drop_36 rfl ?_
    refine x_iret B rfl ⟨rfl, _, fun k hk => ?_, rfl⟩ dX2_drop_37 ⟨by first | omega | decide, by first | omega | decide⟩
    by_cases c : k = r
    · subst c; left; exact ⟨by show fUp R k none k = none; unfold fUp; rw [if_pos rfl], pk_us⟩
    · have e5 : fUp R r none k = R k := by unfold fUp; rw [if_neg c]
      rcases hR k hk with ⟨p1, p2⟩ | ⟨a, b, c', p1, p2, p3, p4, p5, p6⟩
      · left; exact ⟨e5.trans p1, by rw [pk_un c]; exact p2⟩
      · right; exact ⟨a, b, c', e5.trans p1, p2, p3, by rw [pk_un c]; exact p4, p5, p6⟩
theorem m_X2_isSpan (z r : Nat) (hr : r < 3) (hz : z ≤ 12) (h1 : rz r = nI z) (i n : Int32) : XC D yX2_isSpan (ws_ yX2_isSpan cX2_isSpan 4 (Option.some Jvm.ClassFile.FieldType.boolean)) 0 0 (0) (0) [.ref h, .int (nI r), .int i, .int n] [tR D h ad iv, tI D ad 13 3 rz] (fun q cs' => q = some (.int (bI (hSpan z i n).isSome)) ∧ cs' = [tR D h ad iv, tI D ad 13 3 rz]) x0 := by
  refine XC.of (by decide) (by simp [Value.category]) (Nat.le_of_ble_eq_true rfl) fun X B => ?_
  show WX D X [tR D h ad iv, tI D ad 13 3 rz] 0 0 0 [some (.ref h), some (.int (nI r)), some (.int i), some (.int n)] []
  have h00 : (0 : Int32).toInt = 0 := by decide
  have no : ¬ (0 ≤ i.toInt ∧ 0 ≤ n.toInt ∧ i.toInt + n.toInt ≤ z) → bI (hSpan z i n).isSome = 0 := fun c => by unfold hSpan; rw [if_neg c]; rfl
  refine x_iload2 B 1 dX2_isSpan_0 rfl ?_
  refine x_if_lt B 28 4 dX2_isSpan_1 (by decide) rfl (fun c1 => ?_) (fun c1 => ?_)
  · rw [Int32.lt_iff_toInt_lt, h00] at c1
    refine x_iconst B 29 (v := 0) dX2_isSpan_28 (by decide) rfl ?_
    exact x_zret B rfl ⟨by rw [no (by omega)], rfl⟩ dX2_isSpan_29 ⟨by first | omega | decide, by first | omega | decide⟩ (by first | exact Or.inl rfl | exact Or.inr rfl | exact x_in01 _ _ _ | exact x_has01 _ _ | exact bI01 _ | assumption)
  · refine x_iload3 B 5 dX2_isSpan_4 rfl ?_
    refine x_if_lt B 28 8 dX2_isSpan_5 (by decide) rfl (fun c2 => ?_) (fun c2 => ?_)
    · rw [Int32.lt_iff_toInt_lt, h00] at c2
      refine x_iconst B 29 (v := 0) dX2_isSpan_28 (by decide) rfl ?_
      exact x_zret B rfl ⟨by rw [no (by omega)], rfl⟩ dX2_isSpan_29 ⟨by first | omega | decide, by first | omega | decide⟩ (by first | exact Or.inl rfl | exact Or.inr rfl | exact x_in01 _ _ _ | exact x_has01 _ _ | exact bI01 _ | assumption)
    · obtain ⟨a, ha, rfl⟩ := nI_of (x := i) (by simpa using c1)
      obtain ⟨b, hb, rfl⟩ := nI_of (x := n) (by simpa using c2)
      refine x_iload2 B 9 dX2_isSpan_8 rfl ?_
      refine x_i2l B 10 dX2_isSpan_9 rfl ?_
      refine x_iload3 B 11 dX2_isSpan_10 rfl ?_
      refine x_i2l B 12 dX2_isSpan_11 rfl ?_
      refine x_ladd B 13 dX2_isSpan_12 rfl ?_
      refine x_aload0 B 14 dX2_isSpan_13 rfl (by first | rfl | exact xisR_rf _) ?_
      refine g_X2_38_X2 B 17 (by repeat (first | with_reducible exact xr_h | refine xr_t ?_)) dX2_isSpan_14 rfl ?_
      refine x_iload1 B 18 dX2_isSpan_17 rfl ?_
      refine x_ialdv B 19 (by repeat (first | with_reducible exact xr_h | refine xr_t ?_)) (j := r) (by first | (simp only [xlit, nI_add, pk_mul]; done) | rfl | (simp only [xlit, nI_add, pk_mul]; congr 1; omega)) ⟨by first | omega | decide, by first | decide | omega⟩ h1 dX2_isSpan_18 rfl ?_
      have ea := nI_toInt ha
      have eb := nI_toInt hb
      refine x_i2l B 20 dX2_isSpan_19 rfl ?_
      refine x_lcmp B 21 dX2_isSpan_20 rfl ?_
      rw [nI_l ha, nI_l hb, nI_l (n := z) (by omega), lN_add]
      refine x_if_gt B 28 24 dX2_isSpan_21 (by decide) rfl (fun c3 => ?_) (fun c3 => ?_)
      · rw [lg_cmp_gt, pk_lLT (by omega) (by omega)] at c3
        refine x_iconst B 29 (v := 0) dX2_isSpan_28 (by decide) rfl ?_
        exact x_zret B rfl ⟨by rw [no (by omega)], rfl⟩ dX2_isSpan_29 ⟨by first | omega | decide, by first | omega | decide⟩ (by first | exact Or.inl rfl | exact Or.inr rfl | exact x_in01 _ _ _ | exact x_has01 _ _ | exact bI01 _ | assumption)
      · have c4 : ¬ z < a + b := fun q => c3 (by rw [lg_cmp_gt, pk_lLT (by omega) (by omega)]; exact q)
        refine x_iconst B 25 (v := 1) dX2_isSpan_24 (by decide) rfl ?_
        refine x_goto B 29 dX2_isSpan_25 (by decide) ?_
        exact x_zret B rfl ⟨by unfold hSpan; rw [if_pos ⟨by omega, by omega, by omega⟩]; rfl, rfl⟩ dX2_isSpan_29 ⟨by first | omega | decide, by first | omega | decide⟩ (by first | exact Or.inl rfl | exact Or.inr rfl | exact x_in01 _ _ _ | exact x_has01 _ _ | exact bI01 _ | assumption)
theorem m_X2_splice (hR : TRl rz rs rp R) (f i t j n : Int32) (q : Int32 × HR) (hq : sSplice R f i t j n = q) : XC D yX2_splice (ws_ yX2_splice cX2_splice 7 (Option.some Jvm.ClassFile.FieldType.int)) 2 80 (0) (0) [.ref h, .int f, .int i, .int t, .int j, .int n] [tR D h ad iv, tI D ad 13 3 rz, tI D ad 14 3 rs, tI D ad 15 36 rp, tI D ad 41 12 mv] (fun r cs' => r = some (.int q.1) ∧ ∃ rp' mv', TRl rz rs rp' q.2 ∧ cs' = [tR D h ad iv, tI D ad 13 3 rz, tI D ad 14 3 rs, tI D ad 15 36 rp', tI D ad 41 12 mv']) x0 := by
  refine XC.of (by decide) (by simp [Value.category]) (Nat.le_of_ble_eq_true rfl) fun X B => ?_
  show WX D X [tR D h ad iv, tI D ad 13 3 rz, tI D ad 14 3 rs, tI D ad 15 36 rp, tI D ad 41 12 mv] 0 0 0 [some (.ref h), some (.int f), some (.int i), some (.int t), some (.int j), some (.int n), none] []
  refine x_iload1 B 1 dX2_splice_0 rfl ?_
  refine x_callS B 4 (m_isReel f) [] rfl q2193 q2194 q92 q2195 hd_X2_isReel rfl ⟨by first | decide | omega, by first | decide | omega⟩ ⟨by first | decide | omega, by first | decide | omega⟩ rfl (Nat.le_of_ble_eq_true rfl) dX2_splice_1 rfl (fun _ _ _ h => h.elim) ?_
  rintro _ _ ⟨rfl, rfl⟩
  try simp only [xst, xput, xpre, List.set_cons_zero, List.set_cons_succ]
  rcases toR_c f 0 3 (by omega) with ⟨e, e'⟩ | ⟨f, -, hf, rfl, e, e'⟩
  · rw [e']
    refine x_if_eq_t B 14 dX2_splice_4 (by decide) rfl ?_
    simp only [sSplice, e] at hq; subst hq
    refine x_bipush B 16 (v := (-2)) dX2_splice_14 (by decide) rfl ?_
    exact x_iret B rfl ⟨rfl, _, _, hR, rfl⟩ dX2_splice_16 ⟨by first | omega | decide, by first | omega | decide⟩
  rw [e']
  refine x_if_eq_f (tp := 14) B 7 dX2_splice_4 (by decide) rfl (by decide) ?_
  refine x_iload3 B 8 dX2_splice_7 rfl ?_
  refine x_callS B 11 (m_isReel t) [] rfl q2193 q2194 q92 q2195 hd_X2_isReel rfl ⟨by first | decide | omega, by first | decide | omega⟩ ⟨by first | decide | omega, by first | decide | omega⟩ rfl (Nat.le_of_ble_eq_true rfl) dX2_splice_8 rfl (fun _ _ _ h => h.elim) ?_
  rintro _ _ ⟨rfl, rfl⟩
  try simp only [xst, xput, xpre, List.set_cons_zero, List.set_cons_succ]
  rcases toR_c t 0 3 (by omega) with ⟨e2, e2'⟩ | ⟨t, -, ht, rfl, e2, e2'⟩
  · rw [e2']
    refine x_if_ne_f (tp := 17) B 14 dX2_splice_11 (by decide) rfl rfl ?_
    simp only [sSplice, e, e2] at hq; subst hq
    refine x_bipush B 16 (v := (-2)) dX2_splice_14 (by decide) rfl ?_
    exact x_iret B rfl ⟨rfl, _, _, hR, rfl⟩ dX2_splice_16 ⟨by first | omega | decide, by first | omega | decide⟩
  rw [e2']
  refine x_if_ne_t B 17 dX2_splice_11 (by decide) (by decide) ?_
  simp only [sSplice, e, e2] at hq
  rcases hR f hf with ⟨q1, q2⟩ | ⟨s1, z1, f1, q1, q2, q3, q4, q5, q6⟩
  · refine x_aload0 B 18 dX2_splice_17 rfl (by first | rfl | exact xisR_rf _) ?_
    refine g_X2_38_X2 B 21 (by repeat (first | with_reducible exact xr_h | refine xr_t ?_)) dX2_splice_18 rfl ?_
    refine x_iload1 B 22 dX2_splice_21 rfl ?_
    refine x_ialdv B 23 (by repeat (first | with_reducible exact xr_h | refine xr_t ?_)) (j := f) (by first | (simp only [xlit, nI_add, pk_mul]; done) | rfl | (simp only [xlit, nI_add, pk_mul]; congr 1; omega)) ⟨by first | omega | decide, by first | decide | omega⟩ q2 dX2_splice_22 rfl ?_
    refine x_if_lt_t B 35 dX2_splice_23 (by decide) (by decide) ?_
    simp only [q1] at hq; subst hq
    refine x_bipush B 37 (v := (-11)) dX2_splice_35 (by decide) rfl ?_
    exact x_iret B rfl ⟨rfl, _, _, hR, rfl⟩ dX2_splice_37 ⟨by first | omega | decide, by first | omega | decide⟩
  refine x_aload0 B 18 dX2_splice_17 rfl (by first | rfl | exact xisR_rf _) ?_
  refine g_X2_38_X2 B 21 (by repeat (first | with_reducible exact xr_h | refine xr_t ?_)) dX2_splice_18 rfl ?_
  refine x_iload1 B 22 dX2_splice_21 rfl ?_
  refine x_ialdv B 23 (by repeat (first | with_reducible exact xr_h | refine xr_t ?_)) (j := f) (by first | (simp only [xlit, nI_add, pk_mul]; done) | rfl | (simp only [xlit, nI_add, pk_mul]; congr 1; omega)) ⟨by first | omega | decide, by first | decide | omega⟩ q4 dX2_splice_22 rfl ?_
  refine x_if_lt_f (tp := 35) B 26 dX2_splice_23 (by decide) rfl (Int32.not_lt.mpr (nI_pos' (by omega))) ?_
  simp only [q1] at hq
  rcases hR t ht with ⟨p1, p2⟩ | ⟨s2, z2, f2, p1, p2, p3, p4, p5, p6⟩
  · refine x_aload0 B 27 dX2_splice_26 rfl (by first | rfl | exact xisR_rf _) ?_
    refine g_X2_38_X2 B 30 (by repeat (first | with_reducible exact xr_h | refine xr_t ?_)) dX2_splice_27 rfl ?_
    refine x_iload3 B 31 dX2_splice_30 rfl ?_
    refine x_ialdv B 32 (by repeat (first | with_reducible exact xr_h | refine xr_t ?_)) (j := t) (by first | (simp only [xlit, nI_add, pk_mul]; done) | rfl | (simp only [xlit, nI_add, pk_mul]; congr 1; omega)) ⟨by first | omega | decide, by first | decide | omega⟩ p2 dX2_splice_31 rfl ?_
    refine x_if_ge_f (tp := 38) B 35 dX2_splice_32 (by decide) rfl (by decide) ?_
    simp only [p1] at hq; subst hq
    refine x_bipush B 37 (v := (-11)) dX2_splice_35 (by decide) rfl ?_
    exact x_iret B rfl ⟨rfl, _, _, hR, rfl⟩ dX2_splice_37 ⟨by first | omega | decide, by first | omega | decide⟩
  refine x_aload0 B 27 dX2_splice_26 rfl (by first | rfl | exact xisR_rf _) ?_
  refine g_X2_38_X2 B 30 (by repeat (first | with_reducible exact xr_h | refine xr_t ?_)) dX2_splice_27 rfl ?_
  refine x_iload3 B 31 dX2_splice_30 rfl ?_
  refine x_ialdv B 32 (by repeat (first | with_reducible exact xr_h | refine xr_t ?_)) (j := t) (by first | (simp only [xlit, nI_add, pk_mul]; done) | rfl | (simp only [xlit, nI_add, pk_mul]; congr 1; omega)) ⟨by first | omega | decide, by first | decide | omega⟩ p4 dX2_splice_31 rfl ?_
  refine x_if_ge_t B 38 dX2_splice_32 (by decide) (nI_pos' (by omega)) ?_
  simp only [p1] at hq
  refine x_aload0 B 39 dX2_splice_38 rfl (by first | rfl | exact xisR_rf _) ?_
  refine g_X2_41_X2 B 42 (by repeat (first | with_reducible exact xr_h | refine xr_t ?_)) dX2_splice_39 rfl ?_
  refine x_iload1 B 43 dX2_splice_42 rfl ?_
  refine x_ialdv B 44 (by repeat (first | with_reducible exact xr_h | refine xr_t ?_)) (j := f) (by first | (simp only [xlit, nI_add, pk_mul]; done) | rfl | (simp only [xlit, nI_add, pk_mul]; congr 1; omega)) ⟨by first | omega | decide, by first | decide | omega⟩ q5 dX2_splice_43 rfl ?_
  refine x_aload0 B 45 dX2_splice_44 rfl (by first | rfl | exact xisR_rf _) ?_
  refine g_X2_41_X2 B 48 (by repeat (first | with_reducible exact xr_h | refine xr_t ?_)) dX2_splice_45 rfl ?_
  refine x_iload3 B 49 dX2_splice_48 rfl ?_
  refine x_ialdv B 50 (by repeat (first | with_reducible exact xr_h | refine xr_t ?_)) (j := t) (by first | (simp only [xlit, nI_add, pk_mul]; done) | rfl | (simp only [xlit, nI_add, pk_mul]; congr 1; omega)) ⟨by first | omega | decide, by first | decide | omega⟩ p5 dX2_splice_49 rfl ?_
  by_cases c : s1 = s2
  · subst c
    simp only [ne_eq, not_true_eq_false, if_false] at hq
    refine x_icmp_eq_t B 56 dX2_splice_50 (by decide) rfl ?_
    refine x_aload0 B 57 dX2_splice_56 rfl (by first | rfl | exact xisR_rf _) ?_
    refine x_iload1 B 58 dX2_splice_57 rfl ?_
    refine x_iload2 B 59 dX2_splice_58 rfl ?_
    refine x_iload5 B 61 dX2_splice_59 rfl ?_
    refine x_callV B 64 (m_X2_isSpan z1 f hf q3 q4 i n) [0, 1] rfl ⟨_, _, _, (by repeat (first | with_reducible exact xr_h | refine xr_t ?_)), rfl, rfl⟩ q2216 q2218 qs83 q92 q2219 hd_X2_isSpan (by decide) ⟨by first | decide | omega, by first | decide | omega⟩ ⟨by first | decide | omega, by first | decide | omega⟩ rfl (Nat.le_of_ble_eq_true rfl) dX2_splice_61 rfl (fun _ _ _ h => h.elim) ?_
    rintro _ _ ⟨rfl, rfl⟩
    try simp only [xst, xput, xpre, List.set_cons_zero, List.set_cons_succ]
    rcases hSpan_c z1 i n q3 with ⟨g1, g2, g3⟩ | ⟨a, b, g1, rfl, rfl, g4, g5⟩
    · rw [g3]
      refine x_if_eq_t B 79 dX2_splice_64 (by decide) rfl ?_
      simp only [g1] at hq; subst hq
      refine x_bipush B 81 (v := (-14)) dX2_splice_79 (by decide) rfl ?_
      exact x_iret B rfl ⟨rfl, _, _, hR, rfl⟩ dX2_splice_81 ⟨by first | omega | decide, by first | omega | decide⟩
    rw [g5]
    refine x_if_eq_f (tp := 79) B 67 dX2_splice_64 (by decide) rfl (by decide) ?_
    simp only [g4] at hq
    refine x_aload0 B 68 dX2_splice_67 rfl (by first | rfl | exact xisR_rf _) ?_
    refine x_iload3 B 69 dX2_splice_68 rfl ?_
    refine x_iload4 B 71 dX2_splice_69 rfl ?_
    refine x_iload5 B 73 dX2_splice_71 rfl ?_
    refine x_callV B 76 (m_X2_isSpan z2 t ht p3 p4 j (nI b)) [0, 1] rfl ⟨_, _, _, (by repeat (first | with_reducible exact xr_h | refine xr_t ?_)), rfl, rfl⟩ q2216 q2218 qs83 q92 q2219 hd_X2_isSpan (by decide) ⟨by first | decide | omega, by first | decide | omega⟩ ⟨by first | decide | omega, by first | decide | omega⟩ rfl (Nat.le_of_ble_eq_true rfl) dX2_splice_73 rfl (fun _ _ _ h => h.elim) ?_
    rintro _ _ ⟨rfl, rfl⟩
    try simp only [xst, xput, xpre, List.set_cons_zero, List.set_cons_succ]
    rcases hSpan_c z2 j (nI b) p3 with ⟨k1, k2, k3⟩ | ⟨a2, b2, k1, rfl, k0, k4, k5⟩
    · rw [k3]
      refine x_if_ne_f (tp := 82) B 79 dX2_splice_76 (by decide) rfl rfl ?_
      simp only [k1] at hq; subst hq
      refine x_bipush B 81 (v := (-14)) dX2_splice_79 (by decide) rfl ?_
      exact x_iret B rfl ⟨rfl, _, _, hR, rfl⟩ dX2_splice_81 ⟨by first | omega | decide, by first | omega | decide⟩
    rw [k5]
    refine x_if_ne_t B 82 dX2_splice_76 (by decide) (by decide) ?_
    simp only [k4] at hq
    have hbb : b = b2 := by
      have h1 := nI_toInt (n := b) (by omega)
      have h2 := nI_toInt (n := b2) (by omega)
      rw [k0, h2] at h1; omega
    subst hbb
    subst hq
    have second : ∀ (m k : Nat), k + m = b → ∀ rp' mv', (∀ x, x < b → mv' x = f1 (a + x)) → (∀ x, x < z2 → rp' (12 * t + x) = if a2 ≤ x ∧ x < a2 + k then f1 (a + (x - a2)) else f2 x) → (∀ x, (x < 12 * t ∨ 12 * t + 12 ≤ x) → rp' x = rp x) → WX D X [tR D h ad iv, tI D ad 13 3 rz, tI D ad 14 3 rs, tI D ad 15 36 rp', tI D ad 41 12 mv'] 0 0 122 [some (.ref h), some (.int (nI f)), some (.int (nI a)), some (.int (nI t)), some (.int (nI a2)), some (.int (nI b)), some (.int (nI k))] [] := by
      intro m
      induction m with
      | zero =>
        intro k hk rp' mv' h1 h2 h3
        obtain rfl : k = b := by omega
        refine x_iload6 B 124 dX2_splice_122 rfl ?_
        refine x_iload5 B 126 dX2_splice_124 rfl ?_
        refine x_icmp_ge_t B 157 dX2_splice_126 (by decide) (by (try simp only [xlit]); first | (rw [nI_leI (by omega) (by omega)]; omega) | (rw [nI_ltI (by omega) (by omega)]; omega) | (rw [nI_eq (by omega) (by omega)]; omega)) ?_
        refine x_iload5 B 159 dX2_splice_157 rfl ?_
        exact x_iret B rfl ⟨rfl, _, _, hR.set ht p4 p5 h2 p2 p3 (fun _ _ => rfl) (fun _ _ => rfl) h3, rfl⟩ dX2_splice_159 ⟨by first | omega | decide, by first | omega | decide⟩
      | succ m ih =>
        intro k hk rp' mv' h1 h2 h3
        refine x_iload6 B 124 dX2_splice_122 rfl ?_
        refine x_iload5 B 126 dX2_splice_124 rfl ?_
        refine x_icmp_ge_f (tp := 157) B 129 dX2_splice_126 (by decide) rfl (by (try simp only [xlit]); first | (rw [nI_leI (by omega) (by omega)]; omega) | (rw [nI_ltI (by omega) (by omega)]; omega) | (rw [nI_eq (by omega) (by omega)]; omega)) ?_
        refine x_aload0 B 130 dX2_splice_129 rfl (by first | rfl | exact xisR_rf _) ?_
        refine g_X2_44_X2 B 133 (by repeat (first | with_reducible exact xr_h | refine xr_t ?_)) dX2_splice_130 rfl ?_
        refine x_bipush B 135 (v := 12) dX2_splice_133 (by decide) rfl ?_
        refine x_iload3 B 136 dX2_splice_135 rfl ?_
        refine x_imul B 137 dX2_splice_136 rfl ?_
        refine x_iload4 B 139 dX2_splice_137 rfl ?_
        refine x_iadd B 140 dX2_splice_139 rfl ?_
        refine x_iload6 B 142 dX2_splice_140 rfl ?_
        refine x_iadd B 143 dX2_splice_142 rfl ?_
        refine x_aload0 B 144 dX2_splice_143 rfl (by first | rfl | exact xisR_rf _) ?_
        refine g_X2_104_X2 B 147 (by repeat (first | with_reducible exact xr_h | refine xr_t ?_)) dX2_splice_144 rfl ?_
        refine x_iload6 B 149 dX2_splice_147 rfl ?_
        refine x_ialdv B 150 (by repeat (first | with_reducible exact xr_h | refine xr_t ?_)) (j := k) (by first | (simp only [xlit, nI_add, pk_mul]; done) | rfl | (simp only [xlit, nI_add, pk_mul]; congr 1; omega)) ⟨by first | omega | decide, by first | decide | omega⟩ (h1 k (by omega)) dX2_splice_149 rfl ?_
        refine x_iast B 151 (by repeat (first | with_reducible exact xu_h | apply xu_t)) (j := 12 * t + a2 + k) (by first | (simp only [xlit, nI_add, pk_mul]; done) | rfl | (simp only [xlit, nI_add, pk_mul]; congr 1; omega)) ⟨by first | omega | decide, by first | decide | omega⟩ dX2_splice_150 rfl ?_
        refine x_iinc6 B 154 dX2_splice_151 rfl (by first | exact xinc _ | rfl) ?_
        refine x_goto B 122 dX2_splice_154 (by decide) ?_
        refine ih (k + 1) (by omega) _ _ h1 (fun x hx => ?_) (fun x hx => by rw [pk_un (by omega)]; exact h3 x hx)
        by_cases c : x = a2 + k
        · subst c
          rw [show 12 * t + (a2 + k) = 12 * t + a2 + k by omega, pk_us, if_pos ⟨by omega, by omega⟩]
          exact congrArg f1 (by omega)
        · rw [pk_un (by omega), h2 x hx]
          by_cases c2 : a2 ≤ x ∧ x < a2 + k
          · rw [if_pos c2, if_pos ⟨c2.1, by omega⟩]
          · rw [if_neg c2, if_neg (by omega)]
    have first : ∀ (m k : Nat), k + m = b → ∀ mv', (∀ x, x < k → mv' x = f1 (a + x)) → WX D X [tR D h ad iv, tI D ad 13 3 rz, tI D ad 14 3 rs, tI D ad 15 36 rp, tI D ad 41 12 mv'] 0 0 85 [some (.ref h), some (.int (nI f)), some (.int (nI a)), some (.int (nI t)), some (.int (nI a2)), some (.int (nI b)), some (.int (nI k))] [] := by
      intro m
      induction m with
      | zero =>
        intro k hk mv' h1
        obtain rfl : k = b := by omega
        refine x_iload6 B 87 dX2_splice_85 rfl ?_
        refine x_iload5 B 89 dX2_splice_87 rfl ?_
        refine x_icmp_ge_t B 119 dX2_splice_89 (by decide) (by (try simp only [xlit]); first | (rw [nI_leI (by omega) (by omega)]; omega) | (rw [nI_ltI (by omega) (by omega)]; omega) | (rw [nI_eq (by omega) (by omega)]; omega)) ?_
        refine x_iconst B 120 (v := 0) dX2_splice_119 (by decide) rfl ?_
        refine x_istore6 B 122 dX2_splice_120 rfl ?_
        exact second k 0 (by omega) rp mv' h1 (fun x hx => by rw [if_neg (by omega)]; exact p6 x hx) (fun _ _ => rfl)
      | succ m ih =>
        intro k hk mv' h1
        refine x_iload6 B 87 dX2_splice_85 rfl ?_
        refine x_iload5 B 89 dX2_splice_87 rfl ?_
        refine x_icmp_ge_f (tp := 119) B 92 dX2_splice_89 (by decide) rfl (by (try simp only [xlit]); first | (rw [nI_leI (by omega) (by omega)]; omega) | (rw [nI_ltI (by omega) (by omega)]; omega) | (rw [nI_eq (by omega) (by omega)]; omega)) ?_
        refine x_aload0 B 93 dX2_splice_92 rfl (by first | rfl | exact xisR_rf _) ?_
        refine g_X2_104_X2 B 96 (by repeat (first | with_reducible exact xr_h | refine xr_t ?_)) dX2_splice_93 rfl ?_
        refine x_iload6 B 98 dX2_splice_96 rfl ?_
        refine x_aload0 B 99 dX2_splice_98 rfl (by first | rfl | exact xisR_rf _) ?_
        refine g_X2_44_X2 B 102 (by repeat (first | with_reducible exact xr_h | refine xr_t ?_)) dX2_splice_99 rfl ?_
        refine x_bipush B 104 (v := 12) dX2_splice_102 (by decide) rfl ?_
        refine x_iload1 B 105 dX2_splice_104 rfl ?_
        refine x_imul B 106 dX2_splice_105 rfl ?_
        refine x_iload2 B 107 dX2_splice_106 rfl ?_
        refine x_iadd B 108 dX2_splice_107 rfl ?_
        refine x_iload6 B 110 dX2_splice_108 rfl ?_
        refine x_iadd B 111 dX2_splice_110 rfl ?_
        refine x_ialdv B 112 (by repeat (first | with_reducible exact xr_h | refine xr_t ?_)) (j := 12 * f + a + k) (by first | (simp only [xlit, nI_add, pk_mul]; done) | rfl | (simp only [xlit, nI_add, pk_mul]; congr 1; omega)) ⟨by first | omega | decide, by first | decide | omega⟩ ((congrArg rp (by omega)).trans (q6 (a + k) (by omega))) dX2_splice_111 rfl ?_
        refine x_iast B 113 (by repeat (first | with_reducible exact xu_h | apply xu_t)) (j := k) (by first | (simp only [xlit, nI_add, pk_mul]; done) | rfl | (simp only [xlit, nI_add, pk_mul]; congr 1; omega)) ⟨by first | omega | decide, by first | decide | omega⟩ dX2_splice_112 rfl ?_
        refine x_iinc6 B 116 dX2_splice_113 rfl (by first | exact xinc _ | rfl) ?_
        refine x_goto B 85 dX2_splice_116 (by decide) ?_
        refine ih (k + 1) (by omega) _ (fun x hx => ?_)
        by_cases c : x = k
        · subst c; rw [pk_us]
        · rw [pk_un c]; exact h1 x (by omega)
    refine x_iconst B 83 (v := 0) dX2_splice_82 (by decide) rfl ?_
    refine x_istore6 B 85 dX2_splice_83 rfl ?_
    exact first b 0 (by omega) mv (fun x hx => by omega)
  · refine x_icmp_eq_f (tp := 56) B 53 dX2_splice_50 (by decide) rfl (by (try simp only [xlit]); first | (rw [nI_leI (by omega) (by omega)]; omega) | (rw [nI_ltI (by omega) (by omega)]; omega) | (rw [nI_eq (by omega) (by omega)]; omega)) ?_
    rw [if_pos c] at hq; subst hq
    refine x_bipush B 55 (v := (-13)) dX2_splice_53 (by decide) rfl ?_
    exact x_iret B rfl ⟨rfl, _, _, hR, rfl⟩ dX2_splice_55 ⟨by first | omega | decide, by first | omega | decide⟩
end T11
