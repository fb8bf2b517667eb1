/-! the twin, 23: what is of the tongue -/
section T23
variable {D : xG} {h : Nat} {ad : Nat → Nat} {iv row tx lt en bg op zn zt sw sm : Nat → Int32} {T G : List Nat} {s : Nat → Bool} {nb nm : Nat} {kd : Nat → Nat} {N : HS} {U : List HS}
theorem m_X2_goOnAll (hG : TGo lt en bg iv G) (hz : ZRep zn s) : XC D yX2_goOnAll (ws_ yX2_goOnAll cX2_goOnAll 3 (Option.none : Option Jvm.ClassFile.FieldType)) 2 80 (0) (0) [.ref h] [tR D h ad iv, tI D ad 10 202 lt, tI D ad 11 202 en, tI D ad 12 202 bg, tZ D ad 34 203 zn] (fun r cs' => r = none ∧ ∃ zn', ZRep zn' (gT G s) ∧ cs' = [tR D h ad iv, tI D ad 10 202 lt, tI D ad 11 202 en, tI D ad 12 202 bg, tZ D ad 34 203 zn']) x0 := by
  refine XC.of (by decide) (by simp [Value.category]) (Nat.le_of_ble_eq_true rfl) fun X B => ?_
  show WX D X [tR D h ad iv, tI D ad 10 202 lt, tI D ad 11 202 en, tI D ad 12 202 bg, tZ D ad 34 203 zn] 0 0 0 [some (.ref h), none, none] []
  have h9 := hG.1
  have hlen := hG.2.1.1
  have pass : ∀ (f : Nat) (s0 : Nat → Bool), 203 - cnt s0 203 < f → (∀ k, s k = true → s0 k = true) → (∀ u : Nat → Bool, (∀ k, s k = true → u k = true) → gCl G u → ∀ k, s0 k = true → u k = true) → ∀ (zn1 : Nat → Int32) (a2 : Option Value), ZRep zn1 s0 → WX D X [tR D h ad iv, tI D ad 10 202 lt, tI D ad 11 202 en, tI D ad 12 202 bg, tZ D ad 34 203 zn1] 0 0 2 [some (.ref h), some (.int 1), a2] [] := by
    intro f
    induction f with
    | zero => intro s0 hf; omega
    | succ f ihf =>
      intro s0 hf hs0 hu0 zn1 a2 hz1
      have loop : ∀ (m k : Nat), k + m = G.length → ∀ (b : Bool) (s1 : Nat → Bool) (zn2 : Nat → Int32), ZRep zn2 s1 → (∀ j, s0 j = true → s1 j = true) → (b = false → s1 = s0 ∧ ∀ i j, i < k → s0 i = true → gEps G i j → s0 j = true) → (b = true → ∃ j, j < 203 ∧ s0 j = false ∧ s1 j = true) → (∀ u : Nat → Bool, (∀ k, s k = true → u k = true) → gCl G u → ∀ k, s1 k = true → u k = true) → WX D X [tR D h ad iv, tI D ad 10 202 lt, tI D ad 11 202 en, tI D ad 12 202 bg, tZ D ad 34 203 zn2] 0 0 10 [some (.ref h), some (.int (bI b)), some (.int (nI k))] [] := by
        intro m
        induction m with
        | zero =>
          intro k hk b s1 zn2 z2 g1 g2 g3 g4
          obtain rfl : k = G.length := by omega
          refine x_iload2 B 11 dX2_goOnAll_10 rfl ?_
          refine x_aload0 B 12 dX2_goOnAll_11 rfl (by first | rfl | exact xisR_rf _) ?_
          refine g_X2_217_X2 B 15 (by repeat (first | with_reducible exact xr_h | refine xr_t ?_)) dX2_goOnAll_12 rfl ?_
          rw [h9]
          refine x_icmp_ge_t B 51 dX2_goOnAll_15 (by decide) (by (try simp only [xlit]); first | (rw [nI_leI (by omega) (by omega)]; omega) | (rw [nI_ltI (by omega) (by omega)]; omega) | (rw [nI_eq (by omega) (by omega)]; omega)) ?_
          refine x_goto B 2 dX2_goOnAll_51 (by decide) ?_
          cases eb : b with
          | false =>
            obtain ⟨e1, e2⟩ := g2 eb
            subst e1
            refine x_iload1 B 3 dX2_goOnAll_2 rfl ?_
            refine x_if_eq_t B 54 dX2_goOnAll_3 (by decide) rfl ?_
            have hall : gAll G s s1 := ⟨hs0, fun k j hk hs hj => e2 k j hk hs hj, hu0⟩
            exact x_vret B rfl ⟨rfl, zn2, by rw [← gT_eq hall]; exact z2, rfl⟩ dX2_goOnAll_54 ⟨by first | omega | decide, by first | omega | decide⟩
          | true =>
            obtain ⟨j, j1, j2, j3⟩ := g3 eb
            have := cnt_lt g1 j2 j3 203 j1
            have := cnt_le s1 203
            exact ihf s1 (by omega) (fun k hk => g1 k (hs0 k hk)) g4 zn2 _ z2
        | succ m ih =>
          intro k hk b s1 zn2 z2 g1 g2 g3 g4
          have hkl : k < G.length := by omega
          have next : ∀ (b3 : Bool) (s3 : Nat → Bool) (zn3 : Nat → Int32), ZRep zn3 s3 → (∀ j, s0 j = true → s3 j = true) → (b3 = false → s3 = s0 ∧ ∀ i j, i < k + 1 → s0 i = true → gEps G i j → s0 j = true) → (b3 = true → ∃ j, j < 203 ∧ s0 j = false ∧ s3 j = true) → (∀ u : Nat → Bool, (∀ k, s k = true → u k = true) → gCl G u → ∀ k, s3 k = true → u k = true) → WX D X [tR D h ad iv, tI D ad 10 202 lt, tI D ad 11 202 en, tI D ad 12 202 bg, tZ D ad 34 203 zn3] 0 0 44 [some (.ref h), some (.int (bI b)), some (.int (nI k))] [.int (bI b3)] := by
            intro b3 s3 zn3 z3 q1 q2 q3 q4
            refine x_istore1 B 45 dX2_goOnAll_44 rfl ?_
            refine x_iinc2 B 48 dX2_goOnAll_45 rfl (by first | exact xinc _ | rfl) ?_
            refine x_goto B 10 dX2_goOnAll_48 (by decide) ?_
            exact ih (k + 1) (by omega) b3 s3 zn3 z3 q1 q2 q3 q4
          refine x_iload2 B 11 dX2_goOnAll_10 rfl ?_
          refine x_aload0 B 12 dX2_goOnAll_11 rfl (by first | rfl | exact xisR_rf _) ?_
          refine g_X2_217_X2 B 15 (by repeat (first | with_reducible exact xr_h | refine xr_t ?_)) dX2_goOnAll_12 rfl ?_
          rw [h9]
          refine x_icmp_ge_f (tp := 51) B 18 dX2_goOnAll_15 (by decide) rfl (by (try simp only [xlit]); first | (rw [nI_leI (by omega) (by omega)]; omega) | (rw [nI_ltI (by omega) (by omega)]; omega) | (rw [nI_eq (by omega) (by omega)]; omega)) ?_
          refine x_aload0 B 19 dX2_goOnAll_18 rfl (by first | rfl | exact xisR_rf _) ?_
          refine g_X2_83_X2 B 22 (by repeat (first | with_reducible exact xr_h | refine xr_t ?_)) dX2_goOnAll_19 rfl ?_
          refine x_iload2 B 23 dX2_goOnAll_22 rfl ?_
          refine x_zaldv B 24 (by repeat (first | with_reducible exact xr_h | refine xr_t ?_)) (j := k) (by first | (simp only [xlit, nI_add, pk_mul]; done) | rfl | (simp only [xlit, nI_add, pk_mul]; congr 1; omega)) ⟨by first | omega | decide, by first | decide | omega⟩ (z2 k (by omega)) dX2_goOnAll_23 rfl ?_
          cases ek : s1 k with
          | false =>
            have e5 : s0 k = false := by
              cases c : s0 k with
              | false => rfl
              | true => rw [g1 k c] at ek; cases ek
            have nx := next b s1 zn2 z2 g1 (fun z => ⟨(g2 z).1, fun i j hi hs hj => by
              rcases Nat.eq_or_lt_of_le (Nat.le_of_lt_succ hi) with c | c
              · subst c; rw [e5] at hs; cases hs
              · exact (g2 z).2 i j c hs hj⟩) g3 g4
            refine x_if_eq_t B 35 dX2_goOnAll_24 (by decide) rfl ?_
            cases eb : b with
            | false =>
              refine x_iload1 B 36 dX2_goOnAll_35 rfl ?_
              refine x_if_eq_t B 43 dX2_goOnAll_36 (by decide) rfl ?_
              refine x_iconst B 44 (v := 0) dX2_goOnAll_43 (by decide) rfl ?_
              rw [eb] at nx
              exact nx
            | true =>
              refine x_iload1 B 36 dX2_goOnAll_35 rfl ?_
              refine x_if_eq_f (tp := 43) B 39 dX2_goOnAll_36 (by decide) rfl (by decide) ?_
              refine x_iconst B 40 (v := 1) dX2_goOnAll_39 (by decide) rfl ?_
              refine x_goto B 44 dX2_goOnAll_40 (by decide) ?_
              rw [eb] at nx
              exact nx
          | true =>
            refine x_if_eq_f (tp := 35) B 27 dX2_goOnAll_24 (by decide) rfl (by decide) ?_
            refine x_aload0 B 28 dX2_goOnAll_27 rfl (by first | rfl | exact xisR_rf _) ?_
            refine x_iload2 B 29 dX2_goOnAll_28 rfl ?_
            refine x_callV B 32 (m_X2_goesOn hG z2 k hkl) [0, 1, 2, 3, 4] rfl ⟨_, _, _, (by repeat (first | with_reducible exact xr_h | refine xr_t ?_)), rfl, rfl⟩ q2160 q2162 qs79 q92 q2163 hd_X2_goesOn (by decide) ⟨by first | decide | omega, by first | decide | omega⟩ ⟨by first | decide | omega, by first | decide | omega⟩ rfl (Nat.le_of_ble_eq_true rfl) dX2_goOnAll_29 rfl (fun _ _ _ h => h.elim) ?_
            rintro _ _ ⟨bn, zn3, s3, rfl, z3, go, eps, rfl⟩
            try simp only [xst, xput, xpre, List.set_cons_zero, List.set_cons_succ]
            obtain ⟨o1, o2, o3, o4⟩ := go
            have q4 : ∀ u : Nat → Bool, (∀ k, s k = true → u k = true) → gCl G u → ∀ k, s3 k = true → u k = true := by
              intro u hu hc i hi
              rcases o2 i hi with z | z
              · exact g4 u hu hc i z
              · exact hc k i hkl (g4 u hu hc k ek) z
            have nx := next (bn || b) s3 zn3 z3 (fun j hj => o1 j (g1 j hj)) (fun z => by
              rw [Bool.or_eq_false_iff] at z
              obtain ⟨e1, e2⟩ := g2 z.2
              have e3 : s3 = s1 := funext (o3 z.1)
              refine ⟨e3.trans e1, fun i j hi hs hj => ?_⟩
              rcases Nat.eq_or_lt_of_le (Nat.le_of_lt_succ hi) with c | c
              · subst c; have := eps j hj; rw [e3, e1] at this; exact this
              · exact e2 i j c hs hj) (fun z => by
              rw [Bool.or_eq_true] at z
              rcases z with z | z
              · obtain ⟨j, j1, j2, j3⟩ := o4 z
                refine ⟨j, j1, ?_, j3⟩
                cases c : s0 j with
                | false => rfl
                | true => rw [g1 j c] at j2; cases j2
              · obtain ⟨j, j1, j2, j3⟩ := g3 z
                exact ⟨j, j1, j2, o1 j j3⟩) q4
            cases en1 : bn with
            | true =>
              refine x_if_ne_t B 39 dX2_goOnAll_32 (by decide) (by decide) ?_
              refine x_iconst B 40 (v := 1) dX2_goOnAll_39 (by decide) rfl ?_
              refine x_goto B 44 dX2_goOnAll_40 (by decide) ?_
              rw [en1] at nx
              exact nx
            | false =>
              refine x_if_ne_f (tp := 39) B 35 dX2_goOnAll_32 (by decide) rfl rfl ?_
              cases eb : b with
              | false =>
                refine x_iload1 B 36 dX2_goOnAll_35 rfl ?_
                refine x_if_eq_t B 43 dX2_goOnAll_36 (by decide) rfl ?_
                refine x_iconst B 44 (v := 0) dX2_goOnAll_43 (by decide) rfl ?_
                rw [en1, eb] at nx
                exact nx
              | true =>
                refine x_iload1 B 36 dX2_goOnAll_35 rfl ?_
                refine x_if_eq_f (tp := 43) B 39 dX2_goOnAll_36 (by decide) rfl (by decide) ?_
                refine x_iconst B 40 (v := 1) dX2_goOnAll_39 (by decide) rfl ?_
                refine x_goto B 44 dX2_goOnAll_40 (by decide) ?_
                rw [en1, eb] at nx
                exact nx
      refine x_iload1 B 3 dX2_goOnAll_2 rfl ?_
      refine x_if_eq_f (tp := 54) B 6 dX2_goOnAll_3 (by decide) rfl (by decide) ?_
      refine x_iconst B 7 (v := 0) dX2_goOnAll_6 (by decide) rfl ?_
      refine x_istore1 B 8 dX2_goOnAll_7 rfl ?_
      refine x_iconst B 9 (v := 0) dX2_goOnAll_8 (by decide) rfl ?_
      refine x_istore2 B 10 dX2_goOnAll_9 rfl ?_
      exact loop G.length 0 (by omega) false s0 zn1 hz1 (fun _ h => h) (fun _ => ⟨rfl, fun i j hi => absurd hi (Nat.not_lt_zero _)⟩) (fun z => by cases z) hu0
  refine x_iconst B 1 (v := 1) dX2_goOnAll_0 (by decide) rfl ?_
  refine x_istore1 B 2 dX2_goOnAll_1 rfl ?_
  exact pass 204 s (by omega) (fun _ h => h) (fun u hu _ k hk => hu k hk) zn _ hz
theorem m_X2_hearWord (hG : TGo lt en bg iv G) (hz : ZRep zn s) (w : Nat) (hw : w < 10) : XC D yX2_hearWord (ws_ yX2_hearWord cX2_hearWord 3 (Option.none : Option Jvm.ClassFile.FieldType)) 3 120 (0) (0) [.ref h, .int (nI w)] [tR D h ad iv, tI D ad 10 202 lt, tI D ad 11 202 en, tI D ad 12 202 bg, tZ D ad 34 203 zn, tZ D ad 35 203 zt] (fun r cs' => r = none ∧ ∃ zn' zt', ZRep zn' (gT G (gStep G s w)) ∧ cs' = [tR D h ad iv, tI D ad 10 202 lt, tI D ad 11 202 en, tI D ad 12 202 bg, tZ D ad 34 203 zn', tZ D ad 35 203 zt']) x0 := by
  refine XC.of (by decide) (by simp [Value.category]) (Nat.le_of_ble_eq_true rfl) fun X B => ?_
  show WX D X [tR D h ad iv, tI D ad 10 202 lt, tI D ad 11 202 en, tI D ad 12 202 bg, tZ D ad 34 203 zn, tZ D ad 35 203 zt] 0 0 0 [some (.ref h), some (.int (nI w)), none] []
  have h9 := hG.1
  have hlen := hG.2.1.1
  have hl := hG.2.2.1
  have second : ∀ (m k : Nat), k + m = 203 → ∀ (zn1 zt1 : Nat → Int32), ZRep zt1 (gStep G s w) → (∀ j, j < k → zn1 j = bI (gStep G s w j)) → WX D X [tR D h ad iv, tI D ad 10 202 lt, tI D ad 11 202 en, tI D ad 12 202 bg, tZ D ad 34 203 zn1, tZ D ad 35 203 zt1] 0 0 79 [some (.ref h), some (.int (nI w)), some (.int (nI k))] [] := by
    intro m
    induction m with
    | zero =>
      intro k hk zn1 zt1 z1 h1
      obtain rfl : k = 203 := by omega
      refine x_iload2 B 80 dX2_hearWord_79 rfl ?_
      refine x_sipush B 83 (v := 203) dX2_hearWord_80 (by decide) rfl ?_
      refine x_icmp_ge_t B 104 dX2_hearWord_83 (by decide) (by (try simp only [xlit]); first | (rw [nI_leI (by omega) (by omega)]; omega) | (rw [nI_ltI (by omega) (by omega)]; omega) | (rw [nI_eq (by omega) (by omega)]; omega)) ?_
      refine x_aload0 B 105 dX2_hearWord_104 rfl (by first | rfl | exact xisR_rf _) ?_
      refine x_callV B 108 (m_X2_goOnAll (s := gStep G s w) hG h1) [0, 1, 2, 3, 4] rfl ⟨_, _, _, (by repeat (first | with_reducible exact xr_h | refine xr_t ?_)), rfl, rfl⟩ q2156 q2158 qs78 q92 q2159 hd_X2_goOnAll (by decide) ⟨by first | decide | omega, by first | decide | omega⟩ ⟨by first | decide | omega, by first | decide | omega⟩ rfl (Nat.le_of_ble_eq_true rfl) dX2_hearWord_105 rfl (fun _ _ _ h => h.elim) ?_
      rintro _ _ ⟨rfl, zn2, z2, rfl⟩
      try simp only [xst, xput, xpre, List.set_cons_zero, List.set_cons_succ]
      exact x_vret B rfl ⟨rfl, zn2, zt1, z2, rfl⟩ dX2_hearWord_108 ⟨by first | omega | decide, by first | omega | decide⟩
    | succ m ih =>
      intro k hk zn1 zt1 z1 h1
      refine x_iload2 B 80 dX2_hearWord_79 rfl ?_
      refine x_sipush B 83 (v := 203) dX2_hearWord_80 (by decide) rfl ?_
      refine x_icmp_ge_f (tp := 104) B 86 dX2_hearWord_83 (by decide) rfl (by (try simp only [xlit]); first | (rw [nI_leI (by omega) (by omega)]; omega) | (rw [nI_ltI (by omega) (by omega)]; omega) | (rw [nI_eq (by omega) (by omega)]; omega)) ?_
      refine x_aload0 B 87 dX2_hearWord_86 rfl (by first | rfl | exact xisR_rf _) ?_
      refine g_X2_83_X2 B 90 (by repeat (first | with_reducible exact xr_h | refine xr_t ?_)) dX2_hearWord_87 rfl ?_
      refine x_iload2 B 91 dX2_hearWord_90 rfl ?_
      refine x_aload0 B 92 dX2_hearWord_91 rfl (by first | rfl | exact xisR_rf _) ?_
      refine g_X2_86_X2 B 95 (by repeat (first | with_reducible exact xr_h | refine xr_t ?_)) dX2_hearWord_92 rfl ?_
      refine x_iload2 B 96 dX2_hearWord_95 rfl ?_
      refine x_zaldv B 97 (by repeat (first | with_reducible exact xr_h | refine xr_t ?_)) (j := k) (by first | (simp only [xlit, nI_add, pk_mul]; done) | rfl | (simp only [xlit, nI_add, pk_mul]; congr 1; omega)) ⟨by first | omega | decide, by first | decide | omega⟩ (z1 k (by omega)) dX2_hearWord_96 rfl ?_
      refine x_zast B 98 (by repeat (first | with_reducible exact xu_h | apply xu_t)) (j := k) (by first | (simp only [xlit, nI_add, pk_mul]; done) | rfl | (simp only [xlit, nI_add, pk_mul]; congr 1; omega)) ⟨by first | omega | decide, by first | decide | omega⟩ rfl dX2_hearWord_97 rfl ?_
      refine x_iinc2 B 101 dX2_hearWord_98 rfl (by first | exact xinc _ | rfl) ?_
      refine x_goto B 79 dX2_hearWord_101 (by decide) ?_
      refine ih (k + 1) (by omega) _ zt1 z1 (fun j hj => ?_)
      by_cases q : j = k
      · rw [q, pk_us]; cases gStep G s w k <;> decide
      · rw [pk_un q]; exact h1 j (by omega)
  have first : ∀ (m k : Nat), k + m = 203 → ∀ (zt1 : Nat → Int32), (∀ j, j < k → zt1 j = bI (gStep G s w j)) → WX D X [tR D h ad iv, tI D ad 10 202 lt, tI D ad 11 202 en, tI D ad 12 202 bg, tZ D ad 34 203 zn, tZ D ad 35 203 zt1] 0 0 2 [some (.ref h), some (.int (nI w)), some (.int (nI k))] [] := by
    intro m
    induction m with
    | zero =>
      intro k hk zt1 h1
      obtain rfl : k = 203 := by omega
      refine x_iload2 B 3 dX2_hearWord_2 rfl ?_
      refine x_sipush B 6 (v := 203) dX2_hearWord_3 (by decide) rfl ?_
      refine x_icmp_ge_t B 77 dX2_hearWord_6 (by decide) (by (try simp only [xlit]); first | (rw [nI_leI (by omega) (by omega)]; omega) | (rw [nI_ltI (by omega) (by omega)]; omega) | (rw [nI_eq (by omega) (by omega)]; omega)) ?_
      refine x_iconst B 78 (v := 0) dX2_hearWord_77 (by decide) rfl ?_
      refine x_istore2 B 79 dX2_hearWord_78 rfl ?_
      exact second 203 0 rfl zn zt1 h1 (fun j hj => by omega)
    | succ m ih =>
      intro k hk zt1 h1
      have next : ∀ v : Bool, v = gStep G s w k → WX D X [tR D h ad iv, tI D ad 10 202 lt, tI D ad 11 202 en, tI D ad 12 202 bg, tZ D ad 34 203 zn, tZ D ad 35 203 zt1] 0 0 70 [some (.ref h), some (.int (nI w)), some (.int (nI k))] [.int (bI v), .int (nI k), .ref (ad 35)] := by
        intro v hv
        refine x_zast B 71 (by repeat (first | with_reducible exact xu_h | apply xu_t)) (j := k) (by first | (simp only [xlit, nI_add, pk_mul]; done) | rfl | (simp only [xlit, nI_add, pk_mul]; congr 1; omega)) ⟨by first | omega | decide, by first | decide | omega⟩ rfl dX2_hearWord_70 rfl ?_
        refine x_iinc2 B 74 dX2_hearWord_71 rfl (by first | exact xinc _ | rfl) ?_
        refine x_goto B 2 dX2_hearWord_74 (by decide) ?_
        refine ih (k + 1) (by omega) _ (fun j hj => ?_)
        by_cases q : j = k
        · rw [q, pk_us, hv]; cases gStep G s w k <;> decide
        · rw [pk_un q]; exact h1 j (by omega)
      have no : gStep G s w k = false → WX D X [tR D h ad iv, tI D ad 10 202 lt, tI D ad 11 202 en, tI D ad 12 202 bg, tZ D ad 34 203 zn, tZ D ad 35 203 zt1] 0 0 69 [some (.ref h), some (.int (nI w)), some (.int (nI k))] [.int (nI k), .ref (ad 35)] := by
        intro e
        refine x_iconst B 70 (v := 0) dX2_hearWord_69 (by decide) rfl ?_
        exact next false e.symm
      have yes : gStep G s w k = true → WX D X [tR D h ad iv, tI D ad 10 202 lt, tI D ad 11 202 en, tI D ad 12 202 bg, tZ D ad 34 203 zn, tZ D ad 35 203 zt1] 0 0 65 [some (.ref h), some (.int (nI w)), some (.int (nI k))] [.int (nI k), .ref (ad 35)] := by
        intro e
        refine x_iconst B 66 (v := 1) dX2_hearWord_65 (by decide) rfl ?_
        refine x_goto B 70 dX2_hearWord_66 (by decide) ?_
        exact next true e.symm
      refine x_iload2 B 3 dX2_hearWord_2 rfl ?_
      refine x_sipush B 6 (v := 203) dX2_hearWord_3 (by decide) rfl ?_
      refine x_icmp_ge_f (tp := 77) B 9 dX2_hearWord_6 (by decide) rfl (by (try simp only [xlit]); first | (rw [nI_leI (by omega) (by omega)]; omega) | (rw [nI_ltI (by omega) (by omega)]; omega) | (rw [nI_eq (by omega) (by omega)]; omega)) ?_
      rcases Nat.eq_zero_or_pos k with c0 | c0
      · refine x_aload0 B 10 dX2_hearWord_9 rfl (by first | rfl | exact xisR_rf _) ?_
        refine g_X2_86_X2 B 13 (by repeat (first | with_reducible exact xr_h | refine xr_t ?_)) dX2_hearWord_10 rfl ?_
        refine x_iload2 B 14 dX2_hearWord_13 rfl ?_
        refine x_iload2 B 15 dX2_hearWord_14 rfl ?_
        refine x_if_le_t B 69 dX2_hearWord_15 (by decide) (by rw [c0]; decide) ?_
        exact no (by unfold gStep; rw [decide_eq_false (by omega)]; rfl)
      refine x_aload0 B 10 dX2_hearWord_9 rfl (by first | rfl | exact xisR_rf _) ?_
      refine g_X2_86_X2 B 13 (by repeat (first | with_reducible exact xr_h | refine xr_t ?_)) dX2_hearWord_10 rfl ?_
      refine x_iload2 B 14 dX2_hearWord_13 rfl ?_
      refine x_iload2 B 15 dX2_hearWord_14 rfl ?_
      refine x_if_le_f (tp := 69) B 18 dX2_hearWord_15 (by decide) rfl (by (try simp only [xlit]); rw [nI_leI (by omega) (by omega)]; omega) ?_
      refine x_iload2 B 19 dX2_hearWord_18 rfl ?_
      refine x_aload0 B 20 dX2_hearWord_19 rfl (by first | rfl | exact xisR_rf _) ?_
      refine g_X2_217_X2 B 23 (by repeat (first | with_reducible exact xr_h | refine xr_t ?_)) dX2_hearWord_20 rfl ?_
      rw [h9]
      by_cases c1 : k ≤ G.length
      · have hk1 : k - 1 < G.length := by omega
        have hc2 : G.getD (k - 1) 0 < 256 := hG.2.1.2.1 _ (getD_mem hk1)
        refine x_icmp_gt_f (tp := 69) B 26 dX2_hearWord_23 (by decide) rfl (by (try simp only [xlit]); first | (rw [nI_leI (by omega) (by omega)]; omega) | (rw [nI_ltI (by omega) (by omega)]; omega) | (rw [nI_eq (by omega) (by omega)]; omega)) ?_
        refine x_aload0 B 27 dX2_hearWord_26 rfl (by first | rfl | exact xisR_rf _) ?_
        refine g_X2_83_X2 B 30 (by repeat (first | with_reducible exact xr_h | refine xr_t ?_)) dX2_hearWord_27 rfl ?_
        refine x_iload2 B 31 dX2_hearWord_30 rfl ?_
        refine x_iconst B 32 (v := 1) dX2_hearWord_31 (by decide) rfl ?_
        refine x_isub B 33 dX2_hearWord_32 rfl ?_
        rw [show nI k - 1 = nI (k - 1) from pk_sub (show 1 ≤ k by omega)]
        refine x_zaldv B 34 (by repeat (first | with_reducible exact xr_h | refine xr_t ?_)) (j := k - 1) (by first | (simp only [xlit, nI_add, pk_mul]; done) | rfl | (simp only [xlit, nI_add, pk_mul]; congr 1; omega)) ⟨by first | omega | decide, by first | decide | omega⟩ (hz (k - 1) (by omega)) dX2_hearWord_33 rfl ?_
        have e6 : gStep G s w k = (s (k - 1) && decide (G.getD (k - 1) 0 = 46 ∨ G.getD (k - 1) 0 = 97 + w)) := by unfold gStep; rw [decide_eq_true ⟨c0, c1⟩, Bool.true_and]
        cases ek : s (k - 1) with
        | false =>
          refine x_if_eq_t B 69 dX2_hearWord_34 (by decide) rfl ?_
          exact no (by rw [e6, ek]; rfl)
        | true =>
          rw [ek, Bool.true_and] at e6
          refine x_if_eq_f (tp := 69) B 37 dX2_hearWord_34 (by decide) rfl (by decide) ?_
          refine x_aload0 B 38 dX2_hearWord_37 rfl (by first | rfl | exact xisR_rf _) ?_
          refine g_X2_29_X2 B 41 (by repeat (first | with_reducible exact xr_h | refine xr_t ?_)) dX2_hearWord_38 rfl ?_
          refine x_iload2 B 42 dX2_hearWord_41 rfl ?_
          refine x_iconst B 43 (v := 1) dX2_hearWord_42 (by decide) rfl ?_
          refine x_isub B 44 dX2_hearWord_43 rfl ?_
          rw [show nI k - 1 = nI (k - 1) from pk_sub (show 1 ≤ k by omega)]
          refine x_ialdv B 45 (by repeat (first | with_reducible exact xr_h | refine xr_t ?_)) (j := k - 1) (by first | (simp only [xlit, nI_add, pk_mul]; done) | rfl | (simp only [xlit, nI_add, pk_mul]; congr 1; omega)) ⟨by first | omega | decide, by first | decide | omega⟩ (hl (k - 1) hk1) dX2_hearWord_44 rfl ?_
          by_cases c2 : G.getD (k - 1) 0 = 46
          · refine x_bipush B 47 (v := 46) dX2_hearWord_45 (by decide) rfl ?_
            refine x_icmp_eq_t B 65 dX2_hearWord_47 (by decide) (by (try simp only [xlit]); first | (rw [nI_leI (by omega) (by omega)]; omega) | (rw [nI_ltI (by omega) (by omega)]; omega) | (rw [nI_eq (by omega) (by omega)]; omega)) ?_
            exact yes (e6.trans (decide_eq_true (Or.inl c2)))
          · refine x_bipush B 47 (v := 46) dX2_hearWord_45 (by decide) rfl ?_
            refine x_icmp_eq_f (tp := 65) B 50 dX2_hearWord_47 (by decide) rfl (by (try simp only [xlit]); first | (rw [nI_leI (by omega) (by omega)]; omega) | (rw [nI_ltI (by omega) (by omega)]; omega) | (rw [nI_eq (by omega) (by omega)]; omega)) ?_
            refine x_aload0 B 51 dX2_hearWord_50 rfl (by first | rfl | exact xisR_rf _) ?_
            refine g_X2_29_X2 B 54 (by repeat (first | with_reducible exact xr_h | refine xr_t ?_)) dX2_hearWord_51 rfl ?_
            refine x_iload2 B 55 dX2_hearWord_54 rfl ?_
            refine x_iconst B 56 (v := 1) dX2_hearWord_55 (by decide) rfl ?_
            refine x_isub B 57 dX2_hearWord_56 rfl ?_
            rw [show nI k - 1 = nI (k - 1) from pk_sub (show 1 ≤ k by omega)]
            refine x_ialdv B 58 (by repeat (first | with_reducible exact xr_h | refine xr_t ?_)) (j := k - 1) (by first | (simp only [xlit, nI_add, pk_mul]; done) | rfl | (simp only [xlit, nI_add, pk_mul]; congr 1; omega)) ⟨by first | omega | decide, by first | decide | omega⟩ (hl (k - 1) hk1) dX2_hearWord_57 rfl ?_
            refine x_bipush B 60 (v := 97) dX2_hearWord_58 (by decide) rfl ?_
            refine x_iload1 B 61 dX2_hearWord_60 rfl ?_
            refine x_iadd B 62 dX2_hearWord_61 rfl ?_
            rw [show (97 : Int32) + nI w = nI (97 + w) from nI_add 97 w]
            by_cases c3 : G.getD (k - 1) 0 = 97 + w
            · refine x_icmp_ne_f (tp := 69) B 65 dX2_hearWord_62 (by decide) rfl (by (try simp only [xlit]); first | (rw [nI_leI (by omega) (by omega)]; omega) | (rw [nI_ltI (by omega) (by omega)]; omega) | (rw [nI_eq (by omega) (by omega)]; omega)) ?_
              exact yes (e6.trans (decide_eq_true (Or.inr c3)))
            · refine x_icmp_ne_t B 69 dX2_hearWord_62 (by decide) (by (try simp only [xlit]); first | (rw [nI_leI (by omega) (by omega)]; omega) | (rw [nI_ltI (by omega) (by omega)]; omega) | (rw [nI_eq (by omega) (by omega)]; omega)) ?_
              exact no (e6.trans (decide_eq_false (fun z => z.elim c2 c3)))
      · refine x_icmp_gt_t B 69 dX2_hearWord_23 (by decide) (by (try simp only [xlit]); first | (rw [nI_leI (by omega) (by omega)]; omega) | (rw [nI_ltI (by omega) (by omega)]; omega) | (rw [nI_eq (by omega) (by omega)]; omega)) ?_
        exact no (by unfold gStep; rw [decide_eq_false (fun z => c1 z.2)]; rfl)
  refine x_iconst B 1 (v := 0) dX2_hearWord_0 (by decide) rfl ?_
  refine x_istore2 B 2 dX2_hearWord_1 rfl ?_
  exact first 203 0 rfl zt (fun j hj => by omega)
def TGx (lt en bg iv : Nat → Int32) (G : Option (List Nat)) : Prop := match G with
  | none => iv 9 = 0
  | some G => TGo lt en bg iv G ∧ 0 < G.length
theorem m_X2_of (hW : TW row iv nb nm kd N U) {G : Option (List Nat)} (hG : TGx lt en bg iv G) (p w : Int32) : XC D yX2_of (ws_ yX2_of cX2_of 5 (Option.some Jvm.ClassFile.FieldType.int)) 6 240 (0) (0) [.ref h, .int p, .int w] [tR D h ad iv, tI D ad 10 202 lt, tI D ad 11 202 en, tI D ad 12 202 bg, tZ D ad 34 203 zn, tZ D ad 35 203 zt, tI D ad 0 1404 row, tI D ad 36 64 sw, tI D ad 37 4 sm] (fun r cs' => r = some (.int (sOf nb nm kd N G p w)) ∧ ∃ row' sw' sm' zn' zt', TS 1296 1404 row row' ∧ cs' = [tR D h ad iv, tI D ad 10 202 lt, tI D ad 11 202 en, tI D ad 12 202 bg, tZ D ad 34 203 zn', tZ D ad 35 203 zt', tI D ad 0 1404 row', tI D ad 36 64 sw', tI D ad 37 4 sm']) x0 := by
  refine XC.of (by decide) (by simp [Value.category]) (Nat.le_of_ble_eq_true rfl) fun X B => ?_
  show WX D X [tR D h ad iv, tI D ad 10 202 lt, tI D ad 11 202 en, tI D ad 12 202 bg, tZ D ad 34 203 zn, tZ D ad 35 203 zt, tI D ad 0 1404 row, tI D ad 36 64 sw, tI D ad 37 4 sm] 0 0 0 [some (.ref h), some (.int p), some (.int w), none, none] []
  have hT := hW.1
  have hO := hW.2.1.1
  have hE := hW.2.1.2
  generalize hans : sOf nb nm kd N G p w = ans at B
  unfold sOf at hans
  refine x_iload1 B 1 dX2_of_0 rfl ?_
  refine x_i2l B 2 dX2_of_1 rfl ?_
  refine x_lconst B 3 (v := 0) dX2_of_2 (by decide) rfl ?_
  refine x_ldc2 B 6 dX2_of_3 q2086 rfl ?_
  refine x_callS B 9 (m_X2_in _ _ _) [] rfl q1869 q1870 q92 q1871 hd_X2_in rfl ⟨by first | decide | omega, by first | decide | omega⟩ ⟨by first | decide | omega, by first | decide | omega⟩ rfl (Nat.le_of_ble_eq_true rfl) dX2_of_6 rfl (fun _ _ _ h => h.elim) ?_
  rintro _ _ ⟨rfl, rfl⟩
  try simp only [xst, xput, xpre, List.set_cons_zero, List.set_cons_succ]
  rw [show x_in p.toInt64 0 3 = bI (toR p 0 4).isSome from xinR p 0 3 rfl rfl (by decide) (by decide)]
  rcases toR_c p 0 4 (by omega) with ⟨e, e'⟩ | ⟨p, -, hp, rfl, e, e'⟩
  · rw [e']
    rw [e] at hans; dsimp only at hans; subst hans
    refine x_if_ne_f (tp := 15) B 12 dX2_of_9 (by decide) rfl rfl ?_
    refine x_bipush B 14 (v := (-2)) dX2_of_12 (by decide) rfl ?_
    exact x_iret B rfl ⟨rfl, _, _, _, _, _, TS.rf, rfl⟩ dX2_of_14 ⟨by first | omega | decide, by first | omega | decide⟩
  rw [e']
  rw [e] at hans; dsimp only at hans
  refine x_if_ne_t B 15 dX2_of_9 (by decide) (by decide) ?_
  refine x_iload2 B 16 dX2_of_15 rfl ?_
  refine x_i2l B 17 dX2_of_16 rfl ?_
  refine x_lconst B 18 (v := 0) dX2_of_17 (by decide) rfl ?_
  refine x_lconst B 19 (v := 1) dX2_of_18 (by decide) rfl ?_
  refine x_callS B 22 (m_X2_in _ _ _) [] rfl q1869 q1870 q92 q1871 hd_X2_in rfl ⟨by first | decide | omega, by first | decide | omega⟩ ⟨by first | decide | omega, by first | decide | omega⟩ rfl (Nat.le_of_ble_eq_true rfl) dX2_of_19 rfl (fun _ _ _ h => h.elim) ?_
  rintro _ _ ⟨rfl, rfl⟩
  try simp only [xst, xput, xpre, List.set_cons_zero, List.set_cons_succ]
  rw [show x_in w.toInt64 0 1 = bI (toR w 0 2).isSome from xinR w 0 1 rfl rfl (by decide) (by decide)]
  rcases toR_c w 0 2 (by omega) with ⟨e2, e2'⟩ | ⟨w, -, hw, rfl, e2, e2'⟩
  · rw [e2']
    rw [e2] at hans; dsimp only at hans; subst hans
    refine x_if_ne_f (tp := 28) B 25 dX2_of_22 (by decide) rfl rfl ?_
    refine x_bipush B 27 (v := (-3)) dX2_of_25 (by decide) rfl ?_
    exact x_iret B rfl ⟨rfl, _, _, _, _, _, TS.rf, rfl⟩ dX2_of_27 ⟨by first | omega | decide, by first | omega | decide⟩
  rw [e2']
  rw [e2] at hans; dsimp only at hans
  refine x_if_ne_t B 28 dX2_of_22 (by decide) (by decide) ?_
  cases G with
  | none =>
    dsimp only at hans; subst hans
    refine x_aload0 B 29 dX2_of_28 rfl (by first | rfl | exact xisR_rf _) ?_
    refine g_X2_217_X2 B 32 (by repeat (first | with_reducible exact xr_h | refine xr_t ?_)) dX2_of_29 rfl ?_
    rw [show iv 9 = 0 from hG]
    refine x_if_ne_f (tp := 38) B 35 dX2_of_32 (by decide) rfl rfl ?_
    refine x_bipush B 37 (v := (-4)) dX2_of_35 (by decide) rfl ?_
    exact x_iret B rfl ⟨rfl, _, _, _, _, _, TS.rf, rfl⟩ dX2_of_37 ⟨by first | omega | decide, by first | omega | decide⟩
  | some G =>
    obtain ⟨hG, hg0⟩ := hG
    have h9 := hG.1
    have hlen := hG.2.1.1
    dsimp only at hans
    refine x_aload0 B 29 dX2_of_28 rfl (by first | rfl | exact xisR_rf _) ?_
    refine g_X2_217_X2 B 32 (by repeat (first | with_reducible exact xr_h | refine xr_t ?_)) dX2_of_29 rfl ?_
    rw [h9]
    refine x_if_ne_t B 38 dX2_of_32 (by decide) (nI_ne0 (by omega) (by omega)) ?_
    refine x_aload0 B 39 dX2_of_38 rfl (by first | rfl | exact xisR_rf _) ?_
    refine x_callV B 42 (m_X2_layTried hT hO) [0, 6] rfl ⟨_, _, _, (by repeat (first | with_reducible exact xr_h | refine xr_t ?_)), rfl, rfl⟩ q2011 q2013 qs61 q92 q2014 hd_X2_layTried (by decide) ⟨by first | decide | omega, by first | decide | omega⟩ ⟨by first | decide | omega, by first | decide | omega⟩ rfl (Nat.le_of_ble_eq_true rfl) dX2_of_39 rfl (fun _ _ _ h => h.elim) ?_
    rintro _ _ ⟨rfl, row1, t1, s1, rfl⟩
    try simp only [xst, xput, xpre, List.set_cons_zero, List.set_cons_succ]
    refine x_aload0 B 43 dX2_of_42 rfl (by first | rfl | exact xisR_rf _) ?_
    refine x_iconst B 44 (v := 1) dX2_of_43 (by decide) rfl ?_
    refine x_callV B 47 (m_X2_passTried t1 hO 1 (by omega) (by omega) (fun a b X => X.2.2.2.2.2 = N.2.2.2.2.2 + 1 → SAll a b (hPass kd nb nm N).2 4) (fun z => by omega) (fun j a b hj z _ => by (obtain rfl : j = 0 := by omega); exact z)) [0, 6, 7, 8] rfl ⟨_, _, _, (by repeat (first | with_reducible exact xr_h | refine xr_t ?_)), rfl, rfl⟩ q2015 q2017 qs62 q92 q2018 hd_X2_passTried (by decide) ⟨by first | decide | omega, by first | decide | omega⟩ ⟨by first | decide | omega, by first | decide | omega⟩ rfl (Nat.le_of_ble_eq_true rfl) dX2_of_44 rfl (fun _ _ _ h => h.elim) ?_
    rintro _ _ ⟨rfl, row2, sw2, sm2, t2, s2, p2, rfl⟩
    try simp only [xst, xput, xpre, List.set_cons_zero, List.set_cons_succ]
    have hS := p2 (hGo_E 1) p hp
    have hword := fun i v => hPass_word10 (kd := kd) (nb := nb) (nm := nm) (p := p) (S := N) (i := i) (v := v)
    generalize hLL : (hPass kd nb nm N).2 p = L at *
    obtain ⟨hs1, hs2, hs3⟩ := hS
    have words : ∀ (m i : Nat), i + m = L.length → ∀ (zn1 zt1 : Nat → Int32) (lg : Option Nat), ZRep zn1 (gSet G L i) → lg = gLong G L i → WX D X [tR D h ad iv, tI D ad 10 202 lt, tI D ad 11 202 en, tI D ad 12 202 bg, tZ D ad 34 203 zn1, tZ D ad 35 203 zt1, tI D ad 0 1404 row2, tI D ad 36 64 sw2, tI D ad 37 4 sm2] 0 0 102 [some (.ref h), some (.int (nI p)), some (.int (nI w)), some (.int (oI lg)), some (.int (nI i))] [] := by
      intro m
      induction m with
      | zero =>
        intro i hi zn1 zt1 lg z1 hlg
        obtain rfl : i = L.length := by omega
        have hll : ∀ v, lg = some v → v < 2147483648 := fun v e => by have := gLong_le (hlg ▸ e); omega
        rw [← hlg] at hans
        refine x_iload4 B 104 dX2_of_102 rfl ?_
        refine x_aload0 B 105 dX2_of_104 rfl (by first | rfl | exact xisR_rf _) ?_
        refine g_X2_92_X2 B 108 (by repeat (first | with_reducible exact xr_h | refine xr_t ?_)) dX2_of_105 rfl ?_
        refine x_iload1 B 109 dX2_of_108 rfl ?_
        refine x_ialdv B 110 (by repeat (first | with_reducible exact xr_h | refine xr_t ?_)) (j := p) (by first | (simp only [xlit, nI_add, pk_mul]; done) | rfl | (simp only [xlit, nI_add, pk_mul]; congr 1; omega)) ⟨by first | omega | decide, by first | decide | omega⟩ hs1 dX2_of_109 rfl ?_
        refine x_icmp_ge_t B 156 dX2_of_110 (by decide) (by (try simp only [xlit]); first | (rw [nI_leI (by omega) (by omega)]; omega) | (rw [nI_ltI (by omega) (by omega)]; omega) | (rw [nI_eq (by omega) (by omega)]; omega)) ?_
        by_cases c : w = 1
        · rw [if_pos c] at hans; subst hans
          refine x_iload2 B 157 dX2_of_156 rfl ?_
          refine x_iconst B 158 (v := 1) dX2_of_157 (by decide) rfl ?_
          refine x_icmp_ne_f (tp := 165) B 161 dX2_of_158 (by decide) rfl (by (try simp only [xlit]); first | (rw [nI_leI (by omega) (by omega)]; omega) | (rw [nI_ltI (by omega) (by omega)]; omega) | (rw [nI_eq (by omega) (by omega)]; omega)) ?_
          refine x_iload3 B 162 dX2_of_161 rfl ?_
          refine x_goto B 180 dX2_of_162 (by decide) ?_
          exact x_iret B rfl ⟨rfl, _, _, _, _, _, s1.trans s2, rfl⟩ dX2_of_180 ⟨by first | omega | decide, by first | omega | decide⟩
        · rw [if_neg c] at hans
          refine x_iload2 B 157 dX2_of_156 rfl ?_
          refine x_iconst B 158 (v := 1) dX2_of_157 (by decide) rfl ?_
          refine x_icmp_ne_t B 165 dX2_of_158 (by decide) (by (try simp only [xlit]); first | (rw [nI_leI (by omega) (by omega)]; omega) | (rw [nI_ltI (by omega) (by omega)]; omega) | (rw [nI_eq (by omega) (by omega)]; omega)) ?_
          refine x_iload3 B 166 dX2_of_165 rfl ?_
          refine x_aload0 B 167 dX2_of_166 rfl (by first | rfl | exact xisR_rf _) ?_
          refine g_X2_92_X2 B 170 (by repeat (first | with_reducible exact xr_h | refine xr_t ?_)) dX2_of_167 rfl ?_
          refine x_iload1 B 171 dX2_of_170 rfl ?_
          refine x_ialdv B 172 (by repeat (first | with_reducible exact xr_h | refine xr_t ?_)) (j := p) (by first | (simp only [xlit, nI_add, pk_mul]; done) | rfl | (simp only [xlit, nI_add, pk_mul]; congr 1; omega)) ⟨by first | omega | decide, by first | decide | omega⟩ hs1 dX2_of_171 rfl ?_
          have e7 := oI_inj (z := some L.length) hll (fun v e => by cases e; omega)
          by_cases c2 : lg = some L.length
          · rw [if_pos c2] at hans; subst hans
            refine x_icmp_ne_f (tp := 179) B 175 dX2_of_172 (by decide) rfl (e7.mpr c2) ?_
            refine x_iconst B 176 (v := 1) dX2_of_175 (by decide) rfl ?_
            refine x_goto B 180 dX2_of_176 (by decide) ?_
            exact x_iret B rfl ⟨rfl, _, _, _, _, _, s1.trans s2, rfl⟩ dX2_of_180 ⟨by first | omega | decide, by first | omega | decide⟩
          · rw [if_neg c2] at hans; subst hans
            refine x_icmp_ne_t B 179 dX2_of_172 (by decide) (fun z => c2 (e7.mp z)) ?_
            refine x_iconst B 180 (v := 0) dX2_of_179 (by decide) rfl ?_
            exact x_iret B rfl ⟨rfl, _, _, _, _, _, s1.trans s2, rfl⟩ dX2_of_180 ⟨by first | omega | decide, by first | omega | decide⟩
      | succ m ih =>
        intro i hi zn1 zt1 lg z1 hlg
        have hil : i < L.length := by omega
        have hv10 : L.getD i 0 < 10 := hword i _ (by rw [List.getD_eq_getElem?_getD, List.getElem?_eq_getElem hil]; rfl)
        have e8 : gSet G L (i + 1) = gT G (gStep G (gSet G L i) (L.getD i 0)) := rfl
        have e9 : gLong G L (i + 1) = if gSet G L (i + 1) G.length = true then some (i + 1) else gLong G L i := rfl
        refine x_iload4 B 104 dX2_of_102 rfl ?_
        refine x_aload0 B 105 dX2_of_104 rfl (by first | rfl | exact xisR_rf _) ?_
        refine g_X2_92_X2 B 108 (by repeat (first | with_reducible exact xr_h | refine xr_t ?_)) dX2_of_105 rfl ?_
        refine x_iload1 B 109 dX2_of_108 rfl ?_
        refine x_ialdv B 110 (by repeat (first | with_reducible exact xr_h | refine xr_t ?_)) (j := p) (by first | (simp only [xlit, nI_add, pk_mul]; done) | rfl | (simp only [xlit, nI_add, pk_mul]; congr 1; omega)) ⟨by first | omega | decide, by first | decide | omega⟩ hs1 dX2_of_109 rfl ?_
        refine x_icmp_ge_f (tp := 156) B 113 dX2_of_110 (by decide) rfl (by (try simp only [xlit]); first | (rw [nI_leI (by omega) (by omega)]; omega) | (rw [nI_ltI (by omega) (by omega)]; omega) | (rw [nI_eq (by omega) (by omega)]; omega)) ?_
        refine x_aload0 B 114 dX2_of_113 rfl (by first | rfl | exact xisR_rf _) ?_
        refine x_aload0 B 115 dX2_of_114 rfl (by first | rfl | exact xisR_rf _) ?_
        refine g_X2_89_X2 B 118 (by repeat (first | with_reducible exact xr_h | refine xr_t ?_)) dX2_of_115 rfl ?_
        refine x_bipush B 120 (v := 16) dX2_of_118 (by decide) rfl ?_
        refine x_iload1 B 121 dX2_of_120 rfl ?_
        refine x_imul B 122 dX2_of_121 rfl ?_
        refine x_iload4 B 124 dX2_of_122 rfl ?_
        refine x_iadd B 125 dX2_of_124 rfl ?_
        refine x_ialdv B 126 (by repeat (first | with_reducible exact xr_h | refine xr_t ?_)) (j := 16 * p + i) (by first | (simp only [xlit, nI_add, pk_mul]; done) | rfl | (simp only [xlit, nI_add, pk_mul]; congr 1; omega)) ⟨by first | omega | decide, by first | decide | omega⟩ (hs3 i hil) dX2_of_125 rfl ?_
        refine x_callV B 129 (m_X2_hearWord hG z1 (L.getD i 0) hv10) [0, 1, 2, 3, 4, 5] rfl ⟨_, _, _, (by repeat (first | with_reducible exact xr_h | refine xr_t ?_)), rfl, rfl⟩ q2168 q2170 qs81 q92 q2171 hd_X2_hearWord (by decide) ⟨by first | decide | omega, by first | decide | omega⟩ ⟨by first | decide | omega, by first | decide | omega⟩ rfl (Nat.le_of_ble_eq_true rfl) dX2_of_126 rfl (fun _ _ _ h => h.elim) ?_
        rintro _ _ ⟨rfl, zn2, zt2, z2, rfl⟩
        try simp only [xst, xput, xpre, List.set_cons_zero, List.set_cons_succ]
        rw [← e8] at z2
        refine x_aload0 B 130 dX2_of_129 rfl (by first | rfl | exact xisR_rf _) ?_
        refine g_X2_83_X2 B 133 (by repeat (first | with_reducible exact xr_h | refine xr_t ?_)) dX2_of_130 rfl ?_
        refine x_aload0 B 134 dX2_of_133 rfl (by first | rfl | exact xisR_rf _) ?_
        refine g_X2_217_X2 B 137 (by repeat (first | with_reducible exact xr_h | refine xr_t ?_)) dX2_of_134 rfl ?_
        rw [h9]
        refine x_zaldv B 138 (by repeat (first | with_reducible exact xr_h | refine xr_t ?_)) (j := G.length) (by first | (simp only [xlit, nI_add, pk_mul]; done) | rfl | (simp only [xlit, nI_add, pk_mul]; congr 1; omega)) ⟨by first | omega | decide, by first | decide | omega⟩ (z2 G.length (by omega)) dX2_of_137 rfl ?_
        cases ek : gSet G L (i + 1) G.length with
        | true =>
          rw [if_pos ek] at e9
          refine x_if_eq_f (tp := 148) B 141 dX2_of_138 (by decide) rfl (by decide) ?_
          refine x_iload4 B 143 dX2_of_141 rfl ?_
          refine x_iconst B 144 (v := 1) dX2_of_143 (by decide) rfl ?_
          refine x_iadd B 145 dX2_of_144 rfl ?_
          rw [show nI i + 1 = nI (i + 1) from nI_1 _]
          refine x_goto B 149 dX2_of_145 (by decide) ?_
          refine x_istore3 B 150 dX2_of_149 rfl ?_
          refine x_iinc4 B 153 dX2_of_150 rfl (by first | exact xinc _ | rfl) ?_
          refine x_goto B 102 dX2_of_153 (by decide) ?_
          exact ih (i + 1) (by omega) zn2 zt2 (some (i + 1)) z2 e9.symm
        | false =>
          rw [if_neg (by rw [ek]; simp)] at e9
          refine x_if_eq_t B 148 dX2_of_138 (by decide) rfl ?_
          refine x_iload3 B 149 dX2_of_148 rfl ?_
          refine x_istore3 B 150 dX2_of_149 rfl ?_
          refine x_iinc4 B 153 dX2_of_150 rfl (by first | exact xinc _ | rfl) ?_
          refine x_goto B 102 dX2_of_153 (by decide) ?_
          exact ih (i + 1) (by omega) zn2 zt2 lg z2 (hlg.trans e9.symm)
    have clear : ∀ (m k : Nat), k + m = 203 → ∀ (zn1 : Nat → Int32), (∀ j, j < k → zn1 j = bI (decide (j = 0))) → WX D X [tR D h ad iv, tI D ad 10 202 lt, tI D ad 11 202 en, tI D ad 12 202 bg, tZ D ad 34 203 zn1, tZ D ad 35 203 zt, tI D ad 0 1404 row2, tI D ad 36 64 sw2, tI D ad 37 4 sm2] 0 0 49 [some (.ref h), some (.int (nI p)), some (.int (nI w)), some (.int (nI k)), none] [] := by
      intro m
      induction m with
      | zero =>
        intro k hk zn1 h1
        obtain rfl : k = 203 := by omega
        refine x_iload3 B 50 dX2_of_49 rfl ?_
        refine x_sipush B 53 (v := 203) dX2_of_50 (by decide) rfl ?_
        refine x_icmp_ge_t B 77 dX2_of_53 (by decide) (by (try simp only [xlit]); first | (rw [nI_leI (by omega) (by omega)]; omega) | (rw [nI_ltI (by omega) (by omega)]; omega) | (rw [nI_eq (by omega) (by omega)]; omega)) ?_
        refine x_aload0 B 78 dX2_of_77 rfl (by first | rfl | exact xisR_rf _) ?_
        refine x_callV B 81 (m_X2_goOnAll (s := fun k => decide (k = 0)) hG h1) [0, 1, 2, 3, 4] rfl ⟨_, _, _, (by repeat (first | with_reducible exact xr_h | refine xr_t ?_)), rfl, rfl⟩ q2156 q2158 qs78 q92 q2159 hd_X2_goOnAll (by decide) ⟨by first | decide | omega, by first | decide | omega⟩ ⟨by first | decide | omega, by first | decide | omega⟩ rfl (Nat.le_of_ble_eq_true rfl) dX2_of_78 rfl (fun _ _ _ h => h.elim) ?_
        rintro _ _ ⟨rfl, zn2, z2, rfl⟩
        try simp only [xst, xput, xpre, List.set_cons_zero, List.set_cons_succ]
        have z2 : ZRep zn2 (gSet G L 0) := z2
        have e9 : gLong G L 0 = if gSet G L 0 G.length = true then some 0 else none := rfl
        refine x_aload0 B 82 dX2_of_81 rfl (by first | rfl | exact xisR_rf _) ?_
        refine g_X2_83_X2 B 85 (by repeat (first | with_reducible exact xr_h | refine xr_t ?_)) dX2_of_82 rfl ?_
        refine x_aload0 B 86 dX2_of_85 rfl (by first | rfl | exact xisR_rf _) ?_
        refine g_X2_217_X2 B 89 (by repeat (first | with_reducible exact xr_h | refine xr_t ?_)) dX2_of_86 rfl ?_
        rw [h9]
        refine x_zaldv B 90 (by repeat (first | with_reducible exact xr_h | refine xr_t ?_)) (j := G.length) (by first | (simp only [xlit, nI_add, pk_mul]; done) | rfl | (simp only [xlit, nI_add, pk_mul]; congr 1; omega)) ⟨by first | omega | decide, by first | decide | omega⟩ (z2 G.length (by omega)) dX2_of_89 rfl ?_
        cases ek : gSet G L 0 G.length with
        | true =>
          rw [if_pos ek] at e9
          refine x_if_eq_f (tp := 97) B 93 dX2_of_90 (by decide) rfl (by decide) ?_
          refine x_iconst B 94 (v := 0) dX2_of_93 (by decide) rfl ?_
          refine x_goto B 98 dX2_of_94 (by decide) ?_
          refine x_istore3 B 99 dX2_of_98 rfl ?_
          refine x_iconst B 100 (v := 0) dX2_of_99 (by decide) rfl ?_
          refine x_istore4 B 102 dX2_of_100 rfl ?_
          exact words L.length 0 (by omega) zn2 zt (some 0) z2 e9.symm
        | false =>
          rw [if_neg (by rw [ek]; simp)] at e9
          refine x_if_eq_t B 97 dX2_of_90 (by decide) rfl ?_
          refine x_iconst B 98 (v := (-1)) dX2_of_97 (by decide) rfl ?_
          refine x_istore3 B 99 dX2_of_98 rfl ?_
          refine x_iconst B 100 (v := 0) dX2_of_99 (by decide) rfl ?_
          refine x_istore4 B 102 dX2_of_100 rfl ?_
          exact words L.length 0 (by omega) zn2 zt none z2 e9.symm
      | succ m ih =>
        intro k hk zn1 h1
        have next : ∀ v : Int32, v = bI (decide (k = 0)) → WX D X [tR D h ad iv, tI D ad 10 202 lt, tI D ad 11 202 en, tI D ad 12 202 bg, tZ D ad 34 203 zn1, tZ D ad 35 203 zt, tI D ad 0 1404 row2, tI D ad 36 64 sw2, tI D ad 37 4 sm2] 0 0 70 [some (.ref h), some (.int (nI p)), some (.int (nI w)), some (.int (nI k)), none] [.int v, .int (nI k), .ref (ad 34)] := by
          intro v hv
          refine x_zast B 71 (by repeat (first | with_reducible exact xu_h | apply xu_t)) (j := k) (by first | (simp only [xlit, nI_add, pk_mul]; done) | rfl | (simp only [xlit, nI_add, pk_mul]; congr 1; omega)) ⟨by first | omega | decide, by first | decide | omega⟩ rfl dX2_of_70 rfl ?_
          refine x_iinc3 B 74 dX2_of_71 rfl (by first | exact xinc _ | rfl) ?_
          refine x_goto B 49 dX2_of_74 (by decide) ?_
          refine ih (k + 1) (by omega) _ (fun j hj => ?_)
          by_cases q : j = k
          · rw [q, pk_us, hv]; cases decide (k = 0) <;> decide
          · rw [pk_un q]; exact h1 j (by omega)
        refine x_iload3 B 50 dX2_of_49 rfl ?_
        refine x_sipush B 53 (v := 203) dX2_of_50 (by decide) rfl ?_
        refine x_icmp_ge_f (tp := 77) B 56 dX2_of_53 (by decide) rfl (by (try simp only [xlit]); first | (rw [nI_leI (by omega) (by omega)]; omega) | (rw [nI_ltI (by omega) (by omega)]; omega) | (rw [nI_eq (by omega) (by omega)]; omega)) ?_
        by_cases c : k = 0
        · refine x_aload0 B 57 dX2_of_56 rfl (by first | rfl | exact xisR_rf _) ?_
          refine g_X2_83_X2 B 60 (by repeat (first | with_reducible exact xr_h | refine xr_t ?_)) dX2_of_57 rfl ?_
          refine x_iload3 B 61 dX2_of_60 rfl ?_
          refine x_iload3 B 62 dX2_of_61 rfl ?_
          refine x_if_ne_f (tp := 69) B 65 dX2_of_62 (by decide) rfl (by rw [c]; rfl) ?_
          refine x_iconst B 66 (v := 1) dX2_of_65 (by decide) rfl ?_
          refine x_goto B 70 dX2_of_66 (by decide) ?_
          exact next 1 (by simp [c, bI])
        · refine x_aload0 B 57 dX2_of_56 rfl (by first | rfl | exact xisR_rf _) ?_
          refine g_X2_83_X2 B 60 (by repeat (first | with_reducible exact xr_h | refine xr_t ?_)) dX2_of_57 rfl ?_
          refine x_iload3 B 61 dX2_of_60 rfl ?_
          refine x_iload3 B 62 dX2_of_61 rfl ?_
          refine x_if_ne_t B 69 dX2_of_62 (by decide) (nI_ne0 (by omega) (by omega)) ?_
          refine x_iconst B 70 (v := 0) dX2_of_69 (by decide) rfl ?_
          exact next 0 (by simp [c, bI])
    refine x_iconst B 48 (v := 0) dX2_of_47 (by decide) rfl ?_
    refine x_istore3 B 49 dX2_of_48 rfl ?_
    exact clear 203 0 rfl zn (fun j hj => by omega)
end T23
