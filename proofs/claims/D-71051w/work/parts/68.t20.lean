/-! the twin, 20: a tongue laid out -/
section T20
variable {D : xG} {h : Nat} {ad : Nat → Nat} {iv row tx lt en bg op : Nat → Int32} {T G : List Nat}
theorem m_X2_layTongue (h9 : iv 9 = nI G.length) (hG : LyOk G) (hl : ∀ k, k < G.length → lt k = nI (G.getD k 0)) : XC D yX2_layTongue (ws_ yX2_layTongue cX2_layTongue 4 (Option.none : Option Jvm.ClassFile.FieldType)) 0 0 (0) (0) [.ref h] [tR D h ad iv, tI D ad 10 202 lt, tI D ad 11 202 en, tI D ad 12 202 bg, tI D ad 33 8 op] (fun r cs' => r = none ∧ ∃ en' bg' op', (∀ k, k < G.length → bg' k = nI ((lay G G.length).2.1 k)) ∧ (∀ k, gClosed G k → en' k = nI ((lay G G.length).2.2 k)) ∧ cs' = [tR D h ad iv, tI D ad 10 202 lt, tI D ad 11 202 en', tI D ad 12 202 bg', tI D ad 33 8 op']) x0 := by
  refine XC.of (by decide) (by simp [Value.category]) (Nat.le_of_ble_eq_true rfl) fun X B => ?_
  show WX D X [tR D h ad iv, tI D ad 10 202 lt, tI D ad 11 202 en, tI D ad 12 202 bg, tI D ad 33 8 op] 0 0 0 [some (.ref h), none, none, none] []
  obtain ⟨hlen, hc, hk⟩ := hG
  have loop : ∀ (m k : Nat), k + m = G.length → ∀ (en1 bg1 op1 : Nat → Int32) a3, (lay G k).1.length ≤ 7 → (∀ i, i < (lay G k).1.length → op1 i = nI ((lay G k).1.getD ((lay G k).1.length - 1 - i) 0)) → (∀ j, j < k → bg1 j = nI ((lay G k).2.1 j)) → (∀ q, (∃ j, j < k ∧ G.getD j 0 = 41 ∧ (lay G j).1.headD 0 = q) → en1 q = nI ((lay G k).2.2 q)) → WX D X [tR D h ad iv, tI D ad 10 202 lt, tI D ad 11 202 en1, tI D ad 12 202 bg1, tI D ad 33 8 op1] 0 0 4 [some (.ref h), some (.int (nI (lay G k).1.length)), some (.int (nI k)), a3] [] := by
    intro m
    induction m with
    | zero =>
      intro k hk2 en1 bg1 op1 a3 g0 g1 g2 g3
      obtain rfl : k = G.length := by omega
      refine x_iload2 B 5 dX2_layTongue_4 rfl ?_
      refine x_aload0 B 6 dX2_layTongue_5 rfl (by first | rfl | exact xisR_rf _) ?_
      refine g_X2_217_X2 B 9 (by repeat (first | with_reducible exact xr_h | refine xr_t ?_)) dX2_layTongue_6 rfl ?_
      rw [h9]
      refine x_icmp_ge_t B 130 dX2_layTongue_9 (by decide) (by (try simp only [xlit]); first | (rw [nI_leI (by omega) (by omega)]; omega) | (rw [nI_ltI (by omega) (by omega)]; omega) | (rw [nI_eq (by omega) (by omega)]; omega)) ?_
      exact x_vret B rfl ⟨rfl, en1, bg1, op1, g2, g3, rfl⟩ dX2_layTongue_130 ⟨by first | omega | decide, by first | omega | decide⟩
    | succ m ih =>
      intro k hk2 en1 bg1 op1 a3 g0 g1 g2 g3
      have hkl : k < G.length := by omega
      obtain ⟨k40, k41, k124, k42⟩ := hk k hkl
      have hll := lay_lt G k
      have ih2 := ih (k + 1) (by omega)
      have e1 : lay G (k + 1) = lyStep G (lay G k) k := rfl
      have hcx : G.getD k 0 < 256 := hc _ (getD_mem hkl)
      rw [e1] at ih2
      unfold lyStep at ih2
      dsimp only at ih2
      have hlk := hl k hkl
      generalize hx : G.getD k 0 = x at *
      generalize hy : lay G k = y at *
      obtain ⟨st, B0, E0⟩ := y
      dsimp only at *
      have gB : ∀ v : Nat, ∀ j, j < k + 1 → upd bg1 k (nI v) j = nI (fUp B0 k v j) := by
        intro v j hj
        unfold fUp
        by_cases q : j = k
        · rw [q, pk_us, if_pos rfl]
        · rw [pk_un q, if_neg q]; exact g2 j (by omega)
      have gE : x ≠ 41 → ∀ q, (∃ j, j < k + 1 ∧ G.getD j 0 = 41 ∧ (lay G j).1.headD 0 = q) → en1 q = nI (E0 q) := by
        intro hx41 q ⟨j, j1, j2, j3⟩
        by_cases c : j = k
        · subst c; exact absurd (hx.symm.trans j2) hx41
        · exact g3 q ⟨j, by omega, j2, j3⟩
      refine x_iload2 B 5 dX2_layTongue_4 rfl ?_
      refine x_aload0 B 6 dX2_layTongue_5 rfl (by first | rfl | exact xisR_rf _) ?_
      refine g_X2_217_X2 B 9 (by repeat (first | with_reducible exact xr_h | refine xr_t ?_)) dX2_layTongue_6 rfl ?_
      rw [h9]
      refine x_icmp_ge_f (tp := 130) B 12 dX2_layTongue_9 (by decide) rfl (by (try simp only [xlit]); first | (rw [nI_leI (by omega) (by omega)]; omega) | (rw [nI_ltI (by omega) (by omega)]; omega) | (rw [nI_eq (by omega) (by omega)]; omega)) ?_
      refine x_aload0 B 13 dX2_layTongue_12 rfl (by first | rfl | exact xisR_rf _) ?_
      refine g_X2_29_X2 B 16 (by repeat (first | with_reducible exact xr_h | refine xr_t ?_)) dX2_layTongue_13 rfl ?_
      refine x_iload2 B 17 dX2_layTongue_16 rfl ?_
      refine x_ialdv B 18 (by repeat (first | with_reducible exact xr_h | refine xr_t ?_)) (j := k) (by first | (simp only [xlit, nI_add, pk_mul]; done) | rfl | (simp only [xlit, nI_add, pk_mul]; congr 1; omega)) ⟨by first | omega | decide, by first | decide | omega⟩ hlk dX2_layTongue_17 rfl ?_
      refine x_istore3 B 19 dX2_layTongue_18 rfl ?_
      refine x_aload0 B 20 dX2_layTongue_19 rfl (by first | rfl | exact xisR_rf _) ?_
      refine g_X2_35_X2 B 23 (by repeat (first | with_reducible exact xr_h | refine xr_t ?_)) dX2_layTongue_20 rfl ?_
      refine x_iload2 B 24 dX2_layTongue_23 rfl ?_
      refine x_iload2 B 25 dX2_layTongue_24 rfl ?_
      refine x_iast B 26 (by repeat (first | with_reducible exact xu_h | apply xu_t)) (j := k) (by first | (simp only [xlit, nI_add, pk_mul]; done) | rfl | (simp only [xlit, nI_add, pk_mul]; congr 1; omega)) ⟨by first | omega | decide, by first | decide | omega⟩ dX2_layTongue_25 rfl ?_
      by_cases c1 : x = 40
      · simp only [if_pos c1] at ih2
        have := k40 c1
        refine x_iload3 B 27 dX2_layTongue_26 rfl ?_
        refine x_bipush B 29 (v := 40) dX2_layTongue_27 (by decide) rfl ?_
        refine x_icmp_ne_f (tp := 45) B 32 dX2_layTongue_29 (by decide) rfl (by (try simp only [xlit]); first | (rw [nI_leI (by omega) (by omega)]; omega) | (rw [nI_ltI (by omega) (by omega)]; omega) | (rw [nI_eq (by omega) (by omega)]; omega)) ?_
        refine x_aload0 B 33 dX2_layTongue_32 rfl (by first | rfl | exact xisR_rf _) ?_
        refine g_X2_80_X2 B 36 (by repeat (first | with_reducible exact xr_h | refine xr_t ?_)) dX2_layTongue_33 rfl ?_
        refine x_iload1 B 37 dX2_layTongue_36 rfl ?_
        refine x_iload2 B 38 dX2_layTongue_37 rfl ?_
        refine x_iast B 39 (by repeat (first | with_reducible exact xu_h | apply xu_t)) (j := st.length) (by first | (simp only [xlit, nI_add, pk_mul]; done) | rfl | (simp only [xlit, nI_add, pk_mul]; congr 1; omega)) ⟨by first | omega | decide, by first | decide | omega⟩ dX2_layTongue_38 rfl ?_
        refine x_iinc1 B 42 dX2_layTongue_39 rfl (by first | exact xinc _ | rfl) ?_
        refine x_goto B 124 dX2_layTongue_42 (by decide) ?_
        refine x_iinc2 B 127 dX2_layTongue_124 rfl (by first | exact xinc _ | rfl) ?_
        refine x_goto B 4 dX2_layTongue_127 (by decide) ?_
        refine ih2 en1 _ _ _ (by simp only [List.length_cons]; omega) (fun i hi => ?_) (gB k) (gE (by omega))
        simp only [List.length_cons] at hi ⊢
        by_cases q : i = st.length
        · subst q; rw [pk_us, show st.length + 1 - 1 - st.length = 0 by omega]; rfl
        · rw [pk_un q, g1 i (by omega), show st.length + 1 - 1 - i = (st.length - 1 - i) + 1 by omega]; rfl
      rw [if_neg c1] at ih2
      refine x_iload3 B 27 dX2_layTongue_26 rfl ?_
      refine x_bipush B 29 (v := 40) dX2_layTongue_27 (by decide) rfl ?_
      refine x_icmp_ne_t B 45 dX2_layTongue_29 (by decide) (by (try simp only [xlit]); first | (rw [nI_leI (by omega) (by omega)]; omega) | (rw [nI_ltI (by omega) (by omega)]; omega) | (rw [nI_eq (by omega) (by omega)]; omega)) ?_
      by_cases c2 : x = 41
      · rw [if_pos c2] at ih2
        have hne := k41 c2
        obtain ⟨s, st2, rfl⟩ := List.exists_cons_of_ne_nil hne
        have hs : s < k := hll.1 s List.mem_cons_self
        have hop : op1 st2.length = nI s := by
          rw [g1 st2.length (by simp), List.length_cons, show st2.length + 1 - 1 - st2.length = 0 by omega]; rfl
        rw [List.length_cons] at g0
        refine x_iload3 B 46 dX2_layTongue_45 rfl ?_
        refine x_bipush B 48 (v := 41) dX2_layTongue_46 (by decide) rfl ?_
        refine x_icmp_ne_f (tp := 81) B 51 dX2_layTongue_48 (by decide) rfl (by (try simp only [xlit]); first | (rw [nI_leI (by omega) (by omega)]; omega) | (rw [nI_ltI (by omega) (by omega)]; omega) | (rw [nI_eq (by omega) (by omega)]; omega)) ?_
        refine x_iinc1 B 54 dX2_layTongue_51 rfl rfl ?_
        rw [show nI (s :: st2).length + Int32.ofInt (-1) = nI st2.length from pk_m1 st2.length]
        refine x_aload0 B 55 dX2_layTongue_54 rfl (by first | rfl | exact xisR_rf _) ?_
        refine g_X2_35_X2 B 58 (by repeat (first | with_reducible exact xr_h | refine xr_t ?_)) dX2_layTongue_55 rfl ?_
        refine x_iload2 B 59 dX2_layTongue_58 rfl ?_
        refine x_aload0 B 60 dX2_layTongue_59 rfl (by first | rfl | exact xisR_rf _) ?_
        refine g_X2_80_X2 B 63 (by repeat (first | with_reducible exact xr_h | refine xr_t ?_)) dX2_layTongue_60 rfl ?_
        refine x_iload1 B 64 dX2_layTongue_63 rfl ?_
        refine x_ialdv B 65 (by repeat (first | with_reducible exact xr_h | refine xr_t ?_)) (j := st2.length) (by first | (simp only [xlit, nI_add, pk_mul]; done) | rfl | (simp only [xlit, nI_add, pk_mul]; congr 1; omega)) ⟨by first | omega | decide, by first | decide | omega⟩ hop dX2_layTongue_64 rfl ?_
        refine x_iast B 66 (by repeat (first | with_reducible exact xu_h | apply xu_t)) (j := k) (by first | (simp only [xlit, nI_add, pk_mul]; done) | rfl | (simp only [xlit, nI_add, pk_mul]; congr 1; omega)) ⟨by first | omega | decide, by first | decide | omega⟩ dX2_layTongue_65 rfl ?_
        refine x_aload0 B 67 dX2_layTongue_66 rfl (by first | rfl | exact xisR_rf _) ?_
        refine g_X2_32_X2 B 70 (by repeat (first | with_reducible exact xr_h | refine xr_t ?_)) dX2_layTongue_67 rfl ?_
        refine x_aload0 B 71 dX2_layTongue_70 rfl (by first | rfl | exact xisR_rf _) ?_
        refine g_X2_80_X2 B 74 (by repeat (first | with_reducible exact xr_h | refine xr_t ?_)) dX2_layTongue_71 rfl ?_
        refine x_iload1 B 75 dX2_layTongue_74 rfl ?_
        refine x_ialdv B 76 (by repeat (first | with_reducible exact xr_h | refine xr_t ?_)) (j := st2.length) (by first | (simp only [xlit, nI_add, pk_mul]; done) | rfl | (simp only [xlit, nI_add, pk_mul]; congr 1; omega)) ⟨by first | omega | decide, by first | decide | omega⟩ hop dX2_layTongue_75 rfl ?_
        refine x_iload2 B 77 dX2_layTongue_76 rfl ?_
        refine x_iast B 78 (by repeat (first | with_reducible exact xu_h | apply xu_t)) (j := s) (by first | (simp only [xlit, nI_add, pk_mul]; done) | rfl | (simp only [xlit, nI_add, pk_mul]; congr 1; omega)) ⟨by first | omega | decide, by first | decide | omega⟩ dX2_layTongue_77 rfl ?_
        refine x_goto B 124 dX2_layTongue_78 (by decide) ?_
        refine x_iinc2 B 127 dX2_layTongue_124 rfl (by first | exact xinc _ | rfl) ?_
        refine x_goto B 4 dX2_layTongue_127 (by decide) ?_
        have hB : ∀ j, j < k + 1 → upd (upd bg1 k (nI k)) k (nI s) j = nI (fUp B0 k s j) := by
          intro j hj
          rw [← gB s j hj]
          by_cases q : j = k
          · rw [q, pk_us, pk_us]
          · rw [pk_un q, pk_un q, pk_un q]
        refine ih2 _ _ op1 _ (by simp only [List.tail_cons]; omega) (fun i hi => ?_) hB (fun q hq => ?_)
        · simp only [List.tail_cons] at hi ⊢
          rw [g1 i (by simp; omega), List.length_cons, show st2.length + 1 - 1 - i = (st2.length - 1 - i) + 1 by omega]; rfl
        · show _ = nI (fUp E0 s k q)
          unfold fUp
          by_cases c : q = s
          · rw [c, pk_us, if_pos rfl]
          · rw [pk_un c, if_neg c]
            obtain ⟨j, j1, j2, j3⟩ := hq
            refine g3 q ⟨j, ?_, j2, j3⟩
            rcases Nat.eq_or_lt_of_le (Nat.le_of_lt_succ j1) with z | z
            · subst z; rw [hy] at j3; exact absurd j3.symm c
            · exact z
      rw [if_neg c2] at ih2
      refine x_iload3 B 46 dX2_layTongue_45 rfl ?_
      refine x_bipush B 48 (v := 41) dX2_layTongue_46 (by decide) rfl ?_
      refine x_icmp_ne_t B 81 dX2_layTongue_48 (by decide) (by (try simp only [xlit]); first | (rw [nI_leI (by omega) (by omega)]; omega) | (rw [nI_ltI (by omega) (by omega)]; omega) | (rw [nI_eq (by omega) (by omega)]; omega)) ?_
      by_cases c3 : x = 124
      · rw [if_pos c3] at ih2
        have hne := k124 c3
        obtain ⟨s, st2, rfl⟩ := List.exists_cons_of_ne_nil hne
        have hop : op1 st2.length = nI s := by
          rw [g1 st2.length (by simp), List.length_cons, show st2.length + 1 - 1 - st2.length = 0 by omega]; rfl
        rw [List.length_cons] at g0
        refine x_iload3 B 82 dX2_layTongue_81 rfl ?_
        refine x_bipush B 84 (v := 124) dX2_layTongue_82 (by decide) rfl ?_
        refine x_icmp_ne_f (tp := 104) B 87 dX2_layTongue_84 (by decide) rfl (by (try simp only [xlit]); first | (rw [nI_leI (by omega) (by omega)]; omega) | (rw [nI_ltI (by omega) (by omega)]; omega) | (rw [nI_eq (by omega) (by omega)]; omega)) ?_
        refine x_aload0 B 88 dX2_layTongue_87 rfl (by first | rfl | exact xisR_rf _) ?_
        refine g_X2_35_X2 B 91 (by repeat (first | with_reducible exact xr_h | refine xr_t ?_)) dX2_layTongue_88 rfl ?_
        refine x_iload2 B 92 dX2_layTongue_91 rfl ?_
        refine x_aload0 B 93 dX2_layTongue_92 rfl (by first | rfl | exact xisR_rf _) ?_
        refine g_X2_80_X2 B 96 (by repeat (first | with_reducible exact xr_h | refine xr_t ?_)) dX2_layTongue_93 rfl ?_
        refine x_iload1 B 97 dX2_layTongue_96 rfl ?_
        refine x_iconst B 98 (v := 1) dX2_layTongue_97 (by decide) rfl ?_
        refine x_isub B 99 dX2_layTongue_98 rfl ?_
        rw [show nI (s :: st2).length - 1 = nI st2.length from nI_pred st2.length]
        refine x_ialdv B 100 (by repeat (first | with_reducible exact xr_h | refine xr_t ?_)) (j := st2.length) (by first | (simp only [xlit, nI_add, pk_mul]; done) | rfl | (simp only [xlit, nI_add, pk_mul]; congr 1; omega)) ⟨by first | omega | decide, by first | decide | omega⟩ hop dX2_layTongue_99 rfl ?_
        refine x_iast B 101 (by repeat (first | with_reducible exact xu_h | apply xu_t)) (j := k) (by first | (simp only [xlit, nI_add, pk_mul]; done) | rfl | (simp only [xlit, nI_add, pk_mul]; congr 1; omega)) ⟨by first | omega | decide, by first | decide | omega⟩ dX2_layTongue_100 rfl ?_
        refine x_goto B 124 dX2_layTongue_101 (by decide) ?_
        refine x_iinc2 B 127 dX2_layTongue_124 rfl (by first | exact xinc _ | rfl) ?_
        refine x_goto B 4 dX2_layTongue_127 (by decide) ?_
        have hB : ∀ j, j < k + 1 → upd (upd bg1 k (nI k)) k (nI s) j = nI (fUp B0 k s j) := by
          intro j hj
          rw [← gB s j hj]
          by_cases q : j = k
          · rw [q, pk_us, pk_us]
          · rw [pk_un q, pk_un q, pk_un q]
        exact ih2 _ _ op1 _ (by rw [List.length_cons]; exact g0) g1 hB (gE (by omega))
      rw [if_neg c3] at ih2
      refine x_iload3 B 82 dX2_layTongue_81 rfl ?_
      refine x_bipush B 84 (v := 124) dX2_layTongue_82 (by decide) rfl ?_
      refine x_icmp_ne_t B 104 dX2_layTongue_84 (by decide) (by (try simp only [xlit]); first | (rw [nI_leI (by omega) (by omega)]; omega) | (rw [nI_ltI (by omega) (by omega)]; omega) | (rw [nI_eq (by omega) (by omega)]; omega)) ?_
      by_cases c4 : x = 42
      · rw [if_pos c4] at ih2
        have hk0 := k42 c4
        refine x_iload3 B 105 dX2_layTongue_104 rfl ?_
        refine x_bipush B 107 (v := 42) dX2_layTongue_105 (by decide) rfl ?_
        refine x_icmp_ne_f (tp := 124) B 110 dX2_layTongue_107 (by decide) rfl (by (try simp only [xlit]); first | (rw [nI_leI (by omega) (by omega)]; omega) | (rw [nI_ltI (by omega) (by omega)]; omega) | (rw [nI_eq (by omega) (by omega)]; omega)) ?_
        refine x_aload0 B 111 dX2_layTongue_110 rfl (by first | rfl | exact xisR_rf _) ?_
        refine g_X2_35_X2 B 114 (by repeat (first | with_reducible exact xr_h | refine xr_t ?_)) dX2_layTongue_111 rfl ?_
        refine x_iload2 B 115 dX2_layTongue_114 rfl ?_
        refine x_aload0 B 116 dX2_layTongue_115 rfl (by first | rfl | exact xisR_rf _) ?_
        refine g_X2_35_X2 B 119 (by repeat (first | with_reducible exact xr_h | refine xr_t ?_)) dX2_layTongue_116 rfl ?_
        refine x_iload2 B 120 dX2_layTongue_119 rfl ?_
        refine x_iconst B 121 (v := 1) dX2_layTongue_120 (by decide) rfl ?_
        refine x_isub B 122 dX2_layTongue_121 rfl ?_
        rw [show nI k - 1 = nI (k - 1) from pk_sub (show 1 ≤ k by omega)]
        refine x_ialdv B 123 (by repeat (first | with_reducible exact xr_h | refine xr_t ?_)) (j := k - 1) (by first | (simp only [xlit, nI_add, pk_mul]; done) | rfl | (simp only [xlit, nI_add, pk_mul]; congr 1; omega)) ⟨by first | omega | decide, by first | decide | omega⟩ ((pk_un (by omega)).trans (g2 (k - 1) (by omega))) dX2_layTongue_122 rfl ?_
        refine x_iast B 124 (by repeat (first | with_reducible exact xu_h | apply xu_t)) (j := k) (by first | (simp only [xlit, nI_add, pk_mul]; done) | rfl | (simp only [xlit, nI_add, pk_mul]; congr 1; omega)) ⟨by first | omega | decide, by first | decide | omega⟩ dX2_layTongue_123 rfl ?_
        refine x_iinc2 B 127 dX2_layTongue_124 rfl (by first | exact xinc _ | rfl) ?_
        refine x_goto B 4 dX2_layTongue_127 (by decide) ?_
        have hB : ∀ j, j < k + 1 → upd (upd bg1 k (nI k)) k (nI (B0 (k - 1))) j = nI (fUp B0 k (B0 (k - 1)) j) := by
          intro j hj
          rw [← gB (B0 (k - 1)) j hj]
          by_cases q : j = k
          · rw [q, pk_us, pk_us]
          · rw [pk_un q, pk_un q, pk_un q]
        exact ih2 en1 _ op1 _ g0 g1 hB (gE (by omega))
      · rw [if_neg c4] at ih2
        refine x_iload3 B 105 dX2_layTongue_104 rfl ?_
        refine x_bipush B 107 (v := 42) dX2_layTongue_105 (by decide) rfl ?_
        refine x_icmp_ne_t B 124 dX2_layTongue_107 (by decide) (by (try simp only [xlit]); first | (rw [nI_leI (by omega) (by omega)]; omega) | (rw [nI_ltI (by omega) (by omega)]; omega) | (rw [nI_eq (by omega) (by omega)]; omega)) ?_
        refine x_iinc2 B 127 dX2_layTongue_124 rfl (by first | exact xinc _ | rfl) ?_
        refine x_goto B 4 dX2_layTongue_127 (by decide) ?_
        exact ih2 en1 _ op1 _ g0 g1 (gB k) (gE c2)
  refine x_iconst B 1 (v := 0) dX2_layTongue_0 (by decide) rfl ?_
  refine x_istore1 B 2 dX2_layTongue_1 rfl ?_
  refine x_iconst B 3 (v := 0) dX2_layTongue_2 (by decide) rfl ?_
  refine x_istore2 B 4 dX2_layTongue_3 rfl ?_
  exact loop G.length 0 (by omega) en bg op _ (by show (0 : Nat) ≤ 7; omega) (fun i hi => absurd hi (Nat.not_lt_zero _)) (fun j hj => absurd hj (Nat.not_lt_zero _)) (fun q ⟨j, j1, _⟩ => absurd j1 (Nat.not_lt_zero _))
end T20
