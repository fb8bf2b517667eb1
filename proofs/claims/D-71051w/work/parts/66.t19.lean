/-! the twin, 19: men matched -/
section T19
variable {D : xG} {h : Nat} {ad : Nat → Nat} {iv row zk tx rb ln bl kb : Nat → Int32} {nb nm : Nat} {kd : Nat → Nat} {N : HS} {U : List HS} {sw sm : Nat → Int32} {l : List Nat} {kv : Nat → Nat → Nat}
theorem m_X2_keptByLine (hT0 : row 0 = nI nb) (hT1 : row 1 = nI nm) (hnb : nb ≤ 8) (hnm : nm ≤ 4) (hl : LRep ln nb nm l) (hk : ∀ m b, kv m b ≤ 10) (hkb : ∀ m b, m < nm → b < nb → kb (8 * m + b) = nI (kv m b)) : XC D yX2_keptByLine (ws_ yX2_keptByLine cX2_keptByLine 6 (Option.some Jvm.ClassFile.FieldType.int)) 1 40 (0) (0) [.ref h] [tR D h ad iv, tI D ad 0 1404 row, tI D ad 38 32 kb, tI D ad 39 4 ln] (fun r cs' => r = some (.int (if (hLine kv nb l).2.2 = true then nI (hLine kv nb l).1 else -1)) ∧ cs' = [tR D h ad iv, tI D ad 0 1404 row, tI D ad 38 32 kb, tI D ad 39 4 ln]) x0 := by
  refine XC.of (by decide) (by simp [Value.category]) (Nat.le_of_ble_eq_true rfl) fun X B => ?_
  show WX D X [tR D h ad iv, tI D ad 0 1404 row, tI D ad 38 32 kb, tI D ad 39 4 ln] 0 0 0 [some (.ref h), none, none, none, none, none] []
  obtain ⟨hlen, hmem, hrep⟩ := hl
  have loop : ∀ (j m : Nat), m + j = nm → ∀ a5, WX D X [tR D h ad iv, tI D ad 0 1404 row, tI D ad 38 32 kb, tI D ad 39 4 ln] 0 0 9 [some (.ref h), some (.int (nI (hLine kv nb (l.drop (nm - m))).1)), some (.int (nI (hLine kv nb (l.drop (nm - m))).2.1)), some (.int (bI (hLine kv nb (l.drop (nm - m))).2.2)), some (.int (nI m)), a5] [] := by
    intro j
    induction j with
    | zero =>
      intro m hm a5
      obtain rfl : m = nm := by omega
      rw [Nat.sub_self, List.drop_zero]
      refine x_iload4 B 11 dX2_keptByLine_9 rfl ?_
      refine x_aload0 B 12 dX2_keptByLine_11 rfl (by first | rfl | exact xisR_rf _) ?_
      refine g_X2_7_X2 B 15 (by repeat (first | with_reducible exact xr_h | refine xr_t ?_)) dX2_keptByLine_12 rfl ?_
      refine x_iconst B 16 (v := 1) dX2_keptByLine_15 (by decide) rfl ?_
      refine x_ialdv B 17 (by repeat (first | with_reducible exact xr_h | refine xr_t ?_)) (j := 1) (by first | (simp only [xlit, nI_add, pk_mul]; done) | rfl | (simp only [xlit, nI_add, pk_mul]; congr 1; omega)) ⟨by first | omega | decide, by first | decide | omega⟩ hT1 dX2_keptByLine_16 rfl ?_
      refine x_icmp_ge_t B 129 dX2_keptByLine_17 (by decide) (by (try simp only [xlit]); first | (rw [nI_leI (by omega) (by omega)]; omega) | (rw [nI_ltI (by omega) (by omega)]; omega) | (rw [nI_eq (by omega) (by omega)]; omega)) ?_
      cases e : (hLine kv nb l).2.2 with
      | true =>
        rw [if_pos e] at B
        refine x_iload3 B 130 dX2_keptByLine_129 rfl ?_
        refine x_if_eq_f (tp := 137) B 133 dX2_keptByLine_130 (by decide) rfl (by decide) ?_
        refine x_iload1 B 134 dX2_keptByLine_133 rfl ?_
        refine x_goto B 138 dX2_keptByLine_134 (by decide) ?_
        exact x_iret B rfl ⟨rfl, rfl⟩ dX2_keptByLine_138 ⟨by first | omega | decide, by first | omega | decide⟩
      | false =>
        rw [if_neg (by rw [e]; simp)] at B
        refine x_iload3 B 130 dX2_keptByLine_129 rfl ?_
        refine x_if_eq_t B 137 dX2_keptByLine_130 (by decide) rfl ?_
        refine x_iconst B 138 (v := (-1)) dX2_keptByLine_137 (by decide) rfl ?_
        exact x_iret B rfl ⟨rfl, rfl⟩ dX2_keptByLine_138 ⟨by first | omega | decide, by first | omega | decide⟩
    | succ j ih =>
      intro m hm a5
      have hm' : m < nm := by omega
      have hi : nm - 1 - m < l.length := by omega
      have hd0 : l.drop (nm - (m + 1)) = l.getD (nm - 1 - m) 0 :: l.drop (nm - m) := by
        rw [show nm - (m + 1) = nm - 1 - m by omega, List.drop_eq_getElem_cons hi, show nm - 1 - m + 1 = nm - m by omega, List.getD_eq_getElem?_getD, List.getElem?_eq_getElem hi]; rfl
      have hd8 := hmem _ (getD_mem hi)
      have hx := hrep m hm'
      have hdl : (l.drop (nm - m)).length = m := by rw [List.length_drop]; omega
      have ih2 := ih (m + 1) (by omega)
      rw [hd0] at ih2
      have hle := hLine_le hk hnb (l.drop (nm - m))
      generalize l.getD (nm - 1 - m) 0 = d at *
      generalize l.drop (nm - m) = r at *
      have e1 : hLine kv nb (d :: r) = ((hLine kv nb r).1 + (if d < nb then kv m d else 0), (hLine kv nb r).2.1 ||| (if d < nb then 2 ^ d else 0), (hLine kv nb r).2.2 && !(decide (d < nb) && (hLine kv nb r).2.1.testBit d)) := by
        show ((hLine kv nb r).1 + (if d < nb then kv r.length d else 0), _, _) = _
        rw [hdl]
      rw [e1] at ih2
      dsimp only at ih2
      generalize hLine kv nb r = q at *
      obtain ⟨sum, taken, ok⟩ := q
      dsimp only at *
      refine x_iload4 B 11 dX2_keptByLine_9 rfl ?_
      refine x_aload0 B 12 dX2_keptByLine_11 rfl (by first | rfl | exact xisR_rf _) ?_
      refine g_X2_7_X2 B 15 (by repeat (first | with_reducible exact xr_h | refine xr_t ?_)) dX2_keptByLine_12 rfl ?_
      refine x_iconst B 16 (v := 1) dX2_keptByLine_15 (by decide) rfl ?_
      refine x_ialdv B 17 (by repeat (first | with_reducible exact xr_h | refine xr_t ?_)) (j := 1) (by first | (simp only [xlit, nI_add, pk_mul]; done) | rfl | (simp only [xlit, nI_add, pk_mul]; congr 1; omega)) ⟨by first | omega | decide, by first | decide | omega⟩ hT1 dX2_keptByLine_16 rfl ?_
      refine x_icmp_ge_f (tp := 129) B 20 dX2_keptByLine_17 (by decide) rfl (by (try simp only [xlit]); first | (rw [nI_leI (by omega) (by omega)]; omega) | (rw [nI_ltI (by omega) (by omega)]; omega) | (rw [nI_eq (by omega) (by omega)]; omega)) ?_
      refine x_aload0 B 21 dX2_keptByLine_20 rfl (by first | rfl | exact xisR_rf _) ?_
      refine g_X2_98_X2 B 24 (by repeat (first | with_reducible exact xr_h | refine xr_t ?_)) dX2_keptByLine_21 rfl ?_
      refine x_iload4 B 26 dX2_keptByLine_24 rfl ?_
      refine x_ialdv B 27 (by repeat (first | with_reducible exact xr_h | refine xr_t ?_)) (j := m) (by first | (simp only [xlit, nI_add, pk_mul]; done) | rfl | (simp only [xlit, nI_add, pk_mul]; congr 1; omega)) ⟨by first | omega | decide, by first | decide | omega⟩ hx dX2_keptByLine_26 rfl ?_
      refine x_aload0 B 28 dX2_keptByLine_27 rfl (by first | rfl | exact xisR_rf _) ?_
      refine g_X2_7_X2 B 31 (by repeat (first | with_reducible exact xr_h | refine xr_t ?_)) dX2_keptByLine_28 rfl ?_
      refine x_iconst B 32 (v := 0) dX2_keptByLine_31 (by decide) rfl ?_
      refine x_ialdv B 33 (by repeat (first | with_reducible exact xr_h | refine xr_t ?_)) (j := 0) (by first | (simp only [xlit, nI_add, pk_mul]; done) | rfl | (simp only [xlit, nI_add, pk_mul]; congr 1; omega)) ⟨by first | omega | decide, by first | decide | omega⟩ hT0 dX2_keptByLine_32 rfl ?_
      by_cases c : d < nb
      · rw [if_pos c, if_pos c, decide_eq_true c, Bool.true_and] at ih2
        have hkv := hk m d
        have next : ∀ v : Bool, v = (ok && !taken.testBit d) → WX D X [tR D h ad iv, tI D ad 0 1404 row, tI D ad 38 32 kb, tI D ad 39 4 ln] 0 0 72 [some (.ref h), some (.int (nI sum)), some (.int (nI taken)), some (.int (bI v)), some (.int (nI m)), some (.int 1)] [] := by
          intro v hv
          subst hv
          refine x_iload2 B 73 dX2_keptByLine_72 rfl ?_
          refine x_iload5 B 75 dX2_keptByLine_73 rfl ?_
          refine x_if_eq_f (tp := 90) B 78 dX2_keptByLine_75 (by decide) rfl (by decide) ?_
          refine x_iconst B 79 (v := 1) dX2_keptByLine_78 (by decide) rfl ?_
          refine x_aload0 B 80 dX2_keptByLine_79 rfl (by first | rfl | exact xisR_rf _) ?_
          refine g_X2_98_X2 B 83 (by repeat (first | with_reducible exact xr_h | refine xr_t ?_)) dX2_keptByLine_80 rfl ?_
          refine x_iload4 B 85 dX2_keptByLine_83 rfl ?_
          refine x_ialdv B 86 (by repeat (first | with_reducible exact xr_h | refine xr_t ?_)) (j := m) (by first | (simp only [xlit, nI_add, pk_mul]; done) | rfl | (simp only [xlit, nI_add, pk_mul]; congr 1; omega)) ⟨by first | omega | decide, by first | decide | omega⟩ hx dX2_keptByLine_85 rfl ?_
          refine x_ishl B 87 dX2_keptByLine_86 rfl ?_
          rw [xshl1 (by omega)]
          refine x_goto B 91 dX2_keptByLine_87 (by decide) ?_
          refine x_ior B 92 dX2_keptByLine_91 rfl ?_
          rw [xor_nI]
          refine x_istore2 B 93 dX2_keptByLine_92 rfl ?_
          refine x_iload1 B 94 dX2_keptByLine_93 rfl ?_
          refine x_iload5 B 96 dX2_keptByLine_94 rfl ?_
          refine x_if_eq_f (tp := 120) B 99 dX2_keptByLine_96 (by decide) rfl (by decide) ?_
          refine x_aload0 B 100 dX2_keptByLine_99 rfl (by first | rfl | exact xisR_rf _) ?_
          refine g_X2_95_X2 B 103 (by repeat (first | with_reducible exact xr_h | refine xr_t ?_)) dX2_keptByLine_100 rfl ?_
          refine x_bipush B 105 (v := 8) dX2_keptByLine_103 (by decide) rfl ?_
          refine x_iload4 B 107 dX2_keptByLine_105 rfl ?_
          refine x_imul B 108 dX2_keptByLine_107 rfl ?_
          refine x_aload0 B 109 dX2_keptByLine_108 rfl (by first | rfl | exact xisR_rf _) ?_
          refine g_X2_98_X2 B 112 (by repeat (first | with_reducible exact xr_h | refine xr_t ?_)) dX2_keptByLine_109 rfl ?_
          refine x_iload4 B 114 dX2_keptByLine_112 rfl ?_
          refine x_ialdv B 115 (by repeat (first | with_reducible exact xr_h | refine xr_t ?_)) (j := m) (by first | (simp only [xlit, nI_add, pk_mul]; done) | rfl | (simp only [xlit, nI_add, pk_mul]; congr 1; omega)) ⟨by first | omega | decide, by first | decide | omega⟩ hx dX2_keptByLine_114 rfl ?_
          refine x_iadd B 116 dX2_keptByLine_115 rfl ?_
          refine x_ialdv B 117 (by repeat (first | with_reducible exact xr_h | refine xr_t ?_)) (j := 8 * m + d) (by first | (simp only [xlit, nI_add, pk_mul]; done) | rfl | (simp only [xlit, nI_add, pk_mul]; congr 1; omega)) ⟨by first | omega | decide, by first | decide | omega⟩ (hkb m d hm' c) dX2_keptByLine_116 rfl ?_
          refine x_goto B 121 dX2_keptByLine_117 (by decide) ?_
          refine x_iadd B 122 dX2_keptByLine_121 rfl ?_
          rw [nI_add]
          refine x_istore1 B 123 dX2_keptByLine_122 rfl ?_
          refine x_iinc4 B 126 dX2_keptByLine_123 rfl (by first | exact xinc _ | rfl) ?_
          refine x_goto B 9 dX2_keptByLine_126 (by decide) ?_
          exact ih2 _
        refine x_icmp_ge_f (tp := 40) B 36 dX2_keptByLine_33 (by decide) rfl (by (try simp only [xlit]); first | (rw [nI_leI (by omega) (by omega)]; omega) | (rw [nI_ltI (by omega) (by omega)]; omega) | (rw [nI_eq (by omega) (by omega)]; omega)) ?_
        refine x_iconst B 37 (v := 1) dX2_keptByLine_36 (by decide) rfl ?_
        refine x_goto B 41 dX2_keptByLine_37 (by decide) ?_
        refine x_istore5 B 43 dX2_keptByLine_41 rfl ?_
        refine x_iload3 B 44 dX2_keptByLine_43 rfl ?_
        cases eo : ok with
        | false =>
          refine x_if_eq_t B 70 dX2_keptByLine_44 (by decide) rfl ?_
          refine x_iconst B 71 (v := 0) dX2_keptByLine_70 (by decide) rfl ?_
          refine x_istore3 B 72 dX2_keptByLine_71 rfl ?_
          exact next false (by rw [eo]; rfl)
        | true =>
          refine x_if_eq_f (tp := 70) B 47 dX2_keptByLine_44 (by decide) rfl (by decide) ?_
          refine x_iload5 B 49 dX2_keptByLine_47 rfl ?_
          refine x_if_eq_f (tp := 66) B 52 dX2_keptByLine_49 (by decide) rfl (by decide) ?_
          refine x_iload2 B 53 dX2_keptByLine_52 rfl ?_
          refine x_aload0 B 54 dX2_keptByLine_53 rfl (by first | rfl | exact xisR_rf _) ?_
          refine g_X2_98_X2 B 57 (by repeat (first | with_reducible exact xr_h | refine xr_t ?_)) dX2_keptByLine_54 rfl ?_
          refine x_iload4 B 59 dX2_keptByLine_57 rfl ?_
          refine x_ialdv B 60 (by repeat (first | with_reducible exact xr_h | refine xr_t ?_)) (j := m) (by first | (simp only [xlit, nI_add, pk_mul]; done) | rfl | (simp only [xlit, nI_add, pk_mul]; congr 1; omega)) ⟨by first | omega | decide, by first | decide | omega⟩ hx dX2_keptByLine_59 rfl ?_
          refine x_callS B 63 (m_X2_has _ _) [] rfl q1938 q1939 q92 q1940 hd_X2_has rfl ⟨by first | decide | omega, by first | decide | omega⟩ ⟨by first | decide | omega, by first | decide | omega⟩ rfl (Nat.le_of_ble_eq_true rfl) dX2_keptByLine_60 rfl (fun _ _ _ h => h.elim) ?_
          rintro _ _ ⟨rfl, rfl⟩
          try simp only [xst, xput, xpre, List.set_cons_zero, List.set_cons_succ]
          rw [xhas_bit (by omega) (by omega)]
          by_cases c2 : taken.testBit d = true
          · rw [if_pos c2]
            refine x_if_ne_t B 70 dX2_keptByLine_63 (by decide) (by decide) ?_
            refine x_iconst B 71 (v := 0) dX2_keptByLine_70 (by decide) rfl ?_
            refine x_istore3 B 72 dX2_keptByLine_71 rfl ?_
            exact next false (by rw [eo, c2]; rfl)
          · rw [if_neg c2]
            refine x_if_ne_f (tp := 70) B 66 dX2_keptByLine_63 (by decide) rfl rfl ?_
            refine x_iconst B 67 (v := 1) dX2_keptByLine_66 (by decide) rfl ?_
            refine x_goto B 71 dX2_keptByLine_67 (by decide) ?_
            refine x_istore3 B 72 dX2_keptByLine_71 rfl ?_
            exact next true (by rw [Bool.not_eq_true] at c2; rw [eo, c2]; rfl)
      · rw [if_neg c, if_neg c, decide_eq_false c, Bool.false_and, Bool.not_false, Bool.and_true, Nat.add_zero, Nat.or_zero] at ih2
        have next : WX D X [tR D h ad iv, tI D ad 0 1404 row, tI D ad 38 32 kb, tI D ad 39 4 ln] 0 0 72 [some (.ref h), some (.int (nI sum)), some (.int (nI taken)), some (.int (bI ok)), some (.int (nI m)), some (.int 0)] [] := by
          refine x_iload2 B 73 dX2_keptByLine_72 rfl ?_
          refine x_iload5 B 75 dX2_keptByLine_73 rfl ?_
          refine x_if_eq_t B 90 dX2_keptByLine_75 (by decide) rfl ?_
          refine x_iconst B 91 (v := 0) dX2_keptByLine_90 (by decide) rfl ?_
          refine x_ior B 92 dX2_keptByLine_91 rfl ?_
          rw [show nI taken ||| 0 = nI taken from (xor_nI taken 0).trans (by rw [Nat.or_zero])]
          refine x_istore2 B 93 dX2_keptByLine_92 rfl ?_
          refine x_iload1 B 94 dX2_keptByLine_93 rfl ?_
          refine x_iload5 B 96 dX2_keptByLine_94 rfl ?_
          refine x_if_eq_t B 120 dX2_keptByLine_96 (by decide) rfl ?_
          refine x_iconst B 121 (v := 0) dX2_keptByLine_120 (by decide) rfl ?_
          refine x_iadd B 122 dX2_keptByLine_121 rfl ?_
          rw [show nI sum + 0 = nI sum from nI_add sum 0]
          refine x_istore1 B 123 dX2_keptByLine_122 rfl ?_
          refine x_iinc4 B 126 dX2_keptByLine_123 rfl (by first | exact xinc _ | rfl) ?_
          refine x_goto B 9 dX2_keptByLine_126 (by decide) ?_
          exact ih2 _
        refine x_icmp_ge_t B 40 dX2_keptByLine_33 (by decide) (by (try simp only [xlit]); first | (rw [nI_leI (by omega) (by omega)]; omega) | (rw [nI_ltI (by omega) (by omega)]; omega) | (rw [nI_eq (by omega) (by omega)]; omega)) ?_
        refine x_iconst B 41 (v := 0) dX2_keptByLine_40 (by decide) rfl ?_
        refine x_istore5 B 43 dX2_keptByLine_41 rfl ?_
        refine x_iload3 B 44 dX2_keptByLine_43 rfl ?_
        cases eo : ok with
        | false =>
          refine x_if_eq_t B 70 dX2_keptByLine_44 (by decide) rfl ?_
          refine x_iconst B 71 (v := 0) dX2_keptByLine_70 (by decide) rfl ?_
          refine x_istore3 B 72 dX2_keptByLine_71 rfl ?_
          rw [eo] at next
          exact next
        | true =>
          refine x_if_eq_f (tp := 70) B 47 dX2_keptByLine_44 (by decide) rfl (by decide) ?_
          refine x_iload5 B 49 dX2_keptByLine_47 rfl ?_
          refine x_if_eq_t B 66 dX2_keptByLine_49 (by decide) rfl ?_
          refine x_iconst B 67 (v := 1) dX2_keptByLine_66 (by decide) rfl ?_
          refine x_goto B 71 dX2_keptByLine_67 (by decide) ?_
          refine x_istore3 B 72 dX2_keptByLine_71 rfl ?_
          rw [eo] at next
          exact next
  refine x_iconst B 1 (v := 0) dX2_keptByLine_0 (by decide) rfl ?_
  refine x_istore1 B 2 dX2_keptByLine_1 rfl ?_
  refine x_iconst B 3 (v := 0) dX2_keptByLine_2 (by decide) rfl ?_
  refine x_istore2 B 4 dX2_keptByLine_3 rfl ?_
  refine x_iconst B 5 (v := 1) dX2_keptByLine_4 (by decide) rfl ?_
  refine x_istore3 B 6 dX2_keptByLine_5 rfl ?_
  refine x_iconst B 7 (v := 0) dX2_keptByLine_6 (by decide) rfl ?_
  refine x_istore4 B 9 dX2_keptByLine_7 rfl ?_
  have := loop nm 0 (by omega) none
  rw [Nat.sub_zero, List.drop_eq_nil_of_le (by omega)] at this
  exact this
theorem m_X2_nextLine (hT0 : row 0 = nI nb) (hT1 : row 1 = nI nm) (hnb : nb ≤ 8) (hnm : nm ≤ 4) (hl : LRep ln nb nm l) : XC D yX2_nextLine (ws_ yX2_nextLine cX2_nextLine 2 (Option.some Jvm.ClassFile.FieldType.boolean)) 0 0 (0) (0) [.ref h] [tR D h ad iv, tI D ad 0 1404 row, tI D ad 39 4 ln] (fun r cs' => r = some (.int (bI (hInc nb l).isSome)) ∧ ∃ ln', (∀ l', hInc nb l = some l' → LRep ln' nb nm l') ∧ cs' = [tR D h ad iv, tI D ad 0 1404 row, tI D ad 39 4 ln']) x0 := by
  refine XC.of (by decide) (by simp [Value.category]) (Nat.le_of_ble_eq_true rfl) fun X B => ?_
  show WX D X [tR D h ad iv, tI D ad 0 1404 row, tI D ad 39 4 ln] 0 0 0 [some (.ref h), none] []
  have hlen := hl.1
  have loop : ∀ (r : List Nat) (z : Nat) (ln1 : Nat → Int32), z + r.length = nm → LRep ln1 nb nm (List.replicate z 0 ++ r) → hInc nb l = (hInc nb r).map (fun y => List.replicate z 0 ++ y) → ∀ k : Int32, k = nI r.length - 1 → WX D X [tR D h ad iv, tI D ad 0 1404 row, tI D ad 39 4 ln1] 0 0 9 [some (.ref h), some (.int k)] [] := by
    intro r
    induction r with
    | nil =>
      intro z ln1 hz h1 h2 k hk
      have e2 : hInc nb l = none := h2
      rw [e2] at B
      subst hk
      refine x_iload1 B 10 dX2_nextLine_9 rfl ?_
      refine x_if_lt_t B 41 dX2_nextLine_10 (by decide) (by decide) ?_
      refine x_iload1 B 42 dX2_nextLine_41 rfl ?_
      refine x_if_lt_t B 55 dX2_nextLine_42 (by decide) (by decide) ?_
      refine x_iload1 B 56 dX2_nextLine_55 rfl ?_
      refine x_if_lt_t B 63 dX2_nextLine_56 (by decide) (by decide) ?_
      refine x_iconst B 64 (v := 0) dX2_nextLine_63 (by decide) rfl ?_
      exact x_zret B rfl ⟨rfl, ln1, (fun l' e => by cases e), rfl⟩ dX2_nextLine_64 ⟨by first | omega | decide, by first | omega | decide⟩ (by first | exact Or.inl rfl | exact Or.inr rfl | exact x_in01 _ _ _ | exact x_has01 _ _ | exact bI01 _ | assumption)
    | cons d r ih =>
      intro z ln1 hz h1 h2 k hk
      have hz : z + (r.length + 1) = nm := hz
      obtain rfl : k = nI r.length := by rw [hk, List.length_cons]; exact nI_pred r.length
      have hd : d ≤ nb := h1.2.1 d (by simp)
      have hx : ln1 r.length = nI d := by
        rw [h1.2.2 r.length (by omega), show nm - 1 - r.length = z by omega, List.getD_eq_getElem?_getD, List.getElem?_append_right (by simp), List.length_replicate, Nat.sub_self]
        rfl
      have e3 : hInc nb (d :: r) = if d = nb then (hInc nb r).map (fun z => 0 :: z) else some ((d + 1) :: r) := rfl
      refine x_iload1 B 10 dX2_nextLine_9 rfl ?_
      refine x_if_lt_f (tp := 41) B 13 dX2_nextLine_10 (by decide) rfl (nI_pos (by omega)) ?_
      refine x_aload0 B 14 dX2_nextLine_13 rfl (by first | rfl | exact xisR_rf _) ?_
      refine g_X2_98_X2 B 17 (by repeat (first | with_reducible exact xr_h | refine xr_t ?_)) dX2_nextLine_14 rfl ?_
      refine x_iload1 B 18 dX2_nextLine_17 rfl ?_
      refine x_ialdv B 19 (by repeat (first | with_reducible exact xr_h | refine xr_t ?_)) (j := r.length) (by first | (simp only [xlit, nI_add, pk_mul]; done) | rfl | (simp only [xlit, nI_add, pk_mul]; congr 1; omega)) ⟨by first | omega | decide, by first | decide | omega⟩ hx dX2_nextLine_18 rfl ?_
      refine x_aload0 B 20 dX2_nextLine_19 rfl (by first | rfl | exact xisR_rf _) ?_
      refine g_X2_7_X2 B 23 (by repeat (first | with_reducible exact xr_h | refine xr_t ?_)) dX2_nextLine_20 rfl ?_
      refine x_iconst B 24 (v := 0) dX2_nextLine_23 (by decide) rfl ?_
      refine x_ialdv B 25 (by repeat (first | with_reducible exact xr_h | refine xr_t ?_)) (j := 0) (by first | (simp only [xlit, nI_add, pk_mul]; done) | rfl | (simp only [xlit, nI_add, pk_mul]; congr 1; omega)) ⟨by first | omega | decide, by first | decide | omega⟩ hT0 dX2_nextLine_24 rfl ?_
      by_cases c : d = nb
      · rw [if_pos c] at e3
        refine x_icmp_ne_f (tp := 41) B 28 dX2_nextLine_25 (by decide) rfl (by (try simp only [xlit]); first | (rw [nI_leI (by omega) (by omega)]; omega) | (rw [nI_ltI (by omega) (by omega)]; omega) | (rw [nI_eq (by omega) (by omega)]; omega)) ?_
        refine x_aload0 B 29 dX2_nextLine_28 rfl (by first | rfl | exact xisR_rf _) ?_
        refine g_X2_98_X2 B 32 (by repeat (first | with_reducible exact xr_h | refine xr_t ?_)) dX2_nextLine_29 rfl ?_
        refine x_iload1 B 33 dX2_nextLine_32 rfl ?_
        refine x_iconst B 34 (v := 0) dX2_nextLine_33 (by decide) rfl ?_
        refine x_iast B 35 (by repeat (first | with_reducible exact xu_h | apply xu_t)) (j := r.length) (by first | (simp only [xlit, nI_add, pk_mul]; done) | rfl | (simp only [xlit, nI_add, pk_mul]; congr 1; omega)) ⟨by first | omega | decide, by first | decide | omega⟩ dX2_nextLine_34 rfl ?_
        refine x_iinc1 B 38 dX2_nextLine_35 rfl rfl ?_
        refine x_goto B 9 dX2_nextLine_38 (by decide) ?_
        refine ih (z + 1) _ (by omega) (by rw [← rep_cons]; exact h1.set (Nat.zero_le _)) (by rw [h2, e3, Option.map_map]; congr 1; funext y; exact rep_cons z y) _ ?_
        rw [Int32.sub_eq_add_neg]; rfl
      · rw [if_neg c] at e3
        have e4 : hInc nb l = some (List.replicate z 0 ++ (d + 1) :: r) := by rw [h2, e3]; rfl
        rw [e4] at B
        refine x_icmp_ne_t B 41 dX2_nextLine_25 (by decide) (by (try simp only [xlit]); first | (rw [nI_leI (by omega) (by omega)]; omega) | (rw [nI_ltI (by omega) (by omega)]; omega) | (rw [nI_eq (by omega) (by omega)]; omega)) ?_
        refine x_iload1 B 42 dX2_nextLine_41 rfl ?_
        refine x_if_lt_f (tp := 55) B 45 dX2_nextLine_42 (by decide) rfl (nI_pos (by omega)) ?_
        refine x_aload0 B 46 dX2_nextLine_45 rfl (by first | rfl | exact xisR_rf _) ?_
        refine g_X2_98_X2 B 49 (by repeat (first | with_reducible exact xr_h | refine xr_t ?_)) dX2_nextLine_46 rfl ?_
        refine x_iload1 B 50 dX2_nextLine_49 rfl ?_
        refine x_dup2 B 51 dX2_nextLine_50 rfl rfl rfl ?_
        refine x_ialdv B 52 (by repeat (first | with_reducible exact xr_h | refine xr_t ?_)) (j := r.length) (by first | (simp only [xlit, nI_add, pk_mul]; done) | rfl | (simp only [xlit, nI_add, pk_mul]; congr 1; omega)) ⟨by first | omega | decide, by first | decide | omega⟩ hx dX2_nextLine_51 rfl ?_
        refine x_iconst B 53 (v := 1) dX2_nextLine_52 (by decide) rfl ?_
        refine x_iadd B 54 dX2_nextLine_53 rfl ?_
        rw [show nI d + 1 = nI (d + 1) from nI_1 _]
        refine x_iast B 55 (by repeat (first | with_reducible exact xu_h | apply xu_t)) (j := r.length) (by first | (simp only [xlit, nI_add, pk_mul]; done) | rfl | (simp only [xlit, nI_add, pk_mul]; congr 1; omega)) ⟨by first | omega | decide, by first | decide | omega⟩ dX2_nextLine_54 rfl ?_
        refine x_iload1 B 56 dX2_nextLine_55 rfl ?_
        refine x_if_lt_f (tp := 63) B 59 dX2_nextLine_56 (by decide) rfl (nI_pos (by omega)) ?_
        refine x_iconst B 60 (v := 1) dX2_nextLine_59 (by decide) rfl ?_
        refine x_goto B 64 dX2_nextLine_60 (by decide) ?_
        exact x_zret B rfl ⟨rfl, _, (fun l' e => by cases e; exact h1.set (by omega)), rfl⟩ dX2_nextLine_64 ⟨by first | omega | decide, by first | omega | decide⟩ (by first | exact Or.inl rfl | exact Or.inr rfl | exact x_in01 _ _ _ | exact x_has01 _ _ | exact bI01 _ | assumption)
  refine x_aload0 B 1 dX2_nextLine_0 rfl (by first | rfl | exact xisR_rf _) ?_
  refine g_X2_7_X2 B 4 (by repeat (first | with_reducible exact xr_h | refine xr_t ?_)) dX2_nextLine_1 rfl ?_
  refine x_iconst B 5 (v := 1) dX2_nextLine_4 (by decide) rfl ?_
  refine x_ialdv B 6 (by repeat (first | with_reducible exact xr_h | refine xr_t ?_)) (j := 1) (by first | (simp only [xlit, nI_add, pk_mul]; done) | rfl | (simp only [xlit, nI_add, pk_mul]; congr 1; omega)) ⟨by first | omega | decide, by first | decide | omega⟩ hT1 dX2_nextLine_5 rfl ?_
  refine x_iconst B 7 (v := 1) dX2_nextLine_6 (by decide) rfl ?_
  refine x_isub B 8 dX2_nextLine_7 rfl ?_
  refine x_istore1 B 9 dX2_nextLine_8 rfl ?_
  refine loop l 0 ln (by omega) hl (by simp) _ (by rw [hlen])
theorem m_X2_match (hW : TW row iv nb nm kd N U) (n man : Int32) : XC D yX2_match (ws_ yX2_match cX2_match 7 (Option.some Jvm.ClassFile.FieldType.int)) 8 320 (0) (0) [.ref h, .int n, .int man] [tR D h ad iv, tI D ad 0 1404 row, tI D ad 36 64 sw, tI D ad 37 4 sm, tI D ad 38 32 kb, tI D ad 39 4 ln, tI D ad 40 4 bl] (fun r cs' => r = some (.int (sMatch nb nm kd N n man)) ∧ ∃ row' sw' sm' kb' ln' bl', TS 1296 1404 row row' ∧ cs' = [tR D h ad iv, tI D ad 0 1404 row', tI D ad 36 64 sw', tI D ad 37 4 sm', tI D ad 38 32 kb', tI D ad 39 4 ln', tI D ad 40 4 bl']) x0 := by
  refine XC.of (by decide) (by simp [Value.category]) (Nat.le_of_ble_eq_true rfl) fun X B => ?_
  show WX D X [tR D h ad iv, tI D ad 0 1404 row, tI D ad 36 64 sw, tI D ad 37 4 sm, tI D ad 38 32 kb, tI D ad 39 4 ln, tI D ad 40 4 bl] 0 0 0 [some (.ref h), some (.int n), some (.int man), none, none, none, none] []
  have hT := hW.1
  have hO := hW.2.1.1
  have hnb := hO.1
  have hnm := hO.2.1
  generalize hans : sMatch nb nm kd N n man = ans at B
  unfold sMatch at hans
  have go : ∀ y : Option Nat, toB man nm = some y → man = oI y → (∀ j, y = some j → j < nm) → WX D X [tR D h ad iv, tI D ad 0 1404 row, tI D ad 36 64 sw, tI D ad 37 4 sm, tI D ad 38 32 kb, tI D ad 39 4 ln, tI D ad 40 4 bl] 0 0 16 [some (.ref h), some (.int n), some (.int man), none, none, none, none] [] := by
    intro y hy hmy hyb
    rw [hy] at hans
    subst hmy
    dsimp only at hans
    refine x_iload1 B 17 dX2_match_16 rfl ?_
    refine x_i2l B 18 dX2_match_17 rfl ?_
    refine x_lconst B 19 (v := 1) dX2_match_18 (by decide) rfl ?_
    refine x_ldc2 B 22 dX2_match_19 q2128 rfl ?_
    refine x_callS B 25 (m_X2_in _ _ _) [] rfl q1869 q1870 q92 q1871 hd_X2_in rfl ⟨by first | decide | omega, by first | decide | omega⟩ ⟨by first | decide | omega, by first | decide | omega⟩ rfl (Nat.le_of_ble_eq_true rfl) dX2_match_22 rfl (fun _ _ _ h => h.elim) ?_
    rintro _ _ ⟨rfl, rfl⟩
    try simp only [xst, xput, xpre, List.set_cons_zero, List.set_cons_succ]
    rw [show x_in n.toInt64 1 20 = bI (toR n 1 21).isSome from xinR n 1 20 rfl rfl (by decide) (by decide)]
    rcases toR_c n 1 21 (by omega) with ⟨e, e'⟩ | ⟨n, hn0, hn, rfl, e, e'⟩
    · rw [e']
      rw [e] at hans; dsimp only at hans; subst hans
      refine x_if_ne_f (tp := 31) B 28 dX2_match_25 (by decide) rfl rfl ?_
      refine x_bipush B 30 (v := (-3)) dX2_match_28 (by decide) rfl ?_
      exact x_iret B rfl ⟨rfl, _, _, _, _, _, _, TS.rf, rfl⟩ dX2_match_30 ⟨by first | omega | decide, by first | omega | decide⟩
    rw [e']
    rw [e] at hans; dsimp only at hans
    refine x_if_ne_t B 31 dX2_match_25 (by decide) (by decide) ?_
    generalize hkv : (fun m b => hKeep kd nb nm N m b n) = kv at hans
    have hk10 : ∀ m b, kv m b ≤ 10 := by intro m b; rw [← hkv]; exact hBits_le _ 10
    -- the end
    have fin : ∀ row' sw' sm' kb' ln' bl' a5 a6, row' 0 = nI nb → TS 1296 1404 row row' → BRep bl' nb nm (hRec kv nb nm [] (none, [])) → WX D X [tR D h ad iv, tI D ad 0 1404 row', tI D ad 36 64 sw', tI D ad 37 4 sm', tI D ad 38 32 kb', tI D ad 39 4 ln', tI D ad 40 4 bl'] 0 0 113 [some (.ref h), some (.int (nI n)), some (.int (oI y)), some (.int (oI (hRec kv nb nm [] (none, [])).1)), some (.int 0), a5, a6] [] := by
      intro row' sw' sm' kb' ln' bl' a5 a6 h0 h2 h3
      have hne := hRec_some (kv := kv) (nb := nb) nm [] (none, []) (fun x hx => by cases hx)
      generalize hRec kv nb nm [] (none, []) = st at *
      refine x_iload4 B 115 dX2_match_113 rfl ?_
      refine x_if_eq_t B 171 dX2_match_115 (by decide) rfl ?_
      cases y with
      | none =>
        dsimp only at hans; subst hans
        refine x_iload2 B 172 dX2_match_171 rfl ?_
        refine x_iconst B 173 (v := (-1)) dX2_match_172 (by decide) rfl ?_
        refine x_icmp_ne_f (tp := 180) B 176 dX2_match_173 (by decide) rfl rfl ?_
        refine x_iload3 B 177 dX2_match_176 rfl ?_
        refine x_goto B 205 dX2_match_177 (by decide) ?_
        exact x_iret B rfl ⟨rfl, _, _, _, _, _, _, h2, rfl⟩ dX2_match_205 ⟨by first | omega | decide, by first | omega | decide⟩
      | some m =>
        dsimp only at hans
        have hm := hyb m rfl
        obtain ⟨v, hv⟩ := Option.ne_none_iff_exists'.mp hne
        obtain ⟨-, l1, l2, l3⟩ := h3 v hv
        have hx := l3 m hm
        have hd8 := l2 _ (getD_mem (l := st.2) (i := nm - 1 - m) (by omega))
        generalize st.2.getD (nm - 1 - m) 0 = d at *
        refine x_iload2 B 172 dX2_match_171 rfl ?_
        refine x_iconst B 173 (v := (-1)) dX2_match_172 (by decide) rfl ?_
        refine x_icmp_ne_t B 180 dX2_match_173 (by decide) (ne_m1 (by omega)) ?_
        rw [show oI (some m) = nI m from rfl]
        refine x_aload0 B 181 dX2_match_180 rfl (by first | rfl | exact xisR_rf _) ?_
        refine g_X2_101_X2 B 184 (by repeat (first | with_reducible exact xr_h | refine xr_t ?_)) dX2_match_181 rfl ?_
        refine x_iload2 B 185 dX2_match_184 rfl ?_
        refine x_ialdv B 186 (by repeat (first | with_reducible exact xr_h | refine xr_t ?_)) (j := m) (by first | (simp only [xlit, nI_add, pk_mul]; done) | rfl | (simp only [xlit, nI_add, pk_mul]; congr 1; omega)) ⟨by first | omega | decide, by first | decide | omega⟩ hx dX2_match_185 rfl ?_
        refine x_aload0 B 187 dX2_match_186 rfl (by first | rfl | exact xisR_rf _) ?_
        refine g_X2_7_X2 B 190 (by repeat (first | with_reducible exact xr_h | refine xr_t ?_)) dX2_match_187 rfl ?_
        refine x_iconst B 191 (v := 0) dX2_match_190 (by decide) rfl ?_
        refine x_ialdv B 192 (by repeat (first | with_reducible exact xr_h | refine xr_t ?_)) (j := 0) (by first | (simp only [xlit, nI_add, pk_mul]; done) | rfl | (simp only [xlit, nI_add, pk_mul]; congr 1; omega)) ⟨by first | omega | decide, by first | decide | omega⟩ h0 dX2_match_191 rfl ?_
        by_cases c : d = nb
        · rw [if_pos c] at hans; subst hans
          refine x_icmp_ne_f (tp := 199) B 195 dX2_match_192 (by decide) rfl (by (try simp only [xlit]); first | (rw [nI_leI (by omega) (by omega)]; omega) | (rw [nI_ltI (by omega) (by omega)]; omega) | (rw [nI_eq (by omega) (by omega)]; omega)) ?_
          refine x_iconst B 196 (v := (-1)) dX2_match_195 (by decide) rfl ?_
          refine x_goto B 205 dX2_match_196 (by decide) ?_
          exact x_iret B rfl ⟨rfl, _, _, _, _, _, _, h2, rfl⟩ dX2_match_205 ⟨by first | omega | decide, by first | omega | decide⟩
        · rw [if_neg c] at hans; subst hans
          refine x_icmp_ne_t B 199 dX2_match_192 (by decide) (by (try simp only [xlit]); first | (rw [nI_leI (by omega) (by omega)]; omega) | (rw [nI_ltI (by omega) (by omega)]; omega) | (rw [nI_eq (by omega) (by omega)]; omega)) ?_
          refine x_aload0 B 200 dX2_match_199 rfl (by first | rfl | exact xisR_rf _) ?_
          refine g_X2_101_X2 B 203 (by repeat (first | with_reducible exact xr_h | refine xr_t ?_)) dX2_match_200 rfl ?_
          refine x_iload2 B 204 dX2_match_203 rfl ?_
          refine x_ialdv B 205 (by repeat (first | with_reducible exact xr_h | refine xr_t ?_)) (j := m) (by first | (simp only [xlit, nI_add, pk_mul]; done) | rfl | (simp only [xlit, nI_add, pk_mul]; congr 1; omega)) ⟨by first | omega | decide, by first | decide | omega⟩ hx dX2_match_204 rfl ?_
          exact x_iret B rfl ⟨rfl, _, _, _, _, _, _, h2, rfl⟩ dX2_match_205 ⟨by first | omega | decide, by first | omega | decide⟩
    -- all lines
    have all : ∀ row' sw' sm' kb', row' 0 = nI nb → row' 1 = nI nm → TS 1296 1404 row row' → (∀ m b, m < nm → b < nb → kb' (8 * m + b) = nI (kv m b)) → ∀ (j : Nat) (r : List Nat) (st : HMt) (ln1 bl1 : Nat → Int32), r.length + j = nm → LRep ln1 nb nm (List.replicate j 0 ++ r) → BRep bl1 nb nm st → (∀ (ln2 bl2 : Nat → Int32) a5 a6, (∀ r', hInc nb r = some r' → LRep ln2 nb nm (List.replicate j 0 ++ r')) → BRep bl2 nb nm (hRec kv nb j r st) → WX D X [tR D h ad iv, tI D ad 0 1404 row', tI D ad 36 64 sw', tI D ad 37 4 sm', tI D ad 38 32 kb', tI D ad 39 4 ln2, tI D ad 40 4 bl2] 0 0 113 [some (.ref h), some (.int (nI n)), some (.int (oI y)), some (.int (oI (hRec kv nb j r st).1)), some (.int (bI (hInc nb r).isSome)), a5, a6] []) → ∀ a5 a6, WX D X [tR D h ad iv, tI D ad 0 1404 row', tI D ad 36 64 sw', tI D ad 37 4 sm', tI D ad 38 32 kb', tI D ad 39 4 ln1, tI D ad 40 4 bl1] 0 0 113 [some (.ref h), some (.int (nI n)), some (.int (oI y)), some (.int (oI st.1)), some (.int 1), a5, a6] [] := by
      intro row' sw' sm' kb' h0 h1 h2 hkb j
      induction j with
      | zero =>
        intro r st ln1 bl1 hr hl hb K a5 a6
        have hl : LRep ln1 nb nm r := hl
        have hle := (hLine_le hk10 hnb r).1
        have hs : hRec kv nb 0 r st = hStp kv nb st r := rfl
        rw [hs] at K
        have after : ∀ bl2 a6, BRep bl2 nb nm (hStp kv nb st r) → WX D X [tR D h ad iv, tI D ad 0 1404 row', tI D ad 36 64 sw', tI D ad 37 4 sm', tI D ad 38 32 kb', tI D ad 39 4 ln1, tI D ad 40 4 bl2] 0 0 162 [some (.ref h), some (.int (nI n)), some (.int (oI y)), some (.int (oI (hStp kv nb st r).1)), some (.int 1), some (.int (if (hLine kv nb r).2.2 = true then nI (hLine kv nb r).1 else -1)), a6] [] := by
          intro bl2 a6 hb2
          refine x_aload0 B 163 dX2_match_162 rfl (by first | rfl | exact xisR_rf _) ?_
          refine x_callV B 166 (m_X2_nextLine h0 h1 hnb hnm hl) [0, 1, 5] rfl ⟨_, _, _, (by repeat (first | with_reducible exact xr_h | refine xr_t ?_)), rfl, rfl⟩ q2144 q2146 qs77 q92 q2147 hd_X2_nextLine (by decide) ⟨by first | decide | omega, by first | decide | omega⟩ ⟨by first | decide | omega, by first | decide | omega⟩ rfl (Nat.le_of_ble_eq_true rfl) dX2_match_163 rfl (fun _ _ _ h => h.elim) ?_
          rintro _ _ ⟨rfl, ln2, l2, rfl⟩
          try simp only [xst, xput, xpre, List.set_cons_zero, List.set_cons_succ]
          refine x_istore4 B 168 dX2_match_166 rfl ?_
          refine x_goto B 113 dX2_match_168 (by decide) ?_
          exact K ln2 bl2 _ _ l2 hb2
        refine x_iload4 B 115 dX2_match_113 rfl ?_
        refine x_if_eq_f (tp := 171) B 118 dX2_match_115 (by decide) rfl (by decide) ?_
        refine x_aload0 B 119 dX2_match_118 rfl (by first | rfl | exact xisR_rf _) ?_
        refine x_callV B 122 (m_X2_keptByLine h0 h1 hnb hnm hl hk10 hkb) [0, 1, 4, 5] rfl ⟨_, _, _, (by repeat (first | with_reducible exact xr_h | refine xr_t ?_)), rfl, rfl⟩ q2140 q2142 qs76 q92 q2143 hd_X2_keptByLine (by decide) ⟨by first | decide | omega, by first | decide | omega⟩ ⟨by first | decide | omega, by first | decide | omega⟩ rfl (Nat.le_of_ble_eq_true rfl) dX2_match_119 rfl (fun _ _ _ h => h.elim) ?_
        rintro _ _ ⟨rfl, rfl⟩
        try simp only [xst, xput, xpre, List.set_cons_zero, List.set_cons_succ]
        have hst : ∀ v, st.1 = some v → v < 2147483648 := fun v e => by have := (hb v e).1; omega
        by_cases c : (hLine kv nb r).2.2 = true ∧ (st.1 = none ∨ ∃ v, st.1 = some v ∧ v < (hLine kv nb r).1)
        · have e5 : hStp kv nb st r = (some (hLine kv nb r).1, r) := by unfold hStp; rw [if_pos c]
          rw [e5] at after
          rw [if_pos c.1] at after ⊢
          have g1 : ¬ nI (hLine kv nb r).1 ≤ oI st.1 := by
            rcases c.2 with q | ⟨v, q, q2⟩
            · rw [q]; exact Int32.not_le.mpr (Int32.lt_of_lt_of_le (b := 0) (by decide) (nI_pos' (by omega)))
            · have := (hb v q).1; rw [q]; show ¬ nI _ ≤ nI v; rw [nI_leI (by omega) (by omega)]; omega
          refine x_istore5 B 124 dX2_match_122 rfl ?_
          refine x_iload5 B 126 dX2_match_124 rfl ?_
          refine x_iload3 B 127 dX2_match_126 rfl ?_
          refine x_icmp_le_f (tp := 162) B 130 dX2_match_127 (by decide) rfl g1 ?_
          have copy : ∀ (i m : Nat), m + i = 4 → ∀ bl2, (∀ x, x < m → bl2 x = ln1 x) → WX D X [tR D h ad iv, tI D ad 0 1404 row', tI D ad 36 64 sw', tI D ad 37 4 sm', tI D ad 38 32 kb', tI D ad 39 4 ln1, tI D ad 40 4 bl2] 0 0 136 [some (.ref h), some (.int (nI n)), some (.int (oI y)), some (.int (nI (hLine kv nb r).1)), some (.int 1), some (.int (nI (hLine kv nb r).1)), some (.int (nI m))] [] := by
            intro i
            induction i with
            | zero =>
              intro m hm bl2 hx
              obtain rfl : m = 4 := by omega
              refine x_iload6 B 138 dX2_match_136 rfl ?_
              refine x_iconst B 139 (v := 4) dX2_match_138 (by decide) rfl ?_
              refine x_icmp_ge_t B 162 dX2_match_139 (by decide) (by (try simp only [xlit]); first | (rw [nI_leI (by omega) (by omega)]; omega) | (rw [nI_ltI (by omega) (by omega)]; omega) | (rw [nI_eq (by omega) (by omega)]; omega)) ?_
              exact after bl2 _ (fun v e => by cases e; have := hl.1; exact ⟨by omega, hl.1, hl.2.1, fun m hm => by rw [hx m (by omega)]; exact hl.2.2 m hm⟩)
            | succ i ihi =>
              intro m hm bl2 hx
              refine x_iload6 B 138 dX2_match_136 rfl ?_
              refine x_iconst B 139 (v := 4) dX2_match_138 (by decide) rfl ?_
              refine x_icmp_ge_f (tp := 162) B 142 dX2_match_139 (by decide) rfl (by (try simp only [xlit]); first | (rw [nI_leI (by omega) (by omega)]; omega) | (rw [nI_ltI (by omega) (by omega)]; omega) | (rw [nI_eq (by omega) (by omega)]; omega)) ?_
              refine x_aload0 B 143 dX2_match_142 rfl (by first | rfl | exact xisR_rf _) ?_
              refine g_X2_101_X2 B 146 (by repeat (first | with_reducible exact xr_h | refine xr_t ?_)) dX2_match_143 rfl ?_
              refine x_iload6 B 148 dX2_match_146 rfl ?_
              refine x_aload0 B 149 dX2_match_148 rfl (by first | rfl | exact xisR_rf _) ?_
              refine g_X2_98_X2 B 152 (by repeat (first | with_reducible exact xr_h | refine xr_t ?_)) dX2_match_149 rfl ?_
              refine x_iload6 B 154 dX2_match_152 rfl ?_
              refine x_iald B 155 (by repeat (first | with_reducible exact xr_h | refine xr_t ?_)) (j := m) (by first | (simp only [xlit, nI_add, pk_mul]; done) | rfl | (simp only [xlit, nI_add, pk_mul]; congr 1; omega)) ⟨by first | omega | decide, by first | decide | omega⟩ dX2_match_154 rfl ?_
              refine x_iast B 156 (by repeat (first | with_reducible exact xu_h | apply xu_t)) (j := m) (by first | (simp only [xlit, nI_add, pk_mul]; done) | rfl | (simp only [xlit, nI_add, pk_mul]; congr 1; omega)) ⟨by first | omega | decide, by first | decide | omega⟩ dX2_match_155 rfl ?_
              refine x_iinc6 B 159 dX2_match_156 rfl (by first | exact xinc _ | rfl) ?_
              refine x_goto B 136 dX2_match_159 (by decide) ?_
              refine ihi (m + 1) (by omega) _ (fun x hx2 => ?_)
              by_cases q : x = m
              · subst q; rw [pk_us]
              · rw [pk_un q]; exact hx x (by omega)
          refine x_iload5 B 132 dX2_match_130 rfl ?_
          refine x_istore3 B 133 dX2_match_132 rfl ?_
          refine x_iconst B 134 (v := 0) dX2_match_133 (by decide) rfl ?_
          refine x_istore6 B 136 dX2_match_134 rfl ?_
          exact copy 4 0 rfl bl1 (fun x hx => by omega)
        · have e5 : hStp kv nb st r = st := by unfold hStp; rw [if_neg c]
          rw [e5] at after
          have g1 : (if (hLine kv nb r).2.2 = true then nI (hLine kv nb r).1 else -1) ≤ oI st.1 := by
            by_cases q : (hLine kv nb r).2.2 = true
            · rw [if_pos q]
              cases e6 : st.1 with
              | none => exact absurd ⟨q, Or.inl e6⟩ c
              | some v =>
                have := (hb v e6).1
                show nI _ ≤ nI v
                rw [nI_leI (by omega) (by omega)]
                rcases Nat.lt_or_ge v (hLine kv nb r).1 with q2 | q2
                · exact absurd ⟨q, Or.inr ⟨v, e6, q2⟩⟩ c
                · exact q2
            · rw [if_neg q]
              cases e6 : st.1 with
              | none => exact Int32.le_refl _
              | some v => have := (hb v e6).1; exact Int32.le_of_lt (Int32.lt_of_lt_of_le (b := 0) (by decide) (nI_pos' (by omega)))
          refine x_istore5 B 124 dX2_match_122 rfl ?_
          refine x_iload5 B 126 dX2_match_124 rfl ?_
          refine x_iload3 B 127 dX2_match_126 rfl ?_
          refine x_icmp_le_t B 162 dX2_match_127 (by decide) g1 ?_
          exact after bl1 _ hb
      | succ j ihj =>
        intro r st ln1 bl1 hr hl hb K a5 a6
        have inner : ∀ (i d : Nat), d + i = nb → ∀ (st1 : HMt) (ln2 bl2 : Nat → Int32) a5 a6, LRep ln2 nb nm (List.replicate j 0 ++ d :: r) → BRep bl2 nb nm st1 → (List.range' d (nb + 1 - d)).foldl (fun s d => hRec kv nb j (d :: r) s) st1 = hRec kv nb (j + 1) r st → WX D X [tR D h ad iv, tI D ad 0 1404 row', tI D ad 36 64 sw', tI D ad 37 4 sm', tI D ad 38 32 kb', tI D ad 39 4 ln2, tI D ad 40 4 bl2] 0 0 113 [some (.ref h), some (.int (nI n)), some (.int (oI y)), some (.int (oI st1.1)), some (.int 1), a5, a6] [] := by
          intro i
          induction i with
          | zero =>
            intro d hd st1 ln2 bl2 a5 a6 gl gb ge
            obtain rfl : d = nb := by omega
            rw [show d + 1 - d = 1 by omega] at ge
            have ge : hRec kv d j (d :: r) st1 = hRec kv d (j + 1) r st := ge
            have e7 : hInc d (d :: r) = (hInc d r).map (fun z => 0 :: z) := by show (if d = d then _ else _) = _; rw [if_pos rfl]
            refine ihj (d :: r) st1 ln2 bl2 (by simp; omega) gl gb (fun ln3 bl3 a5 a6 q1 q2 => ?_) _ _
            rw [ge, e7, Option.isSome_map]
            rw [ge] at q2
            exact K ln3 bl3 a5 a6 (fun r' e8 => by rw [← rep_cons]; exact q1 (0 :: r') (by rw [e7, e8]; rfl)) q2
          | succ i ihi =>
            intro d hd st1 ln2 bl2 a5 a6 gl gb ge
            rw [show nb + 1 - d = (nb + 1 - (d + 1)) + 1 by omega, List.range'_succ, List.foldl_cons] at ge
            have e7 : hInc nb (d :: r) = some ((d + 1) :: r) := by show (if d = nb then _ else _) = _; rw [if_neg (by omega)]
            refine ihj (d :: r) st1 ln2 bl2 (by simp; omega) gl gb (fun ln3 bl3 a5 a6 q1 q2 => ?_) _ _
            rw [e7]
            exact ihi (d + 1) (by omega) _ ln3 bl3 a5 a6 (q1 _ e7) q2 ge
        refine inner nb 0 (by omega) st ln1 bl1 a5 a6 (by rw [rep_cons]; exact hl) hb ?_
        show _ = (List.range (nb + 1)).foldl (fun s d => hRec kv nb j (d :: r) s) st
        rw [List.range_eq_range']; rfl
    -- no line yet
    have zero : ∀ row' sw' sm' kb', row' 0 = nI nb → row' 1 = nI nm → TS 1296 1404 row row' → (∀ m b, m < nm → b < nb → kb' (8 * m + b) = nI (kv m b)) → ∀ (i m : Nat), m + i = 4 → ∀ ln1 : Nat → Int32, (∀ x, x < m → ln1 x = 0) → WX D X [tR D h ad iv, tI D ad 0 1404 row', tI D ad 36 64 sw', tI D ad 37 4 sm', tI D ad 38 32 kb', tI D ad 39 4 ln1, tI D ad 40 4 bl] 0 0 90 [some (.ref h), some (.int (nI n)), some (.int (oI y)), some (.int (nI m)), none, none, none] [] := by
      intro row' sw' sm' kb' h0 h1 h2 hkb i
      induction i with
      | zero =>
        intro m hm ln1 hx
        obtain rfl : m = 4 := by omega
        refine x_iload3 B 91 dX2_match_90 rfl ?_
        refine x_iconst B 92 (v := 4) dX2_match_91 (by decide) rfl ?_
        refine x_icmp_ge_t B 108 dX2_match_92 (by decide) (by (try simp only [xlit]); first | (rw [nI_leI (by omega) (by omega)]; omega) | (rw [nI_ltI (by omega) (by omega)]; omega) | (rw [nI_eq (by omega) (by omega)]; omega)) ?_
        refine x_iconst B 109 (v := (-1)) dX2_match_108 (by decide) rfl ?_
        refine x_istore3 B 110 dX2_match_109 rfl ?_
        refine x_iconst B 111 (v := 1) dX2_match_110 (by decide) rfl ?_
        refine x_istore4 B 113 dX2_match_111 rfl ?_
        refine all row' sw' sm' kb' h0 h1 h2 hkb nm [] (none, []) ln1 bl (by simp) ⟨by simp, fun x hx => by simp at hx; omega, fun m hm => ?_⟩ (fun v e => by cases e) (fun ln2 bl2 a5 a6 _ q2 => fin row' sw' sm' kb' ln2 bl2 a5 a6 h0 h2 q2) _ _
        rw [hx m (by omega), List.append_nil, List.getD_eq_getElem?_getD]
        rw [List.getElem?_replicate]
        split <;> rfl
      | succ i ihi =>
        intro m hm ln1 hx
        refine x_iload3 B 91 dX2_match_90 rfl ?_
        refine x_iconst B 92 (v := 4) dX2_match_91 (by decide) rfl ?_
        refine x_icmp_ge_f (tp := 108) B 95 dX2_match_92 (by decide) rfl (by (try simp only [xlit]); first | (rw [nI_leI (by omega) (by omega)]; omega) | (rw [nI_ltI (by omega) (by omega)]; omega) | (rw [nI_eq (by omega) (by omega)]; omega)) ?_
        refine x_aload0 B 96 dX2_match_95 rfl (by first | rfl | exact xisR_rf _) ?_
        refine g_X2_98_X2 B 99 (by repeat (first | with_reducible exact xr_h | refine xr_t ?_)) dX2_match_96 rfl ?_
        refine x_iload3 B 100 dX2_match_99 rfl ?_
        refine x_iconst B 101 (v := 0) dX2_match_100 (by decide) rfl ?_
        refine x_iast B 102 (by repeat (first | with_reducible exact xu_h | apply xu_t)) (j := m) (by first | (simp only [xlit, nI_add, pk_mul]; done) | rfl | (simp only [xlit, nI_add, pk_mul]; congr 1; omega)) ⟨by first | omega | decide, by first | decide | omega⟩ dX2_match_101 rfl ?_
        refine x_iinc3 B 105 dX2_match_102 rfl (by first | exact xinc _ | rfl) ?_
        refine x_goto B 90 dX2_match_105 (by decide) ?_
        refine ihi (m + 1) (by omega) _ (fun x hx2 => ?_)
        by_cases q : x = m
        · subst q; rw [pk_us]
        · rw [pk_un q]; exact hx x (by omega)
    -- what each keeps by each
    have keep : ∀ (i k : Nat), k + i = 8 * nm → ∀ row' sw' sm' kb', TS 1296 1404 row row' → (∀ m b, 8 * m + b < k → m < nm → b < nb → kb' (8 * m + b) = nI (kv m b)) → WX D X [tR D h ad iv, tI D ad 0 1404 row', tI D ad 36 64 sw', tI D ad 37 4 sm', tI D ad 38 32 kb', tI D ad 39 4 ln, tI D ad 40 4 bl] 0 0 33 [some (.ref h), some (.int (nI n)), some (.int (oI y)), some (.int (nI k)), none, none, none] [] := by
      intro i
      induction i with
      | zero =>
        intro k hk row' sw' sm' kb' h2 h3
        obtain rfl : k = 8 * nm := by omega
        have h0 : row' 0 = nI nb := (h2 0 (by omega)).trans hT.1
        have h1 : row' 1 = nI nm := (h2 1 (by omega)).trans hT.2.1
        refine x_iload3 B 34 dX2_match_33 rfl ?_
        refine x_bipush B 36 (v := 8) dX2_match_34 (by decide) rfl ?_
        refine x_aload0 B 37 dX2_match_36 rfl (by first | rfl | exact xisR_rf _) ?_
        refine g_X2_7_X2 B 40 (by repeat (first | with_reducible exact xr_h | refine xr_t ?_)) dX2_match_37 rfl ?_
        refine x_iconst B 41 (v := 1) dX2_match_40 (by decide) rfl ?_
        refine x_ialdv B 42 (by repeat (first | with_reducible exact xr_h | refine xr_t ?_)) (j := 1) (by first | (simp only [xlit, nI_add, pk_mul]; done) | rfl | (simp only [xlit, nI_add, pk_mul]; congr 1; omega)) ⟨by first | omega | decide, by first | decide | omega⟩ h1 dX2_match_41 rfl ?_
        refine x_imul B 43 dX2_match_42 rfl ?_
        rw [show (8 : Int32) * nI nm = nI (8 * nm) from pk_mul 8 nm]
        refine x_icmp_ge_t B 88 dX2_match_43 (by decide) (by (try simp only [xlit]); first | (rw [nI_leI (by omega) (by omega)]; omega) | (rw [nI_ltI (by omega) (by omega)]; omega) | (rw [nI_eq (by omega) (by omega)]; omega)) ?_
        refine x_iconst B 89 (v := 0) dX2_match_88 (by decide) rfl ?_
        refine x_istore3 B 90 dX2_match_89 rfl ?_
        exact zero row' sw' sm' kb' h0 h1 h2 (fun m b hm hb => h3 m b (by omega) hm hb) 4 0 rfl ln (fun x hx => by omega)
      | succ i ihi =>
        intro k hk row' sw' sm' kb' h2 h3
        have h0 : row' 0 = nI nb := (h2 0 (by omega)).trans hT.1
        have h1 : row' 1 = nI nm := (h2 1 (by omega)).trans hT.2.1
        have hW' := hW.tried h2
        have next : ∀ row2 sw2 sm2 (v : Int32), TS 1296 1404 row row2 → (k % 8 < nb → v = nI (kv (k / 8) (k % 8))) → WX D X [tR D h ad iv, tI D ad 0 1404 row2, tI D ad 36 64 sw2, tI D ad 37 4 sm2, tI D ad 38 32 (upd kb' k v), tI D ad 39 4 ln, tI D ad 40 4 bl] 0 0 82 [some (.ref h), some (.int (nI n)), some (.int (oI y)), some (.int (nI k)), none, none, none] [] := by
          intro row2 sw2 sm2 v g1 g2
          refine x_iinc3 B 85 dX2_match_82 rfl (by first | exact xinc _ | rfl) ?_
          refine x_goto B 33 dX2_match_85 (by decide) ?_
          refine ihi (k + 1) (by omega) row2 sw2 sm2 _ g1 (fun m b hm hb hc => ?_)
          by_cases q : 8 * m + b = k
          · rw [q, pk_us, g2 (by omega)]
            congr 2 <;> omega
          · rw [pk_un q]; exact h3 m b (by omega) hb hc
        refine x_iload3 B 34 dX2_match_33 rfl ?_
        refine x_bipush B 36 (v := 8) dX2_match_34 (by decide) rfl ?_
        refine x_aload0 B 37 dX2_match_36 rfl (by first | rfl | exact xisR_rf _) ?_
        refine g_X2_7_X2 B 40 (by repeat (first | with_reducible exact xr_h | refine xr_t ?_)) dX2_match_37 rfl ?_
        refine x_iconst B 41 (v := 1) dX2_match_40 (by decide) rfl ?_
        refine x_ialdv B 42 (by repeat (first | with_reducible exact xr_h | refine xr_t ?_)) (j := 1) (by first | (simp only [xlit, nI_add, pk_mul]; done) | rfl | (simp only [xlit, nI_add, pk_mul]; congr 1; omega)) ⟨by first | omega | decide, by first | decide | omega⟩ h1 dX2_match_41 rfl ?_
        refine x_imul B 43 dX2_match_42 rfl ?_
        rw [show (8 : Int32) * nI nm = nI (8 * nm) from pk_mul 8 nm]
        refine x_icmp_ge_f (tp := 88) B 46 dX2_match_43 (by decide) rfl (by (try simp only [xlit]); first | (rw [nI_leI (by omega) (by omega)]; omega) | (rw [nI_ltI (by omega) (by omega)]; omega) | (rw [nI_eq (by omega) (by omega)]; omega)) ?_
        refine x_aload0 B 47 dX2_match_46 rfl (by first | rfl | exact xisR_rf _) ?_
        refine g_X2_95_X2 B 50 (by repeat (first | with_reducible exact xr_h | refine xr_t ?_)) dX2_match_47 rfl ?_
        refine x_iload3 B 51 dX2_match_50 rfl ?_
        refine x_iload3 B 52 dX2_match_51 rfl ?_
        refine x_bipush B 54 (v := 8) dX2_match_52 (by decide) rfl ?_
        refine x_irem B 55 dX2_match_54 (by decide) rfl ?_
        rw [show nI k - nI k / 8 * 8 = nI (k % 8) from pk_rem (by omega) (by decide) (by decide)]
        refine x_aload0 B 56 dX2_match_55 rfl (by first | rfl | exact xisR_rf _) ?_
        refine g_X2_7_X2 B 59 (by repeat (first | with_reducible exact xr_h | refine xr_t ?_)) dX2_match_56 rfl ?_
        refine x_iconst B 60 (v := 0) dX2_match_59 (by decide) rfl ?_
        refine x_ialdv B 61 (by repeat (first | with_reducible exact xr_h | refine xr_t ?_)) (j := 0) (by first | (simp only [xlit, nI_add, pk_mul]; done) | rfl | (simp only [xlit, nI_add, pk_mul]; congr 1; omega)) ⟨by first | omega | decide, by first | decide | omega⟩ h0 dX2_match_60 rfl ?_
        by_cases c : k % 8 < nb
        · refine x_icmp_ge_f (tp := 80) B 64 dX2_match_61 (by decide) rfl (by (try simp only [xlit]); first | (rw [nI_leI (by omega) (by omega)]; omega) | (rw [nI_ltI (by omega) (by omega)]; omega) | (rw [nI_eq (by omega) (by omega)]; omega)) ?_
          refine x_aload0 B 65 dX2_match_64 rfl (by first | rfl | exact xisR_rf _) ?_
          refine x_iload3 B 66 dX2_match_65 rfl ?_
          refine x_bipush B 68 (v := 8) dX2_match_66 (by decide) rfl ?_
          refine x_idiv B 69 dX2_match_68 (by decide) rfl ?_
          rw [show nI k / 8 = nI (k / 8) from pk_div (by omega) (by decide) (by decide)]
          refine x_iload3 B 70 dX2_match_69 rfl ?_
          refine x_bipush B 72 (v := 8) dX2_match_70 (by decide) rfl ?_
          refine x_irem B 73 dX2_match_72 (by decide) rfl ?_
          rw [show nI k - nI k / 8 * 8 = nI (k % 8) from pk_rem (by omega) (by decide) (by decide)]
          refine x_iload1 B 74 dX2_match_73 rfl ?_
          refine x_callV B 77 (m_X2_keptBy hW' (k / 8) (k % 8) n (by omega) c (by omega)) [0, 1, 2, 3] rfl ⟨_, _, _, (by repeat (first | with_reducible exact xr_h | refine xr_t ?_)), rfl, rfl⟩ q2129 q2131 qs75 q92 q2132 hd_X2_keptBy (by decide) ⟨by first | decide | omega, by first | decide | omega⟩ ⟨by first | decide | omega, by first | decide | omega⟩ rfl (Nat.le_of_ble_eq_true rfl) dX2_match_74 rfl (fun _ _ _ h => h.elim) ?_
          rintro _ _ ⟨rfl, row2, sw2, sm2, g, rfl⟩
          try simp only [xst, xput, xpre, List.set_cons_zero, List.set_cons_succ]
          refine x_goto B 81 dX2_match_77 (by decide) ?_
          refine x_iast B 82 (by repeat (first | with_reducible exact xu_h | apply xu_t)) (j := k) (by first | (simp only [xlit, nI_add, pk_mul]; done) | rfl | (simp only [xlit, nI_add, pk_mul]; congr 1; omega)) ⟨by first | omega | decide, by first | decide | omega⟩ dX2_match_81 rfl ?_
          exact next row2 sw2 sm2 _ (h2.trans g) (fun _ => by rw [← hkv])
        · refine x_icmp_ge_t B 80 dX2_match_61 (by decide) (by (try simp only [xlit]); first | (rw [nI_leI (by omega) (by omega)]; omega) | (rw [nI_ltI (by omega) (by omega)]; omega) | (rw [nI_eq (by omega) (by omega)]; omega)) ?_
          refine x_iconst B 81 (v := 0) dX2_match_80 (by decide) rfl ?_
          refine x_iast B 82 (by repeat (first | with_reducible exact xu_h | apply xu_t)) (j := k) (by first | (simp only [xlit, nI_add, pk_mul]; done) | rfl | (simp only [xlit, nI_add, pk_mul]; congr 1; omega)) ⟨by first | omega | decide, by first | decide | omega⟩ dX2_match_81 rfl ?_
          exact next row' sw' sm' _ h2 (fun z => absurd z c)
    refine x_iconst B 32 (v := 0) dX2_match_31 (by decide) rfl ?_
    refine x_istore3 B 33 dX2_match_32 rfl ?_
    exact keep (8 * nm) 0 (by omega) row sw sm kb TS.rf (fun m b hm => by omega)
  rcases toB_c man (nb := nm) (by omega) with ⟨b1, b2⟩ | ⟨b1, b2, b3, b4⟩ | ⟨j, hj, b1, b2, b3⟩
  · refine x_iload2 B 1 dX2_match_0 rfl ?_
    refine x_iconst B 2 (v := (-1)) dX2_match_1 (by decide) rfl ?_
    refine x_icmp_eq_t B 16 dX2_match_2 (by decide) b1 ?_
    exact go none b2 b1 (fun j e => by cases e)
  · refine x_iload2 B 1 dX2_match_0 rfl ?_
    refine x_iconst B 2 (v := (-1)) dX2_match_1 (by decide) rfl ?_
    refine x_icmp_eq_f (tp := 16) B 5 dX2_match_2 (by decide) rfl b1 ?_
    refine x_aload0 B 6 dX2_match_5 rfl (by first | rfl | exact xisR_rf _) ?_
    refine x_iload2 B 7 dX2_match_6 rfl ?_
    refine x_callV B 10 (m_isMan man hT.2.1 (by omega)) [0, 1] rfl ⟨_, _, _, (by repeat (first | with_reducible exact xr_h | refine xr_t ?_)), rfl, rfl⟩ q1990 q1992 qs60 q92 q1993 hd_X2_isMan (by decide) ⟨by first | decide | omega, by first | decide | omega⟩ ⟨by first | decide | omega, by first | decide | omega⟩ rfl (Nat.le_of_ble_eq_true rfl) dX2_match_7 rfl (fun _ _ _ h => h.elim) ?_
    rintro _ _ ⟨rfl, rfl⟩
    try simp only [xst, xput, xpre, List.set_cons_zero, List.set_cons_succ]
    rw [b4]
    rw [b3] at hans; dsimp only at hans; subst hans
    refine x_if_ne_f (tp := 16) B 13 dX2_match_10 (by decide) rfl rfl ?_
    refine x_bipush B 15 (v := (-2)) dX2_match_13 (by decide) rfl ?_
    exact x_iret B rfl ⟨rfl, _, _, _, _, _, _, TS.rf, rfl⟩ dX2_match_15 ⟨by first | omega | decide, by first | omega | decide⟩
  · refine x_iload2 B 1 dX2_match_0 rfl ?_
    refine x_iconst B 2 (v := (-1)) dX2_match_1 (by decide) rfl ?_
    refine x_icmp_eq_f (tp := 16) B 5 dX2_match_2 (by decide) rfl (by rw [b1]; exact ne_m1 (by omega)) ?_
    refine x_aload0 B 6 dX2_match_5 rfl (by first | rfl | exact xisR_rf _) ?_
    refine x_iload2 B 7 dX2_match_6 rfl ?_
    refine x_callV B 10 (m_isMan man hT.2.1 (by omega)) [0, 1] rfl ⟨_, _, _, (by repeat (first | with_reducible exact xr_h | refine xr_t ?_)), rfl, rfl⟩ q1990 q1992 qs60 q92 q1993 hd_X2_isMan (by decide) ⟨by first | decide | omega, by first | decide | omega⟩ ⟨by first | decide | omega, by first | decide | omega⟩ rfl (Nat.le_of_ble_eq_true rfl) dX2_match_7 rfl (fun _ _ _ h => h.elim) ?_
    rintro _ _ ⟨rfl, rfl⟩
    try simp only [xst, xput, xpre, List.set_cons_zero, List.set_cons_succ]
    rw [b3]
    refine x_if_ne_t B 16 dX2_match_10 (by decide) (by decide) ?_
    exact go (some j) b2 b1 (fun i e => by cases e; exact hj)
end T19
