/-! the twin, 17: a tongue's fault; faults; a harbour told -/
section T17
variable {D : xG} {h : Nat} {ad : Nat → Nat} {iv row zk tx rb : Nat → Int32} {T : List Nat} {tk : Nat × Nat} {X0 : HT} {d : Bool} {wf : Nat → Nat → Int32}
theorem tgM1 {x deep : Nat} {needs star : Bool} (w1 : isW x = false) (en : needs = true) (w2 : ¬ (x = 40 ∧ deep < 6)) : tgMay x needs star deep = false := by
  by_cases c : x = 40
  · have z : ¬ deep < 6 := fun z => w2 ⟨c, z⟩
    simp [tgMay, w1, en, z]
  · simp [tgMay, w1, en, c]
theorem tgM2 {x deep : Nat} {needs star : Bool} (w1 : isW x = false) (c : x = 40) (w2 : ¬ (x = 40 ∧ deep < 6)) : tgMay x needs star deep = false := by
  have z : ¬ deep < 6 := fun z => w2 ⟨c, z⟩
  subst c
  simp [tgMay, w1, z]
theorem m_X2_tongueFault (hT : TTx tx iv T) : XC D yX2_tongueFault (ws_ yX2_tongueFault cX2_tongueFault 8 (Option.some Jvm.ClassFile.FieldType.int)) 1 40 (0) (0) [.ref h] [tR D h ad iv, tI D ad 3 200 tx] (fun r cs' => r = some (.int (oI (hTgF T))) ∧ cs' = [tR D h ad iv, tI D ad 3 200 tx]) x0 := by
  refine XC.of (by decide) (by simp [Value.category]) (Nat.le_of_ble_eq_true rfl) fun X B => ?_
  show WX D X [tR D h ad iv, tI D ad 3 200 tx] 0 0 0 [some (.ref h), none, none, none, none, none, none, none] []
  have hT0 := hT
  obtain ⟨hl, hl2, hr⟩ := hT
  have loop : ∀ (n a : Nat), a + n = T.length → ∀ (needs star : Bool) (deep : Nat) a5 a6 a7, deep ≤ 6 → tgFault T n a needs star deep = hTgF T → WX D X [tR D h ad iv, tI D ad 3 200 tx] 0 0 9 [some (.ref h), some (.int (bI needs)), some (.int (bI star)), some (.int (nI deep)), some (.int (nI a)), a5, a6, a7] [] := by
    intro n
    induction n with
    | zero =>
      intro a ha needs star deep a5 a6 a7 hd he
      obtain rfl : a = T.length := by omega
      have e1 : tgFault T 0 T.length needs star deep = if needs = true ∨ 0 < deep then some T.length else none := rfl
      rw [← he, e1] at B
      refine x_iload4 B 11 dX2_tongueFault_9 rfl ?_
      refine x_aload0 B 12 dX2_tongueFault_11 rfl (by first | rfl | exact xisR_rf _) ?_
      refine g_X2_113_X2 B 15 (by repeat (first | with_reducible exact xr_h | refine xr_t ?_)) dX2_tongueFault_12 rfl ?_
      rw [hl]
      refine x_icmp_ge_t B 199 dX2_tongueFault_15 (by decide) (by (try simp only [xlit]); first | (rw [nI_leI (by omega) (by omega)]; omega) | (rw [nI_ltI (by omega) (by omega)]; omega) | (rw [nI_eq (by omega) (by omega)]; omega)) ?_
      cases hn : needs with
      | true =>
        rw [if_pos (Or.inl hn)] at B
        refine x_iload1 B 200 dX2_tongueFault_199 rfl ?_
        refine x_if_ne_t B 207 dX2_tongueFault_200 (by decide) (by decide) ?_
        refine x_aload0 B 208 dX2_tongueFault_207 rfl (by first | rfl | exact xisR_rf _) ?_
        refine g_X2_113_X2 B 211 (by repeat (first | with_reducible exact xr_h | refine xr_t ?_)) dX2_tongueFault_208 rfl ?_
        rw [hl]
        refine x_goto B 215 dX2_tongueFault_211 (by decide) ?_
        exact x_iret B rfl ⟨rfl, rfl⟩ dX2_tongueFault_215 ⟨by first | omega | decide, by first | omega | decide⟩
      | false =>
        refine x_iload1 B 200 dX2_tongueFault_199 rfl ?_
        refine x_if_ne_f (tp := 207) B 203 dX2_tongueFault_200 (by decide) rfl rfl ?_
        rcases Nat.eq_zero_or_pos deep with c | c
        · rw [if_neg (by rw [hn]; simp; omega)] at B
          refine x_iload3 B 204 dX2_tongueFault_203 rfl ?_
          refine x_if_le_t B 214 dX2_tongueFault_204 (by decide) (by rw [c]; decide) ?_
          refine x_iconst B 215 (v := (-1)) dX2_tongueFault_214 (by decide) rfl ?_
          exact x_iret B rfl ⟨rfl, rfl⟩ dX2_tongueFault_215 ⟨by first | omega | decide, by first | omega | decide⟩
        · rw [if_pos (Or.inr c)] at B
          refine x_iload3 B 204 dX2_tongueFault_203 rfl ?_
          refine x_if_le_f (tp := 214) B 207 dX2_tongueFault_204 (by decide) rfl (by (try simp only [xlit]); rw [nI_leI (by omega) (by omega)]; omega) ?_
          refine x_aload0 B 208 dX2_tongueFault_207 rfl (by first | rfl | exact xisR_rf _) ?_
          refine g_X2_113_X2 B 211 (by repeat (first | with_reducible exact xr_h | refine xr_t ?_)) dX2_tongueFault_208 rfl ?_
          rw [hl]
          refine x_goto B 215 dX2_tongueFault_211 (by decide) ?_
          exact x_iret B rfl ⟨rfl, rfl⟩ dX2_tongueFault_215 ⟨by first | omega | decide, by first | omega | decide⟩
    | succ n ih =>
      intro a ha needs star deep a5 a6 a7 hd he
      obtain ⟨x, x1, x2, x3⟩ := hT0.at (p := a) (by omega)
      have e1 : tgFault T (n + 1) a needs star deep = if x = 32 then tgFault T n (a + 1) needs star deep else if tgMay x needs star deep = true then tgFault T n (a + 1) (tgNeeds x) (tgStar x) (tgDeep x deep) else some a := by
        conv => lhs; unfold tgFault
        rw [x1]
      rw [e1] at he
      refine x_iload4 B 11 dX2_tongueFault_9 rfl ?_
      refine x_aload0 B 12 dX2_tongueFault_11 rfl (by first | rfl | exact xisR_rf _) ?_
      refine g_X2_113_X2 B 15 (by repeat (first | with_reducible exact xr_h | refine xr_t ?_)) dX2_tongueFault_12 rfl ?_
      rw [hl]
      refine x_icmp_ge_f (tp := 199) B 18 dX2_tongueFault_15 (by decide) rfl (by (try simp only [xlit]); first | (rw [nI_leI (by omega) (by omega)]; omega) | (rw [nI_ltI (by omega) (by omega)]; omega) | (rw [nI_eq (by omega) (by omega)]; omega)) ?_
      refine x_aload0 B 19 dX2_tongueFault_18 rfl (by first | rfl | exact xisR_rf _) ?_
      refine g_X2_17_X2 B 22 (by repeat (first | with_reducible exact xr_h | refine xr_t ?_)) dX2_tongueFault_19 rfl ?_
      refine x_iload4 B 24 dX2_tongueFault_22 rfl ?_
      refine x_ialdv B 25 (by repeat (first | with_reducible exact xr_h | refine xr_t ?_)) (j := a) (by first | (simp only [xlit, nI_add, pk_mul]; done) | rfl | (simp only [xlit, nI_add, pk_mul]; congr 1; omega)) ⟨by first | omega | decide, by first | decide | omega⟩ x2 dX2_tongueFault_24 rfl ?_
      by_cases c32 : x = 32
      · rw [if_pos c32] at he
        refine x_istore5 B 27 dX2_tongueFault_25 rfl ?_
        refine x_iload5 B 29 dX2_tongueFault_27 rfl ?_
        refine x_bipush B 31 (v := 32) dX2_tongueFault_29 (by decide) rfl ?_
        refine x_icmp_eq_t B 193 dX2_tongueFault_31 (by decide) (by (try simp only [xlit]); first | (rw [nI_leI (by omega) (by omega)]; omega) | (rw [nI_ltI (by omega) (by omega)]; omega) | (rw [nI_eq (by omega) (by omega)]; omega)) ?_
        refine x_iinc4 B 196 dX2_tongueFault_193 rfl (by first | exact xinc _ | rfl) ?_
        refine x_goto B 9 dX2_tongueFault_196 (by decide) ?_
        exact ih (a + 1) (by omega) needs star deep _ _ _ hd he
      rw [if_neg c32] at he
      refine x_istore5 B 27 dX2_tongueFault_25 rfl ?_
      refine x_iload5 B 29 dX2_tongueFault_27 rfl ?_
      refine x_bipush B 31 (v := 32) dX2_tongueFault_29 (by decide) rfl ?_
      refine x_icmp_eq_f (tp := 193) B 34 dX2_tongueFault_31 (by decide) rfl (by (try simp only [xlit]); first | (rw [nI_leI (by omega) (by omega)]; omega) | (rw [nI_ltI (by omega) (by omega)]; omega) | (rw [nI_eq (by omega) (by omega)]; omega)) ?_
      -- behind a letter that may stand
      have on : tgMay x needs star deep = true → ∀ a7, WX D X [tR D h ad iv, tI D ad 3 200 tx] 0 0 129 [some (.ref h), some (.int (bI needs)), some (.int (bI star)), some (.int (nI deep)), some (.int (nI a)), some (.int (nI x)), some (.int (bI (isW x))), a7] [] := by
        intro hm a7
        rw [if_pos hm] at he
        have last : ∀ (v : Bool), v = tgNeeds x → WX D X [tR D h ad iv, tI D ad 3 200 tx] 0 0 175 [some (.ref h), some (.int (bI v)), some (.int (bI star)), some (.int (nI (tgDeep x deep))), some (.int (nI a)), some (.int (nI x)), some (.int (bI (isW x))), a7] [] := by
          intro v hv
          have hd6 : tgDeep x deep ≤ 6 := by
            unfold tgDeep
            by_cases c1 : x = 40
            · rw [if_pos c1]
              subst c1
              simp [tgMay, isW] at hm
              omega
            · rw [if_neg c1]; split <;> omega
          subst hv
          cases ew : isW x with
          | true =>
            have es : tgStar x = true := by unfold tgStar; rw [ew]; rfl
            rw [es] at he
            refine x_iload6 B 177 dX2_tongueFault_175 rfl ?_
            refine x_if_ne_t B 187 dX2_tongueFault_177 (by decide) (by decide) ?_
            refine x_iconst B 188 (v := 1) dX2_tongueFault_187 (by decide) rfl ?_
            refine x_goto B 192 dX2_tongueFault_188 (by decide) ?_
            refine x_istore2 B 193 dX2_tongueFault_192 rfl ?_
            refine x_iinc4 B 196 dX2_tongueFault_193 rfl (by first | exact xinc _ | rfl) ?_
            refine x_goto B 9 dX2_tongueFault_196 (by decide) ?_
            exact ih (a + 1) (by omega) (tgNeeds x) true _ _ _ _ hd6 he
          | false =>
            refine x_iload6 B 177 dX2_tongueFault_175 rfl ?_
            refine x_if_ne_f (tp := 187) B 180 dX2_tongueFault_177 (by decide) rfl rfl ?_
            by_cases c2 : x = 41
            · have es : tgStar x = true := by unfold tgStar; simp [c2]
              rw [es] at he
              refine x_iload5 B 182 dX2_tongueFault_180 rfl ?_
              refine x_bipush B 184 (v := 41) dX2_tongueFault_182 (by decide) rfl ?_
              refine x_icmp_ne_f (tp := 191) B 187 dX2_tongueFault_184 (by decide) rfl (by (try simp only [xlit]); first | (rw [nI_leI (by omega) (by omega)]; omega) | (rw [nI_ltI (by omega) (by omega)]; omega) | (rw [nI_eq (by omega) (by omega)]; omega)) ?_
              refine x_iconst B 188 (v := 1) dX2_tongueFault_187 (by decide) rfl ?_
              refine x_goto B 192 dX2_tongueFault_188 (by decide) ?_
              refine x_istore2 B 193 dX2_tongueFault_192 rfl ?_
              refine x_iinc4 B 196 dX2_tongueFault_193 rfl (by first | exact xinc _ | rfl) ?_
              refine x_goto B 9 dX2_tongueFault_196 (by decide) ?_
              exact ih (a + 1) (by omega) (tgNeeds x) true _ _ _ _ hd6 he
            · have es : tgStar x = false := by unfold tgStar; rw [ew]; simp [c2]
              rw [es] at he
              refine x_iload5 B 182 dX2_tongueFault_180 rfl ?_
              refine x_bipush B 184 (v := 41) dX2_tongueFault_182 (by decide) rfl ?_
              refine x_icmp_ne_t B 191 dX2_tongueFault_184 (by decide) (by (try simp only [xlit]); first | (rw [nI_leI (by omega) (by omega)]; omega) | (rw [nI_ltI (by omega) (by omega)]; omega) | (rw [nI_eq (by omega) (by omega)]; omega)) ?_
              refine x_iconst B 192 (v := 0) dX2_tongueFault_191 (by decide) rfl ?_
              refine x_istore2 B 193 dX2_tongueFault_192 rfl ?_
              refine x_iinc4 B 196 dX2_tongueFault_193 rfl (by first | exact xinc _ | rfl) ?_
              refine x_goto B 9 dX2_tongueFault_196 (by decide) ?_
              exact ih (a + 1) (by omega) (tgNeeds x) false _ _ _ _ hd6 he
        by_cases c1 : x = 40
        · refine x_iload3 B 130 dX2_tongueFault_129 rfl ?_
          refine x_iload5 B 132 dX2_tongueFault_130 rfl ?_
          refine x_bipush B 134 (v := 40) dX2_tongueFault_132 (by decide) rfl ?_
          refine x_icmp_ne_f (tp := 141) B 137 dX2_tongueFault_134 (by decide) rfl (by (try simp only [xlit]); first | (rw [nI_leI (by omega) (by omega)]; omega) | (rw [nI_ltI (by omega) (by omega)]; omega) | (rw [nI_eq (by omega) (by omega)]; omega)) ?_
          refine x_iconst B 138 (v := 1) dX2_tongueFault_137 (by decide) rfl ?_
          refine x_goto B 153 dX2_tongueFault_138 (by decide) ?_
          refine x_iadd B 154 dX2_tongueFault_153 rfl ?_
          rw [show nI deep + 1 = nI (tgDeep x deep) by rw [show nI deep + 1 = nI (deep + 1) from nI_1 _]; unfold tgDeep; rw [if_pos c1]]
          refine x_istore3 B 155 dX2_tongueFault_154 rfl ?_
          refine x_iload5 B 157 dX2_tongueFault_155 rfl ?_
          refine x_bipush B 159 (v := 40) dX2_tongueFault_157 (by decide) rfl ?_
          refine x_icmp_eq_t B 169 dX2_tongueFault_159 (by decide) (by (try simp only [xlit]); first | (rw [nI_leI (by omega) (by omega)]; omega) | (rw [nI_ltI (by omega) (by omega)]; omega) | (rw [nI_eq (by omega) (by omega)]; omega)) ?_
          refine x_iconst B 170 (v := 1) dX2_tongueFault_169 (by decide) rfl ?_
          refine x_goto B 174 dX2_tongueFault_170 (by decide) ?_
          refine x_istore1 B 175 dX2_tongueFault_174 rfl ?_
          exact last true (by simp [tgNeeds, c1])
        · refine x_iload3 B 130 dX2_tongueFault_129 rfl ?_
          refine x_iload5 B 132 dX2_tongueFault_130 rfl ?_
          refine x_bipush B 134 (v := 40) dX2_tongueFault_132 (by decide) rfl ?_
          refine x_icmp_ne_t B 141 dX2_tongueFault_134 (by decide) (by (try simp only [xlit]); first | (rw [nI_leI (by omega) (by omega)]; omega) | (rw [nI_ltI (by omega) (by omega)]; omega) | (rw [nI_eq (by omega) (by omega)]; omega)) ?_
          have more : WX D X [tR D h ad iv, tI D ad 3 200 tx] 0 0 155 [some (.ref h), some (.int (bI needs)), some (.int (bI star)), some (.int (nI (tgDeep x deep))), some (.int (nI a)), some (.int (nI x)), some (.int (bI (isW x))), a7] [] := by
            refine x_iload5 B 157 dX2_tongueFault_155 rfl ?_
            refine x_bipush B 159 (v := 40) dX2_tongueFault_157 (by decide) rfl ?_
            refine x_icmp_eq_f (tp := 169) B 162 dX2_tongueFault_159 (by decide) rfl (by (try simp only [xlit]); first | (rw [nI_leI (by omega) (by omega)]; omega) | (rw [nI_ltI (by omega) (by omega)]; omega) | (rw [nI_eq (by omega) (by omega)]; omega)) ?_
            by_cases c3 : x = 124
            · refine x_iload5 B 164 dX2_tongueFault_162 rfl ?_
              refine x_bipush B 166 (v := 124) dX2_tongueFault_164 (by decide) rfl ?_
              refine x_icmp_ne_f (tp := 173) B 169 dX2_tongueFault_166 (by decide) rfl (by (try simp only [xlit]); first | (rw [nI_leI (by omega) (by omega)]; omega) | (rw [nI_ltI (by omega) (by omega)]; omega) | (rw [nI_eq (by omega) (by omega)]; omega)) ?_
              refine x_iconst B 170 (v := 1) dX2_tongueFault_169 (by decide) rfl ?_
              refine x_goto B 174 dX2_tongueFault_170 (by decide) ?_
              refine x_istore1 B 175 dX2_tongueFault_174 rfl ?_
              exact last true (by simp [tgNeeds, c3])
            · refine x_iload5 B 164 dX2_tongueFault_162 rfl ?_
              refine x_bipush B 166 (v := 124) dX2_tongueFault_164 (by decide) rfl ?_
              refine x_icmp_ne_t B 173 dX2_tongueFault_166 (by decide) (by (try simp only [xlit]); first | (rw [nI_leI (by omega) (by omega)]; omega) | (rw [nI_ltI (by omega) (by omega)]; omega) | (rw [nI_eq (by omega) (by omega)]; omega)) ?_
              refine x_iconst B 174 (v := 0) dX2_tongueFault_173 (by decide) rfl ?_
              refine x_istore1 B 175 dX2_tongueFault_174 rfl ?_
              exact last false (by simp [tgNeeds, c1, c3])
          by_cases c2 : x = 41
          · have hd1 : 0 < deep := by
              subst c2
              simp [tgMay, isW] at hm
              exact hm.2
            refine x_iload5 B 143 dX2_tongueFault_141 rfl ?_
            refine x_bipush B 145 (v := 41) dX2_tongueFault_143 (by decide) rfl ?_
            refine x_icmp_ne_f (tp := 152) B 148 dX2_tongueFault_145 (by decide) rfl (by (try simp only [xlit]); first | (rw [nI_leI (by omega) (by omega)]; omega) | (rw [nI_ltI (by omega) (by omega)]; omega) | (rw [nI_eq (by omega) (by omega)]; omega)) ?_
            refine x_iconst B 149 (v := (-1)) dX2_tongueFault_148 (by decide) rfl ?_
            refine x_goto B 153 dX2_tongueFault_149 (by decide) ?_
            refine x_iadd B 154 dX2_tongueFault_153 rfl ?_
            rw [show nI deep + (-1) = nI (tgDeep x deep) by unfold tgDeep; rw [if_neg c1, if_pos c2]; obtain ⟨k, rfl⟩ : ∃ k, deep = k + 1 := ⟨deep - 1, by omega⟩; exact pk_m1 k]
            refine x_istore3 B 155 dX2_tongueFault_154 rfl ?_
            exact more
          · refine x_iload5 B 143 dX2_tongueFault_141 rfl ?_
            refine x_bipush B 145 (v := 41) dX2_tongueFault_143 (by decide) rfl ?_
            refine x_icmp_ne_t B 152 dX2_tongueFault_145 (by decide) (by (try simp only [xlit]); first | (rw [nI_leI (by omega) (by omega)]; omega) | (rw [nI_ltI (by omega) (by omega)]; omega) | (rw [nI_eq (by omega) (by omega)]; omega)) ?_
            refine x_iconst B 153 (v := 0) dX2_tongueFault_152 (by decide) rfl ?_
            refine x_iadd B 154 dX2_tongueFault_153 rfl ?_
            rw [show nI deep + 0 = nI (tgDeep x deep) by unfold tgDeep; rw [if_neg c1, if_neg c2]; exact nI_add _ 0]
            refine x_istore3 B 155 dX2_tongueFault_154 rfl ?_
            exact more
      have off : tgMay x needs star deep = false → WX D X [tR D h ad iv, tI D ad 3 200 tx] 0 0 118 [some (.ref h), some (.int (bI needs)), some (.int (bI star)), some (.int (nI deep)), some (.int (nI a)), some (.int (nI x)), some (.int (bI (isW x))), a7] [] := by
        intro hm
        rw [if_neg (by rw [hm]; simp)] at he
        refine x_iconst B 119 (v := 0) dX2_tongueFault_118 (by decide) rfl ?_
        refine x_istore7 B 121 dX2_tongueFault_119 rfl ?_
        refine x_iload7 B 123 dX2_tongueFault_121 rfl ?_
        refine x_if_ne_f (tp := 129) B 126 dX2_tongueFault_123 (by decide) rfl rfl ?_
        refine x_iload4 B 128 dX2_tongueFault_126 rfl ?_
        exact x_iret B rfl ⟨by rw [← he]; rfl, rfl⟩ dX2_tongueFault_128 ⟨by first | omega | decide, by first | omega | decide⟩
      have may : tgMay x needs star deep = true → WX D X [tR D h ad iv, tI D ad 3 200 tx] 0 0 114 [some (.ref h), some (.int (bI needs)), some (.int (bI star)), some (.int (nI deep)), some (.int (nI a)), some (.int (nI x)), some (.int (bI (isW x))), a7] [] := by
        intro hm
        refine x_iconst B 115 (v := 1) dX2_tongueFault_114 (by decide) rfl ?_
        refine x_goto B 119 dX2_tongueFault_115 (by decide) ?_
        refine x_istore7 B 121 dX2_tongueFault_119 rfl ?_
        refine x_iload7 B 123 dX2_tongueFault_121 rfl ?_
        refine x_if_ne_t B 129 dX2_tongueFault_123 (by decide) (by decide) ?_
        exact on hm _
      have test : ∀ v : Bool, v = isW x → WX D X [tR D h ad iv, tI D ad 3 200 tx] 0 0 61 [some (.ref h), some (.int (bI needs)), some (.int (bI star)), some (.int (nI deep)), some (.int (nI a)), some (.int (nI x)), a6, a7] [.int (bI v)] := by
        intro v hv
        subst hv
        have star1 : isW x = false → needs = false → x ≠ 40 → x ≠ 124 → x ≠ 41 → WX D X [tR D h ad iv, tI D ad 3 200 tx] 0 0 103 [some (.ref h), some (.int (bI needs)), some (.int (bI star)), some (.int (nI deep)), some (.int (nI a)), some (.int (nI x)), some (.int (bI (isW x))), a7] [] := by
          intro w1 w2 w3 w4 w5
          by_cases c5 : x = 42
          · refine x_iload5 B 105 dX2_tongueFault_103 rfl ?_
            refine x_bipush B 107 (v := 42) dX2_tongueFault_105 (by decide) rfl ?_
            refine x_icmp_ne_f (tp := 118) B 110 dX2_tongueFault_107 (by decide) rfl (by (try simp only [xlit]); first | (rw [nI_leI (by omega) (by omega)]; omega) | (rw [nI_ltI (by omega) (by omega)]; omega) | (rw [nI_eq (by omega) (by omega)]; omega)) ?_
            cases es : star with
            | true =>
              refine x_iload2 B 111 dX2_tongueFault_110 rfl ?_
              refine x_if_eq_f (tp := 118) B 114 dX2_tongueFault_111 (by decide) rfl (by decide) ?_
              rw [← es]
              exact may (by simp [tgMay, w2, c5, es])
            | false =>
              refine x_iload2 B 111 dX2_tongueFault_110 rfl ?_
              refine x_if_eq_t B 118 dX2_tongueFault_111 (by decide) rfl ?_
              rw [← es]
              exact off (by simp [tgMay, w1, w2, w3, w4, w5, es])
          · refine x_iload5 B 105 dX2_tongueFault_103 rfl ?_
            refine x_bipush B 107 (v := 42) dX2_tongueFault_105 (by decide) rfl ?_
            refine x_icmp_ne_t B 118 dX2_tongueFault_107 (by decide) (by (try simp only [xlit]); first | (rw [nI_leI (by omega) (by omega)]; omega) | (rw [nI_ltI (by omega) (by omega)]; omega) | (rw [nI_eq (by omega) (by omega)]; omega)) ?_
            exact off (by simp [tgMay, w1, w2, w3, w4, w5, c5])
        have close : isW x = false → needs = false → x ≠ 40 → WX D X [tR D h ad iv, tI D ad 3 200 tx] 0 0 85 [some (.ref h), some (.int (bI needs)), some (.int (bI star)), some (.int (nI deep)), some (.int (nI a)), some (.int (nI x)), some (.int (bI (isW x))), a7] [] := by
          intro w1 w2 w3
          by_cases c3 : x = 124
          · refine x_iload5 B 87 dX2_tongueFault_85 rfl ?_
            refine x_bipush B 89 (v := 124) dX2_tongueFault_87 (by decide) rfl ?_
            refine x_icmp_eq_t B 114 dX2_tongueFault_89 (by decide) (by (try simp only [xlit]); first | (rw [nI_leI (by omega) (by omega)]; omega) | (rw [nI_ltI (by omega) (by omega)]; omega) | (rw [nI_eq (by omega) (by omega)]; omega)) ?_
            exact may (by simp [tgMay, w2, c3])
          · refine x_iload5 B 87 dX2_tongueFault_85 rfl ?_
            refine x_bipush B 89 (v := 124) dX2_tongueFault_87 (by decide) rfl ?_
            refine x_icmp_eq_f (tp := 114) B 92 dX2_tongueFault_89 (by decide) rfl (by (try simp only [xlit]); first | (rw [nI_leI (by omega) (by omega)]; omega) | (rw [nI_ltI (by omega) (by omega)]; omega) | (rw [nI_eq (by omega) (by omega)]; omega)) ?_
            by_cases c4 : x = 41
            · refine x_iload5 B 94 dX2_tongueFault_92 rfl ?_
              refine x_bipush B 96 (v := 41) dX2_tongueFault_94 (by decide) rfl ?_
              refine x_icmp_ne_f (tp := 103) B 99 dX2_tongueFault_96 (by decide) rfl (by (try simp only [xlit]); first | (rw [nI_leI (by omega) (by omega)]; omega) | (rw [nI_ltI (by omega) (by omega)]; omega) | (rw [nI_eq (by omega) (by omega)]; omega)) ?_
              rcases Nat.eq_zero_or_pos deep with c | c
              · refine x_iload3 B 100 dX2_tongueFault_99 rfl ?_
                refine x_if_gt_f (tp := 114) B 103 dX2_tongueFault_100 (by decide) rfl (by rw [c]; decide) ?_
                refine x_iload5 B 105 dX2_tongueFault_103 rfl ?_
                refine x_bipush B 107 (v := 42) dX2_tongueFault_105 (by decide) rfl ?_
                refine x_icmp_ne_t B 118 dX2_tongueFault_107 (by decide) (by (try simp only [xlit]); first | (rw [nI_leI (by omega) (by omega)]; omega) | (rw [nI_ltI (by omega) (by omega)]; omega) | (rw [nI_eq (by omega) (by omega)]; omega)) ?_
                exact off (by subst c4; simp [tgMay, isW, c])
              · refine x_iload3 B 100 dX2_tongueFault_99 rfl ?_
                refine x_if_gt_t B 114 dX2_tongueFault_100 (by decide) (by (try simp only [xlit]); rw [nI_ltI (by omega) (by omega)]; omega) ?_
                exact may (by simp [tgMay, w2, c4, c])
            · refine x_iload5 B 94 dX2_tongueFault_92 rfl ?_
              refine x_bipush B 96 (v := 41) dX2_tongueFault_94 (by decide) rfl ?_
              refine x_icmp_ne_t B 103 dX2_tongueFault_96 (by decide) (by (try simp only [xlit]); first | (rw [nI_leI (by omega) (by omega)]; omega) | (rw [nI_ltI (by omega) (by omega)]; omega) | (rw [nI_eq (by omega) (by omega)]; omega)) ?_
              exact star1 w1 w2 w3 c3 c4
        have need : isW x = false → ¬ (x = 40 ∧ deep < 6) → WX D X [tR D h ad iv, tI D ad 3 200 tx] 0 0 81 [some (.ref h), some (.int (bI needs)), some (.int (bI star)), some (.int (nI deep)), some (.int (nI a)), some (.int (nI x)), some (.int (bI (isW x))), a7] [] := by
          intro w1 w2
          cases en : needs with
          | true =>
            refine x_iload1 B 82 dX2_tongueFault_81 rfl ?_
            refine x_if_ne_t B 118 dX2_tongueFault_82 (by decide) (by decide) ?_
            rw [← en]
            exact off (tgM1 w1 en w2)
          | false =>
            refine x_iload1 B 82 dX2_tongueFault_81 rfl ?_
            refine x_if_ne_f (tp := 118) B 85 dX2_tongueFault_82 (by decide) rfl rfl ?_
            by_cases c : x = 40
            · -- a bracket too deep
              refine x_iload5 B 87 dX2_tongueFault_85 rfl ?_
              refine x_bipush B 89 (v := 124) dX2_tongueFault_87 (by decide) rfl ?_
              refine x_icmp_eq_f (tp := 114) B 92 dX2_tongueFault_89 (by decide) rfl (by (try simp only [xlit]); first | (rw [nI_leI (by omega) (by omega)]; omega) | (rw [nI_ltI (by omega) (by omega)]; omega) | (rw [nI_eq (by omega) (by omega)]; omega)) ?_
              refine x_iload5 B 94 dX2_tongueFault_92 rfl ?_
              refine x_bipush B 96 (v := 41) dX2_tongueFault_94 (by decide) rfl ?_
              refine x_icmp_ne_t B 103 dX2_tongueFault_96 (by decide) (by (try simp only [xlit]); first | (rw [nI_leI (by omega) (by omega)]; omega) | (rw [nI_ltI (by omega) (by omega)]; omega) | (rw [nI_eq (by omega) (by omega)]; omega)) ?_
              refine x_iload5 B 105 dX2_tongueFault_103 rfl ?_
              refine x_bipush B 107 (v := 42) dX2_tongueFault_105 (by decide) rfl ?_
              refine x_icmp_ne_t B 118 dX2_tongueFault_107 (by decide) (by (try simp only [xlit]); first | (rw [nI_leI (by omega) (by omega)]; omega) | (rw [nI_ltI (by omega) (by omega)]; omega) | (rw [nI_eq (by omega) (by omega)]; omega)) ?_
              rw [← en]
              exact off (tgM2 w1 c w2)
            · rw [← en]
              exact close w1 en c
        cases ew : isW x with
        | true =>
          refine x_istore6 B 63 dX2_tongueFault_61 rfl ?_
          refine x_iload6 B 65 dX2_tongueFault_63 rfl ?_
          refine x_if_ne_t B 114 dX2_tongueFault_65 (by decide) (by decide) ?_
          rw [← ew]
          exact may (by simp [tgMay, ew])
        | false =>
          refine x_istore6 B 63 dX2_tongueFault_61 rfl ?_
          refine x_iload6 B 65 dX2_tongueFault_63 rfl ?_
          refine x_if_ne_f (tp := 114) B 68 dX2_tongueFault_65 (by decide) rfl rfl ?_
          rw [← ew]
          by_cases c : x = 40
          · refine x_iload5 B 70 dX2_tongueFault_68 rfl ?_
            refine x_bipush B 72 (v := 40) dX2_tongueFault_70 (by decide) rfl ?_
            refine x_icmp_ne_f (tp := 81) B 75 dX2_tongueFault_72 (by decide) rfl (by (try simp only [xlit]); first | (rw [nI_leI (by omega) (by omega)]; omega) | (rw [nI_ltI (by omega) (by omega)]; omega) | (rw [nI_eq (by omega) (by omega)]; omega)) ?_
            by_cases c6 : deep < 6
            · refine x_iload3 B 76 dX2_tongueFault_75 rfl ?_
              refine x_bipush B 78 (v := 6) dX2_tongueFault_76 (by decide) rfl ?_
              refine x_icmp_lt_t B 114 dX2_tongueFault_78 (by decide) (by (try simp only [xlit]); first | (rw [nI_leI (by omega) (by omega)]; omega) | (rw [nI_ltI (by omega) (by omega)]; omega) | (rw [nI_eq (by omega) (by omega)]; omega)) ?_
              exact may (by simp [tgMay, c, c6])
            · refine x_iload3 B 76 dX2_tongueFault_75 rfl ?_
              refine x_bipush B 78 (v := 6) dX2_tongueFault_76 (by decide) rfl ?_
              refine x_icmp_lt_f (tp := 114) B 81 dX2_tongueFault_78 (by decide) rfl (by (try simp only [xlit]); first | (rw [nI_leI (by omega) (by omega)]; omega) | (rw [nI_ltI (by omega) (by omega)]; omega) | (rw [nI_eq (by omega) (by omega)]; omega)) ?_
              exact need ew (fun z => c6 z.2)
          · refine x_iload5 B 70 dX2_tongueFault_68 rfl ?_
            refine x_bipush B 72 (v := 40) dX2_tongueFault_70 (by decide) rfl ?_
            refine x_icmp_ne_t B 81 dX2_tongueFault_72 (by decide) (by (try simp only [xlit]); first | (rw [nI_leI (by omega) (by omega)]; omega) | (rw [nI_ltI (by omega) (by omega)]; omega) | (rw [nI_eq (by omega) (by omega)]; omega)) ?_
            exact need ew (fun z => c z.1)
      refine x_iload5 B 36 dX2_tongueFault_34 rfl ?_
      refine x_i2l B 37 dX2_tongueFault_36 rfl ?_
      refine x_ldc2 B 40 dX2_tongueFault_37 q1891 rfl ?_
      refine x_ldc2 B 43 dX2_tongueFault_40 q1961 rfl ?_
      refine x_callS B 46 (m_X2_in _ _ _) [] rfl q1869 q1870 q92 q1871 hd_X2_in rfl ⟨by first | decide | omega, by first | decide | omega⟩ ⟨by first | decide | omega, by first | decide | omega⟩ rfl (Nat.le_of_ble_eq_true rfl) dX2_tongueFault_43 rfl (fun _ _ _ h => h.elim) ?_
      rintro _ _ ⟨rfl, rfl⟩
      try simp only [xst, xput, xpre, List.set_cons_zero, List.set_cons_succ]
      rw [isW_x x3]
      by_cases c1 : 97 ≤ x ∧ x ≤ 106
      · refine x_if_ne_t B 56 dX2_tongueFault_46 (by decide) (by rw [decide_eq_true c1]; decide) ?_
        refine x_iconst B 57 (v := 1) dX2_tongueFault_56 (by decide) rfl ?_
        refine x_goto B 61 dX2_tongueFault_57 (by decide) ?_
        exact test true (by simp [isW, c1])
      · refine x_if_ne_f (tp := 56) B 49 dX2_tongueFault_46 (by decide) rfl (by rw [decide_eq_false c1]; rfl) ?_
        by_cases c2 : x = 46
        · refine x_iload5 B 51 dX2_tongueFault_49 rfl ?_
          refine x_bipush B 53 (v := 46) dX2_tongueFault_51 (by decide) rfl ?_
          refine x_icmp_ne_f (tp := 60) B 56 dX2_tongueFault_53 (by decide) rfl (by (try simp only [xlit]); first | (rw [nI_leI (by omega) (by omega)]; omega) | (rw [nI_ltI (by omega) (by omega)]; omega) | (rw [nI_eq (by omega) (by omega)]; omega)) ?_
          refine x_iconst B 57 (v := 1) dX2_tongueFault_56 (by decide) rfl ?_
          refine x_goto B 61 dX2_tongueFault_57 (by decide) ?_
          exact test true (by simp [isW, c2])
        · refine x_iload5 B 51 dX2_tongueFault_49 rfl ?_
          refine x_bipush B 53 (v := 46) dX2_tongueFault_51 (by decide) rfl ?_
          refine x_icmp_ne_t B 60 dX2_tongueFault_53 (by decide) (by (try simp only [xlit]); first | (rw [nI_leI (by omega) (by omega)]; omega) | (rw [nI_ltI (by omega) (by omega)]; omega) | (rw [nI_eq (by omega) (by omega)]; omega)) ?_
          refine x_iconst B 61 (v := 0) dX2_tongueFault_60 (by decide) rfl ?_
          exact test false (by simp [isW, c1, c2])
  refine x_iconst B 1 (v := 1) dX2_tongueFault_0 (by decide) rfl ?_
  refine x_istore1 B 2 dX2_tongueFault_1 rfl ?_
  refine x_iconst B 3 (v := 0) dX2_tongueFault_2 (by decide) rfl ?_
  refine x_istore2 B 4 dX2_tongueFault_3 rfl ?_
  refine x_iconst B 5 (v := 0) dX2_tongueFault_4 (by decide) rfl ?_
  refine x_istore3 B 6 dX2_tongueFault_5 rfl ?_
  refine x_iconst B 7 (v := 0) dX2_tongueFault_6 (by decide) rfl ?_
  refine x_istore4 B 9 dX2_tongueFault_7 rfl ?_
  exact loop T.length 0 (by omega) true false 0 _ _ _ (by omega) rfl
theorem m_X2_fault (hT : TTx tx iv T) (hX : HXk X0) (hD : TTo row X0) (hw : TWd wf) (w : Int32) : XC D yX2_fault (ws_ yX2_fault cX2_fault 2 (Option.some Jvm.ClassFile.FieldType.int)) 7 280 (0) (0) [.ref h, .int w] (tP D h ad iv tx row rb wf) (fun r cs' => r = some (.int (sFault T X0 w)) ∧ ∃ iv' rb', I4 P6 iv iv' ∧ cs' = tP D h ad iv' tx row rb' wf) x0 := by
  refine XC.of (by decide) (by simp [Value.category]) (Nat.le_of_ble_eq_true rfl) fun X B => ?_
  show WX D X (tP D h ad iv tx row rb wf) 0 0 0 [some (.ref h), some (.int w)] []
  refine x_iload1 B 1 dX2_fault_0 rfl ?_
  refine x_i2l B 2 dX2_fault_1 rfl ?_
  refine x_lconst B 3 (v := 0) dX2_fault_2 (by decide) rfl ?_
  refine x_lconst B 4 (v := 1) dX2_fault_3 (by decide) rfl ?_
  refine x_callS B 7 (m_X2_in _ _ _) [] rfl q1869 q1870 q92 q1871 hd_X2_in rfl ⟨by first | decide | omega, by first | decide | omega⟩ ⟨by first | decide | omega, by first | decide | omega⟩ rfl (Nat.le_of_ble_eq_true rfl) dX2_fault_4 rfl (fun _ _ _ h => h.elim) ?_
  rintro _ _ ⟨rfl, rfl⟩
  try simp only [xst, xput, xpre, List.set_cons_zero, List.set_cons_succ]
  rw [show x_in w.toInt64 0 1 = bI (toR w 0 2).isSome from xinR w 0 1 rfl rfl (by decide) (by decide)]
  rcases toR_c w 0 2 (by omega) with ⟨e, e'⟩ | ⟨w, -, hwn, rfl, e, e'⟩
  · rw [e']
    refine x_if_ne_f (tp := 13) B 10 dX2_fault_7 (by decide) rfl rfl ?_
    refine x_bipush B 12 (v := (-3)) dX2_fault_10 (by decide) rfl ?_
    exact x_iret B rfl ⟨by simp only [sFault, e], iv, rb, I4.rf, rfl⟩ dX2_fault_12 ⟨by first | omega | decide, by first | omega | decide⟩
  rw [e']
  refine x_if_ne_t B 13 dX2_fault_7 (by decide) (by decide) ?_
  by_cases c : w = 1
  · refine x_iload1 B 14 dX2_fault_13 rfl ?_
    refine x_iconst B 15 (v := 1) dX2_fault_14 (by decide) rfl ?_
    refine x_icmp_ne_f (tp := 23) B 18 dX2_fault_15 (by decide) rfl (by (try simp only [xlit]); first | (rw [nI_leI (by omega) (by omega)]; omega) | (rw [nI_ltI (by omega) (by omega)]; omega) | (rw [nI_eq (by omega) (by omega)]; omega)) ?_
    refine x_aload0 B 19 dX2_fault_18 rfl (by first | rfl | exact xisR_rf _) ?_
    refine x_callV B 22 (m_X2_tongueFault hT) [0, 1] rfl ⟨_, _, _, (by repeat (first | with_reducible exact xr_h | refine xr_t ?_)), rfl, rfl⟩ q1957 q1959 qs55 q92 q1960 hd_X2_tongueFault (by decide) ⟨by first | decide | omega, by first | decide | omega⟩ ⟨by first | decide | omega, by first | decide | omega⟩ rfl (Nat.le_of_ble_eq_true rfl) dX2_fault_19 rfl (fun _ _ _ h => h.elim) ?_
    rintro _ _ ⟨rfl, rfl⟩
    try simp only [xst, xput, xpre, List.set_cons_zero, List.set_cons_succ]
    exact x_iret B rfl ⟨by simp only [sFault, e]; rw [if_pos c], iv, rb, I4.rf, rfl⟩ dX2_fault_22 ⟨by first | omega | decide, by first | omega | decide⟩
  · have e2 : sFault T X0 (nI w) = match hParse T X0 with
      | .inl f => nI f
      | .inr _ => -1 := by simp only [sFault, e]; rw [if_neg c]; cases hParse T X0 <;> rfl
    rw [e2] at B
    refine x_iload1 B 14 dX2_fault_13 rfl ?_
    refine x_iconst B 15 (v := 1) dX2_fault_14 (by decide) rfl ?_
    refine x_icmp_ne_t B 23 dX2_fault_15 (by decide) (by (try simp only [xlit]); first | (rw [nI_leI (by omega) (by omega)]; omega) | (rw [nI_ltI (by omega) (by omega)]; omega) | (rw [nI_eq (by omega) (by omega)]; omega)) ?_
    refine x_aload0 B 24 dX2_fault_23 rfl (by first | rfl | exact xisR_rf _) ?_
    refine x_iconst B 25 (v := 0) dX2_fault_24 (by decide) rfl ?_
    refine x_callV B 28 (m_X2_reads (row := row) (rb := rb) hT hX hD hw false) [0, 1, 2, 3, 4, 5, 6, 7, 8, 9, 10, 11, 12, 13] rfl ⟨_, _, _, (by repeat (first | with_reducible exact xr_h | refine xr_t ?_)), rfl, rfl⟩ q1880 q1882 qs40 q92 q1883 hd_X2_reads (by decide) ⟨by first | decide | omega, by first | decide | omega⟩ ⟨by first | decide | omega, by first | decide | omega⟩ rfl (Nat.le_of_ble_eq_true rfl) dX2_fault_25 rfl (fun _ _ _ h => h.elim) ?_
    rintro _ _ ⟨iv', row', rb', h1, h2, h3, h4, rfl⟩
    try simp only [xst, xput, xpre, List.set_cons_zero, List.set_cons_succ]
    obtain rfl := h3 rfl
    cases ep : hParse T X0 with
    | inl f =>
      rw [ep] at h4 B
      obtain ⟨rfl, h5⟩ := h4
      refine x_if_eq_t B 35 dX2_fault_28 (by decide) rfl ?_
      refine x_aload0 B 36 dX2_fault_35 rfl (by first | rfl | exact xisR_rf _) ?_
      refine g_X2_128_X2 B 39 (by repeat (first | with_reducible exact xr_h | refine xr_t ?_)) dX2_fault_36 rfl ?_
      rw [h5]
      exact x_iret B rfl ⟨rfl, iv', rb', h1, rfl⟩ dX2_fault_39 ⟨by first | omega | decide, by first | omega | decide⟩
    | inr cs =>
      rw [ep] at h4 B
      obtain ⟨rfl, h5⟩ := h4
      refine x_if_eq_f (tp := 35) B 31 dX2_fault_28 (by decide) rfl (by decide) ?_
      refine x_iconst B 32 (v := (-1)) dX2_fault_31 (by decide) rfl ?_
      refine x_goto B 39 dX2_fault_32 (by decide) ?_
      exact x_iret B rfl ⟨rfl, iv', rb', h1, rfl⟩ dX2_fault_39 ⟨by first | omega | decide, by first | omega | decide⟩
end T17
