/-! the twin, 22: a tongue heard -/
section T22
variable {D : xG} {h : Nat} {ad : Nat → Nat} {iv row tx lt en bg op zn zt sw sm : Nat → Int32} {T G : List Nat} {s : Nat → Bool} {nb nm : Nat} {kd : Nat → Nat} {N : HS} {U : List HS}
theorem m_X2_goesOn (hG : TGo lt en bg iv G) (hz : ZRep zn s) (k : Nat) (hk : k < G.length) : XC D yX2_goesOn (ws_ yX2_goesOn cX2_goesOn 5 (Option.some Jvm.ClassFile.FieldType.boolean)) 1 40 (0) (0) [.ref h, .int (nI k)] [tR D h ad iv, tI D ad 10 202 lt, tI D ad 11 202 en, tI D ad 12 202 bg, tZ D ad 34 203 zn] (fun r cs' => ∃ (b : Bool) (zn' : Nat → Int32) (s' : Nat → Bool), r = some (.int (bI b)) ∧ ZRep zn' s' ∧ GO G k s s' b ∧ (∀ j, gEps G k j → s' j = true) ∧ cs' = [tR D h ad iv, tI D ad 10 202 lt, tI D ad 11 202 en, tI D ad 12 202 bg, tZ D ad 34 203 zn']) x0 := by
  refine XC.of (by decide) (by simp [Value.category]) (Nat.le_of_ble_eq_true rfl) fun X B => ?_
  show WX D X [tR D h ad iv, tI D ad 10 202 lt, tI D ad 11 202 en, tI D ad 12 202 bg, tZ D ad 34 203 zn] 0 0 0 [some (.ref h), some (.int (nI k)), none, none, none] []
  obtain ⟨h9, ok, hl, hb, he, bal⟩ := hG
  have hlen := ok.1
  have hcx : G.getD k 0 < 256 := ok.2.1 _ (getD_mem hk)
  have hE := (lay_lt G G.length).2.2
  have hB := (lay_lt G G.length).2.1
  have hlk := hl k hk
  have hbk := hb k hk
  have hBk := hB k hk
  -- the end: what may be left out
  have fin : ∀ (b : Bool) (zn1 : Nat → Int32) (s1 : Nat → Bool) (a4 : Option Value), ZRep zn1 s1 → GO G k s s1 b → (∀ j, gEps G k j → s1 j = true) → WX D X [tR D h ad iv, tI D ad 10 202 lt, tI D ad 11 202 en, tI D ad 12 202 bg, tZ D ad 34 203 zn1] 0 0 242 [some (.ref h), some (.int (nI k)), some (.int (nI (G.getD k 0))), some (.int (bI b)), a4] [] := by
    intro b zn1 s1 a4 g1 g2 g3
    refine x_iload3 B 243 dX2_goesOn_242 rfl ?_
    exact x_zret B rfl ⟨b, zn1, s1, rfl, g1, g2, g3, rfl⟩  dX2_goesOn_243 ⟨by first | omega | decide, by first | omega | decide⟩ (bI01 _)
  have skip : ∀ (last : Nat), last = (if G.getD k 0 = 40 then (lay G G.length).2.2 k else k) → last ≤ G.length → G.getD k 0 ≠ 124 → G.getD k 0 ≠ 41 → G.getD k 0 ≠ 42 → ∀ (b : Bool) (zn1 : Nat → Int32) (s1 : Nat → Bool), ZRep zn1 s1 → GO G k s s1 b → (∀ j, gEps G k j → s1 j = true ∨ (last + 1 < G.length ∧ G.getD (last + 1) 0 = 42 ∧ j = last + 2)) → WX D X [tR D h ad iv, tI D ad 10 202 lt, tI D ad 11 202 en, tI D ad 12 202 bg, tZ D ad 34 203 zn1] 0 0 178 [some (.ref h), some (.int (nI k)), some (.int (nI (G.getD k 0))), some (.int (bI b)), some (.int (nI last))] [] := by
    intro last hla hla2 n1 n2 n3 b zn1 s1 g1 g2 g3
    refine x_iload2 B 179 dX2_goesOn_178 rfl ?_
    refine x_bipush B 181 (v := 124) dX2_goesOn_179 (by decide) rfl ?_
    refine x_icmp_eq_f (tp := 242) B 184 dX2_goesOn_181 (by decide) rfl (by (try simp only [xlit]); first | (rw [nI_leI (by omega) (by omega)]; omega) | (rw [nI_ltI (by omega) (by omega)]; omega) | (rw [nI_eq (by omega) (by omega)]; omega)) ?_
    refine x_iload2 B 185 dX2_goesOn_184 rfl ?_
    refine x_bipush B 187 (v := 41) dX2_goesOn_185 (by decide) rfl ?_
    refine x_icmp_eq_f (tp := 242) B 190 dX2_goesOn_187 (by decide) rfl (by (try simp only [xlit]); first | (rw [nI_leI (by omega) (by omega)]; omega) | (rw [nI_ltI (by omega) (by omega)]; omega) | (rw [nI_eq (by omega) (by omega)]; omega)) ?_
    refine x_iload2 B 191 dX2_goesOn_190 rfl ?_
    refine x_bipush B 193 (v := 42) dX2_goesOn_191 (by decide) rfl ?_
    refine x_icmp_eq_f (tp := 242) B 196 dX2_goesOn_193 (by decide) rfl (by (try simp only [xlit]); first | (rw [nI_leI (by omega) (by omega)]; omega) | (rw [nI_ltI (by omega) (by omega)]; omega) | (rw [nI_eq (by omega) (by omega)]; omega)) ?_
    refine x_iload4 B 198 dX2_goesOn_196 rfl ?_
    refine x_iconst B 199 (v := 1) dX2_goesOn_198 (by decide) rfl ?_
    refine x_iadd B 200 dX2_goesOn_199 rfl ?_
    rw [show nI last + 1 = nI (last + 1) from nI_1 _]
    refine x_aload0 B 201 dX2_goesOn_200 rfl (by first | rfl | exact xisR_rf _) ?_
    refine g_X2_217_X2 B 204 (by repeat (first | with_reducible exact xr_h | refine xr_t ?_)) dX2_goesOn_201 rfl ?_
    rw [h9]
    by_cases c : last + 1 < G.length
    · refine x_icmp_ge_f (tp := 242) B 207 dX2_goesOn_204 (by decide) rfl (by (try simp only [xlit]); first | (rw [nI_leI (by omega) (by omega)]; omega) | (rw [nI_ltI (by omega) (by omega)]; omega) | (rw [nI_eq (by omega) (by omega)]; omega)) ?_
      refine x_aload0 B 208 dX2_goesOn_207 rfl (by first | rfl | exact xisR_rf _) ?_
      refine g_X2_29_X2 B 211 (by repeat (first | with_reducible exact xr_h | refine xr_t ?_)) dX2_goesOn_208 rfl ?_
      refine x_iload4 B 213 dX2_goesOn_211 rfl ?_
      refine x_iconst B 214 (v := 1) dX2_goesOn_213 (by decide) rfl ?_
      refine x_iadd B 215 dX2_goesOn_214 rfl ?_
      rw [show nI last + 1 = nI (last + 1) from nI_1 _]
      refine x_ialdv B 216 (by repeat (first | with_reducible exact xr_h | refine xr_t ?_)) (j := last + 1) (by first | (simp only [xlit, nI_add, pk_mul]; done) | rfl | (simp only [xlit, nI_add, pk_mul]; congr 1; omega)) ⟨by first | omega | decide, by first | decide | omega⟩ (hl (last + 1) c) dX2_goesOn_215 rfl ?_
      have hc2 : G.getD (last + 1) 0 < 256 := ok.2.1 _ (getD_mem c)
      by_cases c2 : G.getD (last + 1) 0 = 42
      · have eps : gEps G k (last + 2) := Or.inr (Or.inr (Or.inr (Or.inr ⟨n1, n2, n3, by rw [← hla]; exact c, by rw [← hla]; exact c2, by rw [← hla]⟩)))
        refine x_bipush B 218 (v := 42) dX2_goesOn_216 (by decide) rfl ?_
        refine x_icmp_ne_f (tp := 242) B 221 dX2_goesOn_218 (by decide) rfl (by (try simp only [xlit]); first | (rw [nI_leI (by omega) (by omega)]; omega) | (rw [nI_ltI (by omega) (by omega)]; omega) | (rw [nI_eq (by omega) (by omega)]; omega)) ?_
        refine x_aload0 B 222 dX2_goesOn_221 rfl (by first | rfl | exact xisR_rf _) ?_
        refine x_iload4 B 224 dX2_goesOn_222 rfl ?_
        refine x_iconst B 225 (v := 2) dX2_goesOn_224 (by decide) rfl ?_
        refine x_iadd B 226 dX2_goesOn_225 rfl ?_
        rw [show nI last + 2 = nI (last + 2) from nI_add last 2]
        refine x_callV B 229 (m_X2_mark g1 (last + 2) (by omega)) [0, 4] rfl ⟨_, _, _, (by repeat (first | with_reducible exact xr_h | refine xr_t ?_)), rfl, rfl⟩ q2164 q2166 qs80 q92 q2167 hd_X2_mark (by decide) ⟨by first | decide | omega, by first | decide | omega⟩ ⟨by first | decide | omega, by first | decide | omega⟩ rfl (Nat.le_of_ble_eq_true rfl) dX2_goesOn_226 rfl (fun _ _ _ h => h.elim) ?_
        rintro _ _ ⟨rfl, zn2, z2, rfl⟩
        try simp only [xst, xput, xpre, List.set_cons_zero, List.set_cons_succ]
        have g4 := g2.mark (j := last + 2) (by omega) eps
        have g5 : ∀ j, gEps G k j → fUp s1 (last + 2) true j = true := by
          intro j hj
          unfold fUp
          by_cases q : j = last + 2
          · rw [if_pos q]
          · rw [if_neg q]
            rcases g3 j hj with z | z
            · exact z
            · exact absurd z.2.2 q
        cases e1 : s1 (last + 2) with
        | false =>
          rw [e1] at g4
          refine x_if_ne_t B 236 dX2_goesOn_229 (by decide) (by decide) ?_
          refine x_iconst B 237 (v := 1) dX2_goesOn_236 (by decide) rfl ?_
          refine x_goto B 241 dX2_goesOn_237 (by decide) ?_
          refine x_istore3 B 242 dX2_goesOn_241 rfl ?_
          exact fin true zn2 _ _ z2 g4 g5
        | true =>
          rw [e1] at g4
          refine x_if_ne_f (tp := 236) B 232 dX2_goesOn_229 (by decide) rfl rfl ?_
          cases eb : b with
          | false =>
            rw [eb] at g4
            refine x_iload3 B 233 dX2_goesOn_232 rfl ?_
            refine x_if_eq_t B 240 dX2_goesOn_233 (by decide) rfl ?_
            refine x_iconst B 241 (v := 0) dX2_goesOn_240 (by decide) rfl ?_
            refine x_istore3 B 242 dX2_goesOn_241 rfl ?_
            exact fin false zn2 _ _ z2 g4 g5
          | true =>
            rw [eb] at g4
            refine x_iload3 B 233 dX2_goesOn_232 rfl ?_
            refine x_if_eq_f (tp := 240) B 236 dX2_goesOn_233 (by decide) rfl (by decide) ?_
            refine x_iconst B 237 (v := 1) dX2_goesOn_236 (by decide) rfl ?_
            refine x_goto B 241 dX2_goesOn_237 (by decide) ?_
            refine x_istore3 B 242 dX2_goesOn_241 rfl ?_
            exact fin true zn2 _ _ z2 g4 g5
      · refine x_bipush B 218 (v := 42) dX2_goesOn_216 (by decide) rfl ?_
        refine x_icmp_ne_t B 242 dX2_goesOn_218 (by decide) (by (try simp only [xlit]); first | (rw [nI_leI (by omega) (by omega)]; omega) | (rw [nI_ltI (by omega) (by omega)]; omega) | (rw [nI_eq (by omega) (by omega)]; omega)) ?_
        exact fin b zn1 s1 _ g1 g2 (fun j hj => by
          rcases g3 j hj with z | z
          · exact z
          · exact absurd z.2.1 c2)
    · refine x_icmp_ge_t B 242 dX2_goesOn_204 (by decide) (by (try simp only [xlit]); first | (rw [nI_leI (by omega) (by omega)]; omega) | (rw [nI_ltI (by omega) (by omega)]; omega) | (rw [nI_eq (by omega) (by omega)]; omega)) ?_
      exact fin b zn1 s1 _ g1 g2 (fun j hj => by
        rcases g3 j hj with z | z
        · exact z
        · exact absurd z.1 c)
  refine x_aload0 B 1 dX2_goesOn_0 rfl (by first | rfl | exact xisR_rf _) ?_
  refine g_X2_29_X2 B 4 (by repeat (first | with_reducible exact xr_h | refine xr_t ?_)) dX2_goesOn_1 rfl ?_
  refine x_iload1 B 5 dX2_goesOn_4 rfl ?_
  refine x_ialdv B 6 (by repeat (first | with_reducible exact xr_h | refine xr_t ?_)) (j := k) (by first | (simp only [xlit, nI_add, pk_mul]; done) | rfl | (simp only [xlit, nI_add, pk_mul]; congr 1; omega)) ⟨by first | omega | decide, by first | decide | omega⟩ hlk dX2_goesOn_5 rfl ?_
  by_cases c40 : G.getD k 0 = 40
  · have hcl := lay_closed ok bal hk c40
    have hek := he k hcl
    have hEk := hE k
    have e0 : gEps G k (k + 1) := Or.inl ⟨c40, Or.inl rfl⟩
    refine x_istore2 B 7 dX2_goesOn_6 rfl ?_
    refine x_iconst B 8 (v := 0) dX2_goesOn_7 (by decide) rfl ?_
    refine x_istore3 B 9 dX2_goesOn_8 rfl ?_
    refine x_iload2 B 10 dX2_goesOn_9 rfl ?_
    refine x_bipush B 12 (v := 40) dX2_goesOn_10 (by decide) rfl ?_
    refine x_icmp_ne_f (tp := 89) B 15 dX2_goesOn_12 (by decide) rfl (by (try simp only [xlit]); first | (rw [nI_leI (by omega) (by omega)]; omega) | (rw [nI_ltI (by omega) (by omega)]; omega) | (rw [nI_eq (by omega) (by omega)]; omega)) ?_
    refine x_aload0 B 16 dX2_goesOn_15 rfl (by first | rfl | exact xisR_rf _) ?_
    refine x_iload1 B 17 dX2_goesOn_16 rfl ?_
    refine x_iconst B 18 (v := 1) dX2_goesOn_17 (by decide) rfl ?_
    refine x_iadd B 19 dX2_goesOn_18 rfl ?_
    rw [show nI k + 1 = nI (k + 1) from nI_1 _]
    refine x_callV B 22 (m_X2_mark hz (k + 1) (by omega)) [0, 4] rfl ⟨_, _, _, (by repeat (first | with_reducible exact xr_h | refine xr_t ?_)), rfl, rfl⟩ q2164 q2166 qs80 q92 q2167 hd_X2_mark (by decide) ⟨by first | decide | omega, by first | decide | omega⟩ ⟨by first | decide | omega, by first | decide | omega⟩ rfl (Nat.le_of_ble_eq_true rfl) dX2_goesOn_19 rfl (fun _ _ _ h => h.elim) ?_
    rintro _ _ ⟨rfl, zn1, z1, rfl⟩
    try simp only [xst, xput, xpre, List.set_cons_zero, List.set_cons_succ]
    have g1 := GO.mark (GO.rf (G := G) (k := k) (s := s)) (j := k + 1) (by omega) e0
    rw [Bool.or_false] at g1
    have m1 : fUp s (k + 1) true (k + 1) = true := by unfold fUp; rw [if_pos rfl]
    generalize fUp s (k + 1) true = s1 at *
    generalize hb0 : (!s (k + 1)) = b0 at *
    refine x_istore3 B 23 dX2_goesOn_22 rfl ?_
    refine x_iload1 B 24 dX2_goesOn_23 rfl ?_
    refine x_iconst B 25 (v := 1) dX2_goesOn_24 (by decide) rfl ?_
    refine x_iadd B 26 dX2_goesOn_25 rfl ?_
    rw [show nI k + 1 = nI (k + 1) from nI_1 _]
    refine x_istore4 B 28 dX2_goesOn_26 rfl ?_
    have loop : ∀ (m b : Nat), b + m = (max (k + 1) ((lay G G.length).2.2 k)) → k + 1 ≤ b → ∀ (v : Bool) (zn2 : Nat → Int32) (s2 : Nat → Bool), ZRep zn2 s2 → GO G k s s2 v → s2 (k + 1) = true → (∀ i, k < i → i < b → i < (lay G G.length).2.2 k → G.getD i 0 = 124 → (lay G G.length).2.1 i = k → s2 (i + 1) = true) → WX D X [tR D h ad iv, tI D ad 10 202 lt, tI D ad 11 202 en, tI D ad 12 202 bg, tZ D ad 34 203 zn2] 0 0 28 [some (.ref h), some (.int (nI k)), some (.int (nI (G.getD k 0))), some (.int (bI v)), some (.int (nI b))] [] := by
      intro m
      induction m with
      | zero =>
        intro b hb1 hb2 v zn2 s2 z2 g2 hk1 hbars
        refine x_iload4 B 30 dX2_goesOn_28 rfl ?_
        refine x_aload0 B 31 dX2_goesOn_30 rfl (by first | rfl | exact xisR_rf _) ?_
        refine g_X2_32_X2 B 34 (by repeat (first | with_reducible exact xr_h | refine xr_t ?_)) dX2_goesOn_31 rfl ?_
        refine x_iload1 B 35 dX2_goesOn_34 rfl ?_
        refine x_ialdv B 36 (by repeat (first | with_reducible exact xr_h | refine xr_t ?_)) (j := k) (by first | (simp only [xlit, nI_add, pk_mul]; done) | rfl | (simp only [xlit, nI_add, pk_mul]; congr 1; omega)) ⟨by first | omega | decide, by first | decide | omega⟩ hek dX2_goesOn_35 rfl ?_
        refine x_icmp_ge_t B 89 dX2_goesOn_36 (by decide) (by (try simp only [xlit]); first | (rw [nI_leI (by omega) (by omega)]; omega) | (rw [nI_ltI (by omega) (by omega)]; omega) | (rw [nI_eq (by omega) (by omega)]; omega)) ?_
        refine x_iload2 B 90 dX2_goesOn_89 rfl ?_
        refine x_bipush B 92 (v := 124) dX2_goesOn_90 (by decide) rfl ?_
        refine x_icmp_ne_t B 111 dX2_goesOn_92 (by decide) (by (try simp only [xlit]); first | (rw [nI_leI (by omega) (by omega)]; omega) | (rw [nI_ltI (by omega) (by omega)]; omega) | (rw [nI_eq (by omega) (by omega)]; omega)) ?_
        refine x_iload2 B 112 dX2_goesOn_111 rfl ?_
        refine x_bipush B 114 (v := 41) dX2_goesOn_112 (by decide) rfl ?_
        refine x_icmp_eq_f (tp := 123) B 117 dX2_goesOn_114 (by decide) rfl (by (try simp only [xlit]); first | (rw [nI_leI (by omega) (by omega)]; omega) | (rw [nI_ltI (by omega) (by omega)]; omega) | (rw [nI_eq (by omega) (by omega)]; omega)) ?_
        refine x_iload2 B 118 dX2_goesOn_117 rfl ?_
        refine x_bipush B 120 (v := 42) dX2_goesOn_118 (by decide) rfl ?_
        refine x_icmp_ne_t B 131 dX2_goesOn_120 (by decide) (by (try simp only [xlit]); first | (rw [nI_leI (by omega) (by omega)]; omega) | (rw [nI_ltI (by omega) (by omega)]; omega) | (rw [nI_eq (by omega) (by omega)]; omega)) ?_
        refine x_iload2 B 132 dX2_goesOn_131 rfl ?_
        refine x_bipush B 134 (v := 42) dX2_goesOn_132 (by decide) rfl ?_
        refine x_icmp_ne_t B 160 dX2_goesOn_134 (by decide) (by (try simp only [xlit]); first | (rw [nI_leI (by omega) (by omega)]; omega) | (rw [nI_ltI (by omega) (by omega)]; omega) | (rw [nI_eq (by omega) (by omega)]; omega)) ?_
        refine x_iload2 B 161 dX2_goesOn_160 rfl ?_
        refine x_bipush B 163 (v := 40) dX2_goesOn_161 (by decide) rfl ?_
        refine x_icmp_ne_f (tp := 175) B 166 dX2_goesOn_163 (by decide) rfl (by (try simp only [xlit]); first | (rw [nI_leI (by omega) (by omega)]; omega) | (rw [nI_ltI (by omega) (by omega)]; omega) | (rw [nI_eq (by omega) (by omega)]; omega)) ?_
        refine x_aload0 B 167 dX2_goesOn_166 rfl (by first | rfl | exact xisR_rf _) ?_
        refine g_X2_32_X2 B 170 (by repeat (first | with_reducible exact xr_h | refine xr_t ?_)) dX2_goesOn_167 rfl ?_
        refine x_iload1 B 171 dX2_goesOn_170 rfl ?_
        refine x_ialdv B 172 (by repeat (first | with_reducible exact xr_h | refine xr_t ?_)) (j := k) (by first | (simp only [xlit, nI_add, pk_mul]; done) | rfl | (simp only [xlit, nI_add, pk_mul]; congr 1; omega)) ⟨by first | omega | decide, by first | decide | omega⟩ hek dX2_goesOn_171 rfl ?_
        refine x_goto B 176 dX2_goesOn_172 (by decide) ?_
        refine x_istore4 B 178 dX2_goesOn_176 rfl ?_
        refine skip _ (by rw [if_pos c40]) hEk (by omega) (by omega) (by omega) v zn2 s2 z2 g2 (fun j hj => ?_)
        rcases hj with ⟨-, q⟩ | ⟨q, -⟩ | ⟨q, -⟩ | ⟨q, -⟩ | ⟨-, -, -, q1, q2, q3⟩
        · rcases q with q | ⟨i, i1, i2, i3, i4, i5⟩
          · left; rw [q]; exact hk1
          · left; rw [i5]; exact hbars i i1 (by omega) i2 i3 i4
        · omega
        · omega
        · omega
        · rw [if_pos c40] at q1 q2 q3
          right; exact ⟨q1, q2, q3⟩
      | succ m ih =>
        intro b hb1 hb2 v zn2 s2 z2 g2 hk1 hbars
        have hbE : b < (lay G G.length).2.2 k := by omega
        have hbl : b < G.length := by omega
        have hcb : G.getD b 0 < 256 := ok.2.1 _ (getD_mem hbl)
        have hBb := hB b hbl
        have next : ∀ (v3 : Bool) (zn3 : Nat → Int32) (s3 : Nat → Bool), ZRep zn3 s3 → GO G k s s3 v3 → s3 (k + 1) = true → (∀ i, k < i → i < b + 1 → i < (lay G G.length).2.2 k → G.getD i 0 = 124 → (lay G G.length).2.1 i = k → s3 (i + 1) = true) → WX D X [tR D h ad iv, tI D ad 10 202 lt, tI D ad 11 202 en, tI D ad 12 202 bg, tZ D ad 34 203 zn3] 0 0 82 [some (.ref h), some (.int (nI k)), some (.int (nI (G.getD k 0))), some (.int (bI v)), some (.int (nI b))] [.int (bI v3)] := by
          intro v3 zn3 s3 z3 g3 q1 q2
          refine x_istore3 B 83 dX2_goesOn_82 rfl ?_
          refine x_iinc4 B 86 dX2_goesOn_83 rfl (by first | exact xinc _ | rfl) ?_
          refine x_goto B 28 dX2_goesOn_86 (by decide) ?_
          exact ih (b + 1) (by omega) (by omega) v3 zn3 s3 z3 g3 q1 q2
        have keep : ¬ (G.getD b 0 = 124 ∧ (lay G G.length).2.1 b = k) → WX D X [tR D h ad iv, tI D ad 10 202 lt, tI D ad 11 202 en, tI D ad 12 202 bg, tZ D ad 34 203 zn2] 0 0 73 [some (.ref h), some (.int (nI k)), some (.int (nI (G.getD k 0))), some (.int (bI v)), some (.int (nI b))] [] := by
          intro hno
          have q2 : ∀ i, k < i → i < b + 1 → i < (lay G G.length).2.2 k → G.getD i 0 = 124 → (lay G G.length).2.1 i = k → s2 (i + 1) = true := by
            intro i i1 i2 i3 i4 i5
            rcases Nat.eq_or_lt_of_le (Nat.le_of_lt_succ i2) with z | z
            · subst z; exact absurd ⟨i4, i5⟩ hno
            · exact hbars i i1 z i3 i4 i5
          cases ev : v with
          | false =>
            refine x_iload3 B 74 dX2_goesOn_73 rfl ?_
            refine x_if_eq_t B 81 dX2_goesOn_74 (by decide) rfl ?_
            refine x_iconst B 82 (v := 0) dX2_goesOn_81 (by decide) rfl ?_
            have := next v zn2 s2 z2 g2 hk1 q2
            rw [ev] at this
            exact this
          | true =>
            refine x_iload3 B 74 dX2_goesOn_73 rfl ?_
            refine x_if_eq_f (tp := 81) B 77 dX2_goesOn_74 (by decide) rfl (by decide) ?_
            refine x_iconst B 78 (v := 1) dX2_goesOn_77 (by decide) rfl ?_
            refine x_goto B 82 dX2_goesOn_78 (by decide) ?_
            rw [← ev]
            have := next v zn2 s2 z2 g2 hk1 q2
            rw [show bI v = 1 by rw [ev]; rfl] at this
            rw [show bI v = 1 by rw [ev]; rfl]
            exact this
        refine x_iload4 B 30 dX2_goesOn_28 rfl ?_
        refine x_aload0 B 31 dX2_goesOn_30 rfl (by first | rfl | exact xisR_rf _) ?_
        refine g_X2_32_X2 B 34 (by repeat (first | with_reducible exact xr_h | refine xr_t ?_)) dX2_goesOn_31 rfl ?_
        refine x_iload1 B 35 dX2_goesOn_34 rfl ?_
        refine x_ialdv B 36 (by repeat (first | with_reducible exact xr_h | refine xr_t ?_)) (j := k) (by first | (simp only [xlit, nI_add, pk_mul]; done) | rfl | (simp only [xlit, nI_add, pk_mul]; congr 1; omega)) ⟨by first | omega | decide, by first | decide | omega⟩ hek dX2_goesOn_35 rfl ?_
        refine x_icmp_ge_f (tp := 89) B 39 dX2_goesOn_36 (by decide) rfl (by (try simp only [xlit]); first | (rw [nI_leI (by omega) (by omega)]; omega) | (rw [nI_ltI (by omega) (by omega)]; omega) | (rw [nI_eq (by omega) (by omega)]; omega)) ?_
        refine x_aload0 B 40 dX2_goesOn_39 rfl (by first | rfl | exact xisR_rf _) ?_
        refine g_X2_29_X2 B 43 (by repeat (first | with_reducible exact xr_h | refine xr_t ?_)) dX2_goesOn_40 rfl ?_
        refine x_iload4 B 45 dX2_goesOn_43 rfl ?_
        refine x_ialdv B 46 (by repeat (first | with_reducible exact xr_h | refine xr_t ?_)) (j := b) (by first | (simp only [xlit, nI_add, pk_mul]; done) | rfl | (simp only [xlit, nI_add, pk_mul]; congr 1; omega)) ⟨by first | omega | decide, by first | decide | omega⟩ (hl b hbl) dX2_goesOn_45 rfl ?_
        by_cases c1 : G.getD b 0 = 124
        · refine x_bipush B 48 (v := 124) dX2_goesOn_46 (by decide) rfl ?_
          refine x_icmp_ne_f (tp := 73) B 51 dX2_goesOn_48 (by decide) rfl (by (try simp only [xlit]); first | (rw [nI_leI (by omega) (by omega)]; omega) | (rw [nI_ltI (by omega) (by omega)]; omega) | (rw [nI_eq (by omega) (by omega)]; omega)) ?_
          refine x_aload0 B 52 dX2_goesOn_51 rfl (by first | rfl | exact xisR_rf _) ?_
          refine g_X2_35_X2 B 55 (by repeat (first | with_reducible exact xr_h | refine xr_t ?_)) dX2_goesOn_52 rfl ?_
          refine x_iload4 B 57 dX2_goesOn_55 rfl ?_
          refine x_ialdv B 58 (by repeat (first | with_reducible exact xr_h | refine xr_t ?_)) (j := b) (by first | (simp only [xlit, nI_add, pk_mul]; done) | rfl | (simp only [xlit, nI_add, pk_mul]; congr 1; omega)) ⟨by first | omega | decide, by first | decide | omega⟩ (hb b hbl) dX2_goesOn_57 rfl ?_
          by_cases c2 : (lay G G.length).2.1 b = k
          · have eps : gEps G k (b + 1) := Or.inl ⟨c40, Or.inr ⟨b, by omega, hbE, c1, c2, rfl⟩⟩
            refine x_iload1 B 59 dX2_goesOn_58 rfl ?_
            refine x_icmp_ne_f (tp := 73) B 62 dX2_goesOn_59 (by decide) rfl (by (try simp only [xlit]); first | (rw [nI_leI (by omega) (by omega)]; omega) | (rw [nI_ltI (by omega) (by omega)]; omega) | (rw [nI_eq (by omega) (by omega)]; omega)) ?_
            refine x_aload0 B 63 dX2_goesOn_62 rfl (by first | rfl | exact xisR_rf _) ?_
            refine x_iload4 B 65 dX2_goesOn_63 rfl ?_
            refine x_iconst B 66 (v := 1) dX2_goesOn_65 (by decide) rfl ?_
            refine x_iadd B 67 dX2_goesOn_66 rfl ?_
            rw [show nI b + 1 = nI (b + 1) from nI_1 _]
            refine x_callV B 70 (m_X2_mark z2 (b + 1) (by omega)) [0, 4] rfl ⟨_, _, _, (by repeat (first | with_reducible exact xr_h | refine xr_t ?_)), rfl, rfl⟩ q2164 q2166 qs80 q92 q2167 hd_X2_mark (by decide) ⟨by first | decide | omega, by first | decide | omega⟩ ⟨by first | decide | omega, by first | decide | omega⟩ rfl (Nat.le_of_ble_eq_true rfl) dX2_goesOn_67 rfl (fun _ _ _ h => h.elim) ?_
            rintro _ _ ⟨rfl, zn3, z3, rfl⟩
            try simp only [xst, xput, xpre, List.set_cons_zero, List.set_cons_succ]
            have g3 := g2.mark (j := b + 1) (by omega) eps
            have q1 : fUp s2 (b + 1) true (k + 1) = true := by unfold fUp; split; rfl; exact hk1
            have q2 : ∀ i, k < i → i < b + 1 → i < (lay G G.length).2.2 k → G.getD i 0 = 124 → (lay G G.length).2.1 i = k → fUp s2 (b + 1) true (i + 1) = true := by
              intro i i1 i2 i3 i4 i5
              unfold fUp
              by_cases z : i + 1 = b + 1
              · rw [if_pos z]
              · rw [if_neg z]; exact hbars i i1 (by omega) i3 i4 i5
            have nx : ∀ v3, v3 = (!s2 (b + 1) || v) → _ := fun v3 hv3 => next v3 zn3 _ z3 (by rw [hv3]; exact g3) q1 q2
            cases e1 : s2 (b + 1) with
            | false =>
              refine x_if_ne_t B 77 dX2_goesOn_70 (by decide) (by decide) ?_
              refine x_iconst B 78 (v := 1) dX2_goesOn_77 (by decide) rfl ?_
              refine x_goto B 82 dX2_goesOn_78 (by decide) ?_
              exact nx true (by rw [e1]; rfl)
            | true =>
              refine x_if_ne_f (tp := 77) B 73 dX2_goesOn_70 (by decide) rfl rfl ?_
              cases ev : v with
              | false =>
                refine x_iload3 B 74 dX2_goesOn_73 rfl ?_
                refine x_if_eq_t B 81 dX2_goesOn_74 (by decide) rfl ?_
                refine x_iconst B 82 (v := 0) dX2_goesOn_81 (by decide) rfl ?_
                rw [← ev]
                have := nx false (by rw [e1, ev]; rfl)
                exact this
              | true =>
                refine x_iload3 B 74 dX2_goesOn_73 rfl ?_
                refine x_if_eq_f (tp := 81) B 77 dX2_goesOn_74 (by decide) rfl (by decide) ?_
                refine x_iconst B 78 (v := 1) dX2_goesOn_77 (by decide) rfl ?_
                refine x_goto B 82 dX2_goesOn_78 (by decide) ?_
                rw [← ev]
                have := nx true (by rw [e1, ev]; rfl)
                exact this
          · refine x_iload1 B 59 dX2_goesOn_58 rfl ?_
            refine x_icmp_ne_t B 73 dX2_goesOn_59 (by decide) (by (try simp only [xlit]); first | (rw [nI_leI (by omega) (by omega)]; omega) | (rw [nI_ltI (by omega) (by omega)]; omega) | (rw [nI_eq (by omega) (by omega)]; omega)) ?_
            exact keep (fun z => c2 z.2)
        · refine x_bipush B 48 (v := 124) dX2_goesOn_46 (by decide) rfl ?_
          refine x_icmp_ne_t B 73 dX2_goesOn_48 (by decide) (by (try simp only [xlit]); first | (rw [nI_leI (by omega) (by omega)]; omega) | (rw [nI_ltI (by omega) (by omega)]; omega) | (rw [nI_eq (by omega) (by omega)]; omega)) ?_
          exact keep (fun z => c1 z.1)
    exact loop ((max (k + 1) ((lay G G.length).2.2 k)) - (k + 1)) (k + 1) (by omega) (Nat.le_refl _) b0 zn1 s1 z1 g1 m1 (fun i i1 i2 => by omega)
  refine x_istore2 B 7 dX2_goesOn_6 rfl ?_
  refine x_iconst B 8 (v := 0) dX2_goesOn_7 (by decide) rfl ?_
  refine x_istore3 B 9 dX2_goesOn_8 rfl ?_
  refine x_iload2 B 10 dX2_goesOn_9 rfl ?_
  refine x_bipush B 12 (v := 40) dX2_goesOn_10 (by decide) rfl ?_
  refine x_icmp_ne_t B 89 dX2_goesOn_12 (by decide) (by (try simp only [xlit]); first | (rw [nI_leI (by omega) (by omega)]; omega) | (rw [nI_ltI (by omega) (by omega)]; omega) | (rw [nI_eq (by omega) (by omega)]; omega)) ?_
  by_cases c124 : G.getD k 0 = 124
  · have hcl := lay_bar ok bal hk c124
    have hek := he _ hcl
    have hEk := hE ((lay G G.length).2.1 k)
    have eps : gEps G k ((lay G G.length).2.2 ((lay G G.length).2.1 k)) := Or.inr (Or.inl ⟨c124, rfl⟩)
    refine x_iload2 B 90 dX2_goesOn_89 rfl ?_
    refine x_bipush B 92 (v := 124) dX2_goesOn_90 (by decide) rfl ?_
    refine x_icmp_ne_f (tp := 111) B 95 dX2_goesOn_92 (by decide) rfl (by (try simp only [xlit]); first | (rw [nI_leI (by omega) (by omega)]; omega) | (rw [nI_ltI (by omega) (by omega)]; omega) | (rw [nI_eq (by omega) (by omega)]; omega)) ?_
    refine x_aload0 B 96 dX2_goesOn_95 rfl (by first | rfl | exact xisR_rf _) ?_
    refine x_aload0 B 97 dX2_goesOn_96 rfl (by first | rfl | exact xisR_rf _) ?_
    refine g_X2_32_X2 B 100 (by repeat (first | with_reducible exact xr_h | refine xr_t ?_)) dX2_goesOn_97 rfl ?_
    refine x_aload0 B 101 dX2_goesOn_100 rfl (by first | rfl | exact xisR_rf _) ?_
    refine g_X2_35_X2 B 104 (by repeat (first | with_reducible exact xr_h | refine xr_t ?_)) dX2_goesOn_101 rfl ?_
    refine x_iload1 B 105 dX2_goesOn_104 rfl ?_
    refine x_ialdv B 106 (by repeat (first | with_reducible exact xr_h | refine xr_t ?_)) (j := k) (by first | (simp only [xlit, nI_add, pk_mul]; done) | rfl | (simp only [xlit, nI_add, pk_mul]; congr 1; omega)) ⟨by first | omega | decide, by first | decide | omega⟩ hbk dX2_goesOn_105 rfl ?_
    refine x_ialdv B 107 (by repeat (first | with_reducible exact xr_h | refine xr_t ?_)) (j := (lay G G.length).2.1 k) (by first | (simp only [xlit, nI_add, pk_mul]; done) | rfl | (simp only [xlit, nI_add, pk_mul]; congr 1; omega)) ⟨by first | omega | decide, by first | decide | omega⟩ hek dX2_goesOn_106 rfl ?_
    refine x_callV B 110 (m_X2_mark hz _ (by omega)) [0, 4] rfl ⟨_, _, _, (by repeat (first | with_reducible exact xr_h | refine xr_t ?_)), rfl, rfl⟩ q2164 q2166 qs80 q92 q2167 hd_X2_mark (by decide) ⟨by first | decide | omega, by first | decide | omega⟩ ⟨by first | decide | omega, by first | decide | omega⟩ rfl (Nat.le_of_ble_eq_true rfl) dX2_goesOn_107 rfl (fun _ _ _ h => h.elim) ?_
    rintro _ _ ⟨rfl, zn1, z1, rfl⟩
    try simp only [xst, xput, xpre, List.set_cons_zero, List.set_cons_succ]
    have g1 := GO.mark (GO.rf (G := G) (k := k) (s := s)) (by omega) eps
    rw [Bool.or_false] at g1
    refine x_istore3 B 111 dX2_goesOn_110 rfl ?_
    refine x_iload2 B 112 dX2_goesOn_111 rfl ?_
    refine x_bipush B 114 (v := 41) dX2_goesOn_112 (by decide) rfl ?_
    refine x_icmp_eq_f (tp := 123) B 117 dX2_goesOn_114 (by decide) rfl (by (try simp only [xlit]); first | (rw [nI_leI (by omega) (by omega)]; omega) | (rw [nI_ltI (by omega) (by omega)]; omega) | (rw [nI_eq (by omega) (by omega)]; omega)) ?_
    refine x_iload2 B 118 dX2_goesOn_117 rfl ?_
    refine x_bipush B 120 (v := 42) dX2_goesOn_118 (by decide) rfl ?_
    refine x_icmp_ne_t B 131 dX2_goesOn_120 (by decide) (by (try simp only [xlit]); first | (rw [nI_leI (by omega) (by omega)]; omega) | (rw [nI_ltI (by omega) (by omega)]; omega) | (rw [nI_eq (by omega) (by omega)]; omega)) ?_
    refine x_iload2 B 132 dX2_goesOn_131 rfl ?_
    refine x_bipush B 134 (v := 42) dX2_goesOn_132 (by decide) rfl ?_
    refine x_icmp_ne_t B 160 dX2_goesOn_134 (by decide) (by (try simp only [xlit]); first | (rw [nI_leI (by omega) (by omega)]; omega) | (rw [nI_ltI (by omega) (by omega)]; omega) | (rw [nI_eq (by omega) (by omega)]; omega)) ?_
    refine x_iload2 B 161 dX2_goesOn_160 rfl ?_
    refine x_bipush B 163 (v := 40) dX2_goesOn_161 (by decide) rfl ?_
    refine x_icmp_ne_t B 175 dX2_goesOn_163 (by decide) (by (try simp only [xlit]); first | (rw [nI_leI (by omega) (by omega)]; omega) | (rw [nI_ltI (by omega) (by omega)]; omega) | (rw [nI_eq (by omega) (by omega)]; omega)) ?_
    refine x_iload1 B 176 dX2_goesOn_175 rfl ?_
    refine x_istore4 B 178 dX2_goesOn_176 rfl ?_
    refine x_iload2 B 179 dX2_goesOn_178 rfl ?_
    refine x_bipush B 181 (v := 124) dX2_goesOn_179 (by decide) rfl ?_
    refine x_icmp_eq_t B 242 dX2_goesOn_181 (by decide) (by (try simp only [xlit]); first | (rw [nI_leI (by omega) (by omega)]; omega) | (rw [nI_ltI (by omega) (by omega)]; omega) | (rw [nI_eq (by omega) (by omega)]; omega)) ?_
    refine fin _ zn1 _ _ z1 g1 (fun j hj => ?_)
    rcases hj with ⟨q, -⟩ | ⟨-, q⟩ | ⟨q, -⟩ | ⟨q, -⟩ | ⟨q, -⟩
    · omega
    · rw [q]; unfold fUp; rw [if_pos rfl]
    · omega
    · omega
    · omega
  refine x_iload2 B 90 dX2_goesOn_89 rfl ?_
  refine x_bipush B 92 (v := 124) dX2_goesOn_90 (by decide) rfl ?_
  refine x_icmp_ne_t B 111 dX2_goesOn_92 (by decide) (by (try simp only [xlit]); first | (rw [nI_leI (by omega) (by omega)]; omega) | (rw [nI_ltI (by omega) (by omega)]; omega) | (rw [nI_eq (by omega) (by omega)]; omega)) ?_
  by_cases c41 : G.getD k 0 = 41
  · have eps : gEps G k (k + 1) := Or.inr (Or.inr (Or.inl ⟨Or.inl c41, rfl⟩))
    refine x_iload2 B 112 dX2_goesOn_111 rfl ?_
    refine x_bipush B 114 (v := 41) dX2_goesOn_112 (by decide) rfl ?_
    refine x_icmp_eq_t B 123 dX2_goesOn_114 (by decide) (by (try simp only [xlit]); first | (rw [nI_leI (by omega) (by omega)]; omega) | (rw [nI_ltI (by omega) (by omega)]; omega) | (rw [nI_eq (by omega) (by omega)]; omega)) ?_
    refine x_aload0 B 124 dX2_goesOn_123 rfl (by first | rfl | exact xisR_rf _) ?_
    refine x_iload1 B 125 dX2_goesOn_124 rfl ?_
    refine x_iconst B 126 (v := 1) dX2_goesOn_125 (by decide) rfl ?_
    refine x_iadd B 127 dX2_goesOn_126 rfl ?_
    rw [show nI k + 1 = nI (k + 1) from nI_1 _]
    refine x_callV B 130 (m_X2_mark hz (k + 1) (by omega)) [0, 4] rfl ⟨_, _, _, (by repeat (first | with_reducible exact xr_h | refine xr_t ?_)), rfl, rfl⟩ q2164 q2166 qs80 q92 q2167 hd_X2_mark (by decide) ⟨by first | decide | omega, by first | decide | omega⟩ ⟨by first | decide | omega, by first | decide | omega⟩ rfl (Nat.le_of_ble_eq_true rfl) dX2_goesOn_127 rfl (fun _ _ _ h => h.elim) ?_
    rintro _ _ ⟨rfl, zn1, z1, rfl⟩
    try simp only [xst, xput, xpre, List.set_cons_zero, List.set_cons_succ]
    have g1 := GO.mark (GO.rf (G := G) (k := k) (s := s)) (j := k + 1) (by omega) eps
    rw [Bool.or_false] at g1
    refine x_istore3 B 131 dX2_goesOn_130 rfl ?_
    refine x_iload2 B 132 dX2_goesOn_131 rfl ?_
    refine x_bipush B 134 (v := 42) dX2_goesOn_132 (by decide) rfl ?_
    refine x_icmp_ne_t B 160 dX2_goesOn_134 (by decide) (by (try simp only [xlit]); first | (rw [nI_leI (by omega) (by omega)]; omega) | (rw [nI_ltI (by omega) (by omega)]; omega) | (rw [nI_eq (by omega) (by omega)]; omega)) ?_
    refine x_iload2 B 161 dX2_goesOn_160 rfl ?_
    refine x_bipush B 163 (v := 40) dX2_goesOn_161 (by decide) rfl ?_
    refine x_icmp_ne_t B 175 dX2_goesOn_163 (by decide) (by (try simp only [xlit]); first | (rw [nI_leI (by omega) (by omega)]; omega) | (rw [nI_ltI (by omega) (by omega)]; omega) | (rw [nI_eq (by omega) (by omega)]; omega)) ?_
    refine x_iload1 B 176 dX2_goesOn_175 rfl ?_
    refine x_istore4 B 178 dX2_goesOn_176 rfl ?_
    refine x_iload2 B 179 dX2_goesOn_178 rfl ?_
    refine x_bipush B 181 (v := 124) dX2_goesOn_179 (by decide) rfl ?_
    refine x_icmp_eq_f (tp := 242) B 184 dX2_goesOn_181 (by decide) rfl (by (try simp only [xlit]); first | (rw [nI_leI (by omega) (by omega)]; omega) | (rw [nI_ltI (by omega) (by omega)]; omega) | (rw [nI_eq (by omega) (by omega)]; omega)) ?_
    refine x_iload2 B 185 dX2_goesOn_184 rfl ?_
    refine x_bipush B 187 (v := 41) dX2_goesOn_185 (by decide) rfl ?_
    refine x_icmp_eq_t B 242 dX2_goesOn_187 (by decide) (by (try simp only [xlit]); first | (rw [nI_leI (by omega) (by omega)]; omega) | (rw [nI_ltI (by omega) (by omega)]; omega) | (rw [nI_eq (by omega) (by omega)]; omega)) ?_
    refine fin _ zn1 _ _ z1 g1 (fun j hj => ?_)
    rcases hj with ⟨q, -⟩ | ⟨q, -⟩ | ⟨-, q⟩ | ⟨q, -⟩ | ⟨-, q, -⟩
    · omega
    · omega
    · rw [q]; unfold fUp; rw [if_pos rfl]
    · omega
    · exact absurd c41 q
  refine x_iload2 B 112 dX2_goesOn_111 rfl ?_
  refine x_bipush B 114 (v := 41) dX2_goesOn_112 (by decide) rfl ?_
  refine x_icmp_eq_f (tp := 123) B 117 dX2_goesOn_114 (by decide) rfl (by (try simp only [xlit]); first | (rw [nI_leI (by omega) (by omega)]; omega) | (rw [nI_ltI (by omega) (by omega)]; omega) | (rw [nI_eq (by omega) (by omega)]; omega)) ?_
  by_cases c42 : G.getD k 0 = 42
  · have eps : gEps G k (k + 1) := Or.inr (Or.inr (Or.inl ⟨Or.inr c42, rfl⟩))
    have eps2 : gEps G k ((lay G G.length).2.1 k) := Or.inr (Or.inr (Or.inr (Or.inl ⟨c42, rfl⟩)))
    refine x_iload2 B 118 dX2_goesOn_117 rfl ?_
    refine x_bipush B 120 (v := 42) dX2_goesOn_118 (by decide) rfl ?_
    refine x_icmp_ne_f (tp := 131) B 123 dX2_goesOn_120 (by decide) rfl (by (try simp only [xlit]); first | (rw [nI_leI (by omega) (by omega)]; omega) | (rw [nI_ltI (by omega) (by omega)]; omega) | (rw [nI_eq (by omega) (by omega)]; omega)) ?_
    refine x_aload0 B 124 dX2_goesOn_123 rfl (by first | rfl | exact xisR_rf _) ?_
    refine x_iload1 B 125 dX2_goesOn_124 rfl ?_
    refine x_iconst B 126 (v := 1) dX2_goesOn_125 (by decide) rfl ?_
    refine x_iadd B 127 dX2_goesOn_126 rfl ?_
    rw [show nI k + 1 = nI (k + 1) from nI_1 _]
    refine x_callV B 130 (m_X2_mark hz (k + 1) (by omega)) [0, 4] rfl ⟨_, _, _, (by repeat (first | with_reducible exact xr_h | refine xr_t ?_)), rfl, rfl⟩ q2164 q2166 qs80 q92 q2167 hd_X2_mark (by decide) ⟨by first | decide | omega, by first | decide | omega⟩ ⟨by first | decide | omega, by first | decide | omega⟩ rfl (Nat.le_of_ble_eq_true rfl) dX2_goesOn_127 rfl (fun _ _ _ h => h.elim) ?_
    rintro _ _ ⟨rfl, zn1, z1, rfl⟩
    try simp only [xst, xput, xpre, List.set_cons_zero, List.set_cons_succ]
    have g1 := GO.mark (GO.rf (G := G) (k := k) (s := s)) (j := k + 1) (by omega) eps
    rw [Bool.or_false] at g1
    have m1 : fUp s (k + 1) true (k + 1) = true := by unfold fUp; rw [if_pos rfl]
    generalize fUp s (k + 1) true = s1 at *
    generalize hb0 : (!s (k + 1)) = b0 at *
    refine x_istore3 B 131 dX2_goesOn_130 rfl ?_
    refine x_iload2 B 132 dX2_goesOn_131 rfl ?_
    refine x_bipush B 134 (v := 42) dX2_goesOn_132 (by decide) rfl ?_
    refine x_icmp_ne_f (tp := 160) B 137 dX2_goesOn_134 (by decide) rfl (by (try simp only [xlit]); first | (rw [nI_leI (by omega) (by omega)]; omega) | (rw [nI_ltI (by omega) (by omega)]; omega) | (rw [nI_eq (by omega) (by omega)]; omega)) ?_
    refine x_aload0 B 138 dX2_goesOn_137 rfl (by first | rfl | exact xisR_rf _) ?_
    refine x_aload0 B 139 dX2_goesOn_138 rfl (by first | rfl | exact xisR_rf _) ?_
    refine g_X2_35_X2 B 142 (by repeat (first | with_reducible exact xr_h | refine xr_t ?_)) dX2_goesOn_139 rfl ?_
    refine x_iload1 B 143 dX2_goesOn_142 rfl ?_
    refine x_ialdv B 144 (by repeat (first | with_reducible exact xr_h | refine xr_t ?_)) (j := k) (by first | (simp only [xlit, nI_add, pk_mul]; done) | rfl | (simp only [xlit, nI_add, pk_mul]; congr 1; omega)) ⟨by first | omega | decide, by first | decide | omega⟩ hbk dX2_goesOn_143 rfl ?_
    refine x_callV B 147 (m_X2_mark z1 ((lay G G.length).2.1 k) (by omega)) [0, 4] rfl ⟨_, _, _, (by repeat (first | with_reducible exact xr_h | refine xr_t ?_)), rfl, rfl⟩ q2164 q2166 qs80 q92 q2167 hd_X2_mark (by decide) ⟨by first | decide | omega, by first | decide | omega⟩ ⟨by first | decide | omega, by first | decide | omega⟩ rfl (Nat.le_of_ble_eq_true rfl) dX2_goesOn_144 rfl (fun _ _ _ h => h.elim) ?_
    rintro _ _ ⟨rfl, zn2, z2, rfl⟩
    try simp only [xst, xput, xpre, List.set_cons_zero, List.set_cons_succ]
    have g2 := g1.mark (j := (lay G G.length).2.1 k) (by omega) eps2
    have all : ∀ j, gEps G k j → fUp s1 ((lay G G.length).2.1 k) true j = true := by
      intro j hj
      rcases hj with ⟨q, -⟩ | ⟨q, -⟩ | ⟨-, q⟩ | ⟨-, q⟩ | ⟨-, -, q, -⟩
      · omega
      · omega
      · rw [q]; unfold fUp; split; rfl; exact m1
      · rw [q]; unfold fUp; rw [if_pos rfl]
      · exact absurd c42 q
    have last : ∀ v : Bool, v = (!s1 ((lay G G.length).2.1 k) || b0) → WX D X [tR D h ad iv, tI D ad 10 202 lt, tI D ad 11 202 en, tI D ad 12 202 bg, tZ D ad 34 203 zn2] 0 0 159 [some (.ref h), some (.int (nI k)), some (.int (nI (G.getD k 0))), some (.int (bI b0)), none] [.int (bI v)] := by
      intro v hv
      refine x_istore3 B 160 dX2_goesOn_159 rfl ?_
      refine x_iload2 B 161 dX2_goesOn_160 rfl ?_
      refine x_bipush B 163 (v := 40) dX2_goesOn_161 (by decide) rfl ?_
      refine x_icmp_ne_t B 175 dX2_goesOn_163 (by decide) (by (try simp only [xlit]); first | (rw [nI_leI (by omega) (by omega)]; omega) | (rw [nI_ltI (by omega) (by omega)]; omega) | (rw [nI_eq (by omega) (by omega)]; omega)) ?_
      refine x_iload1 B 176 dX2_goesOn_175 rfl ?_
      refine x_istore4 B 178 dX2_goesOn_176 rfl ?_
      refine x_iload2 B 179 dX2_goesOn_178 rfl ?_
      refine x_bipush B 181 (v := 124) dX2_goesOn_179 (by decide) rfl ?_
      refine x_icmp_eq_f (tp := 242) B 184 dX2_goesOn_181 (by decide) rfl (by (try simp only [xlit]); first | (rw [nI_leI (by omega) (by omega)]; omega) | (rw [nI_ltI (by omega) (by omega)]; omega) | (rw [nI_eq (by omega) (by omega)]; omega)) ?_
      refine x_iload2 B 185 dX2_goesOn_184 rfl ?_
      refine x_bipush B 187 (v := 41) dX2_goesOn_185 (by decide) rfl ?_
      refine x_icmp_eq_f (tp := 242) B 190 dX2_goesOn_187 (by decide) rfl (by (try simp only [xlit]); first | (rw [nI_leI (by omega) (by omega)]; omega) | (rw [nI_ltI (by omega) (by omega)]; omega) | (rw [nI_eq (by omega) (by omega)]; omega)) ?_
      refine x_iload2 B 191 dX2_goesOn_190 rfl ?_
      refine x_bipush B 193 (v := 42) dX2_goesOn_191 (by decide) rfl ?_
      refine x_icmp_eq_t B 242 dX2_goesOn_193 (by decide) (by (try simp only [xlit]); first | (rw [nI_leI (by omega) (by omega)]; omega) | (rw [nI_ltI (by omega) (by omega)]; omega) | (rw [nI_eq (by omega) (by omega)]; omega)) ?_
      exact fin v zn2 _ _ z2 (by rw [hv]; exact g2) all
    cases e1 : s1 ((lay G G.length).2.1 k) with
    | false =>
      refine x_if_ne_t B 154 dX2_goesOn_147 (by decide) (by decide) ?_
      refine x_iconst B 155 (v := 1) dX2_goesOn_154 (by decide) rfl ?_
      refine x_goto B 159 dX2_goesOn_155 (by decide) ?_
      exact last true (by rw [e1]; rfl)
    | true =>
      refine x_if_ne_f (tp := 154) B 150 dX2_goesOn_147 (by decide) rfl rfl ?_
      cases ev : b0 with
      | false =>
        refine x_iload3 B 151 dX2_goesOn_150 rfl ?_
        refine x_if_eq_t B 158 dX2_goesOn_151 (by decide) rfl ?_
        refine x_iconst B 159 (v := 0) dX2_goesOn_158 (by decide) rfl ?_
        rw [← ev]
        exact (show _ from last false (by rw [e1, ev]; rfl))
      | true =>
        refine x_iload3 B 151 dX2_goesOn_150 rfl ?_
        refine x_if_eq_f (tp := 158) B 154 dX2_goesOn_151 (by decide) rfl (by decide) ?_
        refine x_iconst B 155 (v := 1) dX2_goesOn_154 (by decide) rfl ?_
        refine x_goto B 159 dX2_goesOn_155 (by decide) ?_
        rw [← ev]
        exact (show _ from last true (by rw [e1, ev]; rfl))
  refine x_iload2 B 118 dX2_goesOn_117 rfl ?_
  refine x_bipush B 120 (v := 42) dX2_goesOn_118 (by decide) rfl ?_
  refine x_icmp_ne_t B 131 dX2_goesOn_120 (by decide) (by (try simp only [xlit]); first | (rw [nI_leI (by omega) (by omega)]; omega) | (rw [nI_ltI (by omega) (by omega)]; omega) | (rw [nI_eq (by omega) (by omega)]; omega)) ?_
  refine x_iload2 B 132 dX2_goesOn_131 rfl ?_
  refine x_bipush B 134 (v := 42) dX2_goesOn_132 (by decide) rfl ?_
  refine x_icmp_ne_t B 160 dX2_goesOn_134 (by decide) (by (try simp only [xlit]); first | (rw [nI_leI (by omega) (by omega)]; omega) | (rw [nI_ltI (by omega) (by omega)]; omega) | (rw [nI_eq (by omega) (by omega)]; omega)) ?_
  refine x_iload2 B 161 dX2_goesOn_160 rfl ?_
  refine x_bipush B 163 (v := 40) dX2_goesOn_161 (by decide) rfl ?_
  refine x_icmp_ne_t B 175 dX2_goesOn_163 (by decide) (by (try simp only [xlit]); first | (rw [nI_leI (by omega) (by omega)]; omega) | (rw [nI_ltI (by omega) (by omega)]; omega) | (rw [nI_eq (by omega) (by omega)]; omega)) ?_
  refine x_iload1 B 176 dX2_goesOn_175 rfl ?_
  refine x_istore4 B 178 dX2_goesOn_176 rfl ?_
  refine skip k (by rw [if_neg c40]) (by omega) c124 c41 c42 false zn s hz GO.rf (fun j hj => ?_)
  rcases hj with ⟨q, -⟩ | ⟨q, -⟩ | ⟨q, -⟩ | ⟨q, -⟩ | ⟨-, -, -, q1, q2, q3⟩
  · exact absurd q c40
  · exact absurd q c124
  · rcases q with q | q
    · exact absurd q c41
    · exact absurd q c42
  · exact absurd q c42
  · rw [if_neg c40] at q1 q2 q3
    right; exact ⟨q1, q2, q3⟩
end T22
