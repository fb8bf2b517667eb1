/-! the twin, 24: how it begins -/
section T24
variable {D : xG} {h : Nat}
def wf0 : Nat → Nat → Int32 := fun i => if i = 23 then (upd (upd (upd (upd (upd (upd (upd (fun _ => 0) 0 (104)) 1 (97)) 2 (114)) 3 (98)) 4 (111)) 5 (117)) 6 (114)) else if i = 24 then (upd (upd (upd (upd (upd (upd (fun _ => 0) 0 (112)) 1 (97)) 2 (114)) 3 (114)) 4 (111)) 5 (116)) else if i = 25 then (upd (upd (upd (upd (fun _ => 0) 0 (103)) 1 (114)) 2 (101)) 3 (121)) else if i = 26 then (upd (upd (upd (upd (upd (upd (upd (upd (fun _ => 0) 0 (99)) 1 (111)) 2 (99)) 3 (107)) 4 (97)) 5 (116)) 6 (111)) 7 (111)) else if i = 27 then (upd (upd (upd (upd (fun _ => 0) 0 (104)) 1 (97)) 2 (119)) 3 (107)) else if i = 28 then (upd (upd (upd (upd (upd (fun _ => 0) 0 (103)) 1 (114)) 2 (101)) 3 (101)) 4 (110)) else if i = 29 then (upd (upd (upd (fun _ => 0) 0 (109)) 1 (97)) 2 (110)) else if i = 30 then (upd (upd (upd (upd (upd (fun _ => 0) 0 (107)) 1 (110)) 2 (111)) 3 (119)) 4 (115)) else if i = 31 then (upd (upd (upd (upd (fun _ => 0) 0 (115)) 1 (105)) 2 (116)) 3 (115)) else (upd (upd (upd (upd (upd (fun _ => 0) 0 (99)) 1 (111)) 2 (118)) 3 (101)) 4 (114))
theorem wf0_ok : TWd wf0 := by
  intro i h1 h2 k c hk
  have hi : i = 23 ∨ i = 24 ∨ i = 25 ∨ i = 26 ∨ i = 27 ∨ i = 28 ∨ i = 29 ∨ i = 30 ∨ i = 31 ∨ i = 32 := by omega
  have key : ∀ i : Nat, (i = 23 ∨ i = 24 ∨ i = 25 ∨ i = 26 ∨ i = 27 ∨ i = 28 ∨ i = 29 ∨ i = 30 ∨ i = 31 ∨ i = 32) → ∀ k, k < (wOf i).length → wf0 i k = nI ((wOf i).getD k 0) ∧ (wOf i).getD k 0 < 256 := by
    intro i hi
    rcases hi with rfl | rfl | rfl | rfl | rfl | rfl | rfl | rfl | rfl | rfl
    all_goals decide
  have hl := (List.getElem?_eq_some_iff.mp hk).1
  have := key i hi k hl
  rw [List.getD_eq_getElem?_getD, hk] at this
  exact this
theorem m_X2_init  : XC D yX2_init (ws_ yX2_init cX2_init 1 (Option.none : Option Jvm.ClassFile.FieldType)) 1 40 (32) (2861) [.ref h] [[(h, .inr (2, [.null, .int 0, .null, .null, .int 0, .int 0, .null, .null, .null, .int 0, .null, .null, .null, .null, .null, .null, .int 0, .int 0, .int 0, .int 0, .null, .int 0, .int 0, .null, .null, .null, .null, .null, .null, .null, .null, .null, .null, .null, .null, .null, .null, .null, .null, .null, .null, .null]))]] (fun r cs' => r = none ∧ ∃ (ad : Nat → Nat) (c13 : Nat → Int32) (wf : Nat → Nat → Int32), (∀ k, k < 3 → c13 k = -1) ∧ TWd wf ∧ cs' = [tI D ad 41 12 (fun _ => 0), tI D ad 40 4 (fun _ => 0), tI D ad 39 4 (fun _ => 0), tI D ad 38 32 (fun _ => 0), tI D ad 37 4 (fun _ => 0), tI D ad 36 64 (fun _ => 0), tZ D ad 35 203 (fun _ => 0), tZ D ad 34 203 (fun _ => 0), tI D ad 33 8 (fun _ => 0), tI D ad 32 5 (wf 32), tI D ad 31 4 (wf 31), tI D ad 30 5 (wf 30), tI D ad 29 3 (wf 29), tI D ad 28 5 (wf 28), tI D ad 27 4 (wf 27), tI D ad 26 8 (wf 26), tI D ad 25 4 (wf 25), tI D ad 24 6 (wf 24), tI D ad 23 7 (wf 23), tI D ad 20 4 (fun _ => 0), tI D ad 15 36 (fun _ => 0), tI D ad 14 3 (fun _ => 0), tI D ad 13 3 c13, tI D ad 12 202 (fun _ => 0), tI D ad 11 202 (fun _ => 0), tI D ad 10 202 (fun _ => 0), tI D ad 8 6 (fun _ => 0), tI D ad 7 6 (fun _ => 0), tI D ad 6 6 (fun _ => 0), tI D ad 3 200 (fun _ => 0), tZ D ad 2 2 (fun _ => 0), tI D ad 0 1404 (fun _ => 0), tR D h ad (fun _ => 0)]) x0 := by
  refine XC.of (by decide) (by simp [Value.category]) (Nat.le_of_ble_eq_true rfl) fun X B => ?_
  show WX D X [[(h, .inr (2, [.null, .int 0, .null, .null, .int 0, .int 0, .null, .null, .null, .int 0, .null, .null, .null, .null, .null, .null, .int 0, .int 0, .int 0, .int 0, .null, .int 0, .int 0, .null, .null, .null, .null, .null, .null, .null, .null, .null, .null, .null, .null, .null, .null, .null, .null, .null, .null, .null]))]] 0 0 0 [some (.ref h)] []
  refine x_aload0 B 1 dX2_init_0 rfl (by first | rfl | exact xisR_rf _) ?_
  refine x_objInit B 4 q1735 (Nat.le_of_ble_eq_true rfl) (Nat.le_of_ble_eq_true rfl) dX2_init_1 rfl ?_
  refine x_aload0 B 5 dX2_init_4 rfl (by first | rfl | exact xisR_rf _) ?_
  refine x_sipush B 8 (v := 1404) dX2_init_5 (by decide) rfl ?_
  refine x_newa B 10 (atype := .int) (ty := .int) (t0 := 0) (N := 1404) rfl q179 rfl rfl rfl (by decide) (by decide) ⟨by decide, by decide⟩ dX2_init_8 rfl (fun q0 => ?_)
  refine s_X2_7_X2e B 13 (by first | rfl | exact xisR_rf _) rfl (by repeat (first | with_reducible exact xu_h | apply xu_t)) dX2_init_10 rfl ?_
  refine x_aload0 B 14 dX2_init_13 rfl (by first | rfl | exact xisR_rf _) ?_
  refine x_iconst B 15 (v := 2) dX2_init_14 (by decide) rfl ?_
  refine x_newa B 17 (atype := .boolean) (ty := .boolean) (t0 := 3) (N := 2) rfl q1863 rfl rfl rfl (by decide) (by decide) ⟨by decide, by decide⟩ dX2_init_15 rfl (fun q1 => ?_)
  refine s_X2_13_X2e B 20 (by first | rfl | exact xisR_rf _) rfl (by repeat (first | with_reducible exact xu_h | apply xu_t)) dX2_init_17 rfl ?_
  refine x_aload0 B 21 dX2_init_20 rfl (by first | rfl | exact xisR_rf _) ?_
  refine x_sipush B 24 (v := 200) dX2_init_21 (by decide) rfl ?_
  refine x_newa B 26 (atype := .int) (ty := .int) (t0 := 0) (N := 200) rfl q179 rfl rfl rfl (by decide) (by decide) ⟨by decide, by decide⟩ dX2_init_24 rfl (fun q2 => ?_)
  refine s_X2_17_X2e B 29 (by first | rfl | exact xisR_rf _) rfl (by repeat (first | with_reducible exact xu_h | apply xu_t)) dX2_init_26 rfl ?_
  refine x_aload0 B 30 dX2_init_29 rfl (by first | rfl | exact xisR_rf _) ?_
  refine x_bipush B 32 (v := 6) dX2_init_30 (by decide) rfl ?_
  refine x_newa B 34 (atype := .int) (ty := .int) (t0 := 0) (N := 6) rfl q179 rfl rfl rfl (by decide) (by decide) ⟨by decide, by decide⟩ dX2_init_32 rfl (fun q3 => ?_)
  refine s_X2_20_X2e B 37 (by first | rfl | exact xisR_rf _) rfl (by repeat (first | with_reducible exact xu_h | apply xu_t)) dX2_init_34 rfl ?_
  refine x_aload0 B 38 dX2_init_37 rfl (by first | rfl | exact xisR_rf _) ?_
  refine x_bipush B 40 (v := 6) dX2_init_38 (by decide) rfl ?_
  refine x_newa B 42 (atype := .int) (ty := .int) (t0 := 0) (N := 6) rfl q179 rfl rfl rfl (by decide) (by decide) ⟨by decide, by decide⟩ dX2_init_40 rfl (fun q4 => ?_)
  refine s_X2_23_X2e B 45 (by first | rfl | exact xisR_rf _) rfl (by repeat (first | with_reducible exact xu_h | apply xu_t)) dX2_init_42 rfl ?_
  refine x_aload0 B 46 dX2_init_45 rfl (by first | rfl | exact xisR_rf _) ?_
  refine x_bipush B 48 (v := 6) dX2_init_46 (by decide) rfl ?_
  refine x_newa B 50 (atype := .int) (ty := .int) (t0 := 0) (N := 6) rfl q179 rfl rfl rfl (by decide) (by decide) ⟨by decide, by decide⟩ dX2_init_48 rfl (fun q5 => ?_)
  refine s_X2_26_X2e B 53 (by first | rfl | exact xisR_rf _) rfl (by repeat (first | with_reducible exact xu_h | apply xu_t)) dX2_init_50 rfl ?_
  refine x_aload0 B 54 dX2_init_53 rfl (by first | rfl | exact xisR_rf _) ?_
  refine x_sipush B 57 (v := 202) dX2_init_54 (by decide) rfl ?_
  refine x_newa B 59 (atype := .int) (ty := .int) (t0 := 0) (N := 202) rfl q179 rfl rfl rfl (by decide) (by decide) ⟨by decide, by decide⟩ dX2_init_57 rfl (fun q6 => ?_)
  refine s_X2_29_X2e B 62 (by first | rfl | exact xisR_rf _) rfl (by repeat (first | with_reducible exact xu_h | apply xu_t)) dX2_init_59 rfl ?_
  refine x_aload0 B 63 dX2_init_62 rfl (by first | rfl | exact xisR_rf _) ?_
  refine x_sipush B 66 (v := 202) dX2_init_63 (by decide) rfl ?_
  refine x_newa B 68 (atype := .int) (ty := .int) (t0 := 0) (N := 202) rfl q179 rfl rfl rfl (by decide) (by decide) ⟨by decide, by decide⟩ dX2_init_66 rfl (fun q7 => ?_)
  refine s_X2_32_X2e B 71 (by first | rfl | exact xisR_rf _) rfl (by repeat (first | with_reducible exact xu_h | apply xu_t)) dX2_init_68 rfl ?_
  refine x_aload0 B 72 dX2_init_71 rfl (by first | rfl | exact xisR_rf _) ?_
  refine x_sipush B 75 (v := 202) dX2_init_72 (by decide) rfl ?_
  refine x_newa B 77 (atype := .int) (ty := .int) (t0 := 0) (N := 202) rfl q179 rfl rfl rfl (by decide) (by decide) ⟨by decide, by decide⟩ dX2_init_75 rfl (fun q8 => ?_)
  refine s_X2_35_X2e B 80 (by first | rfl | exact xisR_rf _) rfl (by repeat (first | with_reducible exact xu_h | apply xu_t)) dX2_init_77 rfl ?_
  refine x_aload0 B 81 dX2_init_80 rfl (by first | rfl | exact xisR_rf _) ?_
  refine x_iconst B 82 (v := 3) dX2_init_81 (by decide) rfl ?_
  refine x_newa B 84 (atype := .int) (ty := .int) (t0 := 0) (N := 3) rfl q179 rfl rfl rfl (by decide) (by decide) ⟨by decide, by decide⟩ dX2_init_82 rfl (fun q9 => ?_)
  refine x_dup B 85 dX2_init_84 rfl rfl ?_
  refine x_iconst B 86 (v := 0) dX2_init_85 (by decide) rfl ?_
  refine x_iconst B 87 (v := (-1)) dX2_init_86 (by decide) rfl ?_
  refine x_iast B 88 (by repeat (first | with_reducible exact xu_h | apply xu_t)) (j := 0) (by first | (simp only [xlit, nI_add, pk_mul]; done) | rfl | (simp only [xlit, nI_add, pk_mul]; congr 1; omega)) ⟨by first | omega | decide, by first | decide | omega⟩ dX2_init_87 rfl ?_
  refine x_dup B 89 dX2_init_88 rfl rfl ?_
  refine x_iconst B 90 (v := 1) dX2_init_89 (by decide) rfl ?_
  refine x_iconst B 91 (v := (-1)) dX2_init_90 (by decide) rfl ?_
  refine x_iast B 92 (by repeat (first | with_reducible exact xu_h | apply xu_t)) (j := 1) (by first | (simp only [xlit, nI_add, pk_mul]; done) | rfl | (simp only [xlit, nI_add, pk_mul]; congr 1; omega)) ⟨by first | omega | decide, by first | decide | omega⟩ dX2_init_91 rfl ?_
  refine x_dup B 93 dX2_init_92 rfl rfl ?_
  refine x_iconst B 94 (v := 2) dX2_init_93 (by decide) rfl ?_
  refine x_iconst B 95 (v := (-1)) dX2_init_94 (by decide) rfl ?_
  refine x_iast B 96 (by repeat (first | with_reducible exact xu_h | apply xu_t)) (j := 2) (by first | (simp only [xlit, nI_add, pk_mul]; done) | rfl | (simp only [xlit, nI_add, pk_mul]; congr 1; omega)) ⟨by first | omega | decide, by first | decide | omega⟩ dX2_init_95 rfl ?_
  refine s_X2_38_X2e B 99 (by first | rfl | exact xisR_rf _) rfl (by repeat (first | with_reducible exact xu_h | apply xu_t)) dX2_init_96 rfl ?_
  refine x_aload0 B 100 dX2_init_99 rfl (by first | rfl | exact xisR_rf _) ?_
  refine x_iconst B 101 (v := 3) dX2_init_100 (by decide) rfl ?_
  refine x_newa B 103 (atype := .int) (ty := .int) (t0 := 0) (N := 3) rfl q179 rfl rfl rfl (by decide) (by decide) ⟨by decide, by decide⟩ dX2_init_101 rfl (fun q10 => ?_)
  refine s_X2_41_X2e B 106 (by first | rfl | exact xisR_rf _) rfl (by repeat (first | with_reducible exact xu_h | apply xu_t)) dX2_init_103 rfl ?_
  refine x_aload0 B 107 dX2_init_106 rfl (by first | rfl | exact xisR_rf _) ?_
  refine x_bipush B 109 (v := 36) dX2_init_107 (by decide) rfl ?_
  refine x_newa B 111 (atype := .int) (ty := .int) (t0 := 0) (N := 36) rfl q179 rfl rfl rfl (by decide) (by decide) ⟨by decide, by decide⟩ dX2_init_109 rfl (fun q11 => ?_)
  refine s_X2_44_X2e B 114 (by first | rfl | exact xisR_rf _) rfl (by repeat (first | with_reducible exact xu_h | apply xu_t)) dX2_init_111 rfl ?_
  refine x_aload0 B 115 dX2_init_114 rfl (by first | rfl | exact xisR_rf _) ?_
  refine x_iconst B 116 (v := 4) dX2_init_115 (by decide) rfl ?_
  refine x_newa B 118 (atype := .int) (ty := .int) (t0 := 0) (N := 4) rfl q179 rfl rfl rfl (by decide) (by decide) ⟨by decide, by decide⟩ dX2_init_116 rfl (fun q12 => ?_)
  refine s_X2_47_X2e B 121 (by first | rfl | exact xisR_rf _) rfl (by repeat (first | with_reducible exact xu_h | apply xu_t)) dX2_init_118 rfl ?_
  refine x_aload0 B 122 dX2_init_121 rfl (by first | rfl | exact xisR_rf _) ?_
  refine x_bipush B 124 (v := 7) dX2_init_122 (by decide) rfl ?_
  refine x_newa B 126 (atype := .int) (ty := .int) (t0 := 0) (N := 7) rfl q179 rfl rfl rfl (by decide) (by decide) ⟨by decide, by decide⟩ dX2_init_124 rfl (fun q13 => ?_)
  refine x_dup B 127 dX2_init_126 rfl rfl ?_
  refine x_iconst B 128 (v := 0) dX2_init_127 (by decide) rfl ?_
  refine x_bipush B 130 (v := 104) dX2_init_128 (by decide) rfl ?_
  refine x_iast B 131 (by repeat (first | with_reducible exact xu_h | apply xu_t)) (j := 0) (by first | (simp only [xlit, nI_add, pk_mul]; done) | rfl | (simp only [xlit, nI_add, pk_mul]; congr 1; omega)) ⟨by first | omega | decide, by first | decide | omega⟩ dX2_init_130 rfl ?_
  refine x_dup B 132 dX2_init_131 rfl rfl ?_
  refine x_iconst B 133 (v := 1) dX2_init_132 (by decide) rfl ?_
  refine x_bipush B 135 (v := 97) dX2_init_133 (by decide) rfl ?_
  refine x_iast B 136 (by repeat (first | with_reducible exact xu_h | apply xu_t)) (j := 1) (by first | (simp only [xlit, nI_add, pk_mul]; done) | rfl | (simp only [xlit, nI_add, pk_mul]; congr 1; omega)) ⟨by first | omega | decide, by first | decide | omega⟩ dX2_init_135 rfl ?_
  refine x_dup B 137 dX2_init_136 rfl rfl ?_
  refine x_iconst B 138 (v := 2) dX2_init_137 (by decide) rfl ?_
  refine x_bipush B 140 (v := 114) dX2_init_138 (by decide) rfl ?_
  refine x_iast B 141 (by repeat (first | with_reducible exact xu_h | apply xu_t)) (j := 2) (by first | (simp only [xlit, nI_add, pk_mul]; done) | rfl | (simp only [xlit, nI_add, pk_mul]; congr 1; omega)) ⟨by first | omega | decide, by first | decide | omega⟩ dX2_init_140 rfl ?_
  refine x_dup B 142 dX2_init_141 rfl rfl ?_
  refine x_iconst B 143 (v := 3) dX2_init_142 (by decide) rfl ?_
  refine x_bipush B 145 (v := 98) dX2_init_143 (by decide) rfl ?_
  refine x_iast B 146 (by repeat (first | with_reducible exact xu_h | apply xu_t)) (j := 3) (by first | (simp only [xlit, nI_add, pk_mul]; done) | rfl | (simp only [xlit, nI_add, pk_mul]; congr 1; omega)) ⟨by first | omega | decide, by first | decide | omega⟩ dX2_init_145 rfl ?_
  refine x_dup B 147 dX2_init_146 rfl rfl ?_
  refine x_iconst B 148 (v := 4) dX2_init_147 (by decide) rfl ?_
  refine x_bipush B 150 (v := 111) dX2_init_148 (by decide) rfl ?_
  refine x_iast B 151 (by repeat (first | with_reducible exact xu_h | apply xu_t)) (j := 4) (by first | (simp only [xlit, nI_add, pk_mul]; done) | rfl | (simp only [xlit, nI_add, pk_mul]; congr 1; omega)) ⟨by first | omega | decide, by first | decide | omega⟩ dX2_init_150 rfl ?_
  refine x_dup B 152 dX2_init_151 rfl rfl ?_
  refine x_iconst B 153 (v := 5) dX2_init_152 (by decide) rfl ?_
  refine x_bipush B 155 (v := 117) dX2_init_153 (by decide) rfl ?_
  refine x_iast B 156 (by repeat (first | with_reducible exact xu_h | apply xu_t)) (j := 5) (by first | (simp only [xlit, nI_add, pk_mul]; done) | rfl | (simp only [xlit, nI_add, pk_mul]; congr 1; omega)) ⟨by first | omega | decide, by first | decide | omega⟩ dX2_init_155 rfl ?_
  refine x_dup B 157 dX2_init_156 rfl rfl ?_
  refine x_bipush B 159 (v := 6) dX2_init_157 (by decide) rfl ?_
  refine x_bipush B 161 (v := 114) dX2_init_159 (by decide) rfl ?_
  refine x_iast B 162 (by repeat (first | with_reducible exact xu_h | apply xu_t)) (j := 6) (by first | (simp only [xlit, nI_add, pk_mul]; done) | rfl | (simp only [xlit, nI_add, pk_mul]; congr 1; omega)) ⟨by first | omega | decide, by first | decide | omega⟩ dX2_init_161 rfl ?_
  refine s_X2_50_X2e B 165 (by first | rfl | exact xisR_rf _) rfl (by repeat (first | with_reducible exact xu_h | apply xu_t)) dX2_init_162 rfl ?_
  refine x_aload0 B 166 dX2_init_165 rfl (by first | rfl | exact xisR_rf _) ?_
  refine x_bipush B 168 (v := 6) dX2_init_166 (by decide) rfl ?_
  refine x_newa B 170 (atype := .int) (ty := .int) (t0 := 0) (N := 6) rfl q179 rfl rfl rfl (by decide) (by decide) ⟨by decide, by decide⟩ dX2_init_168 rfl (fun q14 => ?_)
  refine x_dup B 171 dX2_init_170 rfl rfl ?_
  refine x_iconst B 172 (v := 0) dX2_init_171 (by decide) rfl ?_
  refine x_bipush B 174 (v := 112) dX2_init_172 (by decide) rfl ?_
  refine x_iast B 175 (by repeat (first | with_reducible exact xu_h | apply xu_t)) (j := 0) (by first | (simp only [xlit, nI_add, pk_mul]; done) | rfl | (simp only [xlit, nI_add, pk_mul]; congr 1; omega)) ⟨by first | omega | decide, by first | decide | omega⟩ dX2_init_174 rfl ?_
  refine x_dup B 176 dX2_init_175 rfl rfl ?_
  refine x_iconst B 177 (v := 1) dX2_init_176 (by decide) rfl ?_
  refine x_bipush B 179 (v := 97) dX2_init_177 (by decide) rfl ?_
  refine x_iast B 180 (by repeat (first | with_reducible exact xu_h | apply xu_t)) (j := 1) (by first | (simp only [xlit, nI_add, pk_mul]; done) | rfl | (simp only [xlit, nI_add, pk_mul]; congr 1; omega)) ⟨by first | omega | decide, by first | decide | omega⟩ dX2_init_179 rfl ?_
  refine x_dup B 181 dX2_init_180 rfl rfl ?_
  refine x_iconst B 182 (v := 2) dX2_init_181 (by decide) rfl ?_
  refine x_bipush B 184 (v := 114) dX2_init_182 (by decide) rfl ?_
  refine x_iast B 185 (by repeat (first | with_reducible exact xu_h | apply xu_t)) (j := 2) (by first | (simp only [xlit, nI_add, pk_mul]; done) | rfl | (simp only [xlit, nI_add, pk_mul]; congr 1; omega)) ⟨by first | omega | decide, by first | decide | omega⟩ dX2_init_184 rfl ?_
  refine x_dup B 186 dX2_init_185 rfl rfl ?_
  refine x_iconst B 187 (v := 3) dX2_init_186 (by decide) rfl ?_
  refine x_bipush B 189 (v := 114) dX2_init_187 (by decide) rfl ?_
  refine x_iast B 190 (by repeat (first | with_reducible exact xu_h | apply xu_t)) (j := 3) (by first | (simp only [xlit, nI_add, pk_mul]; done) | rfl | (simp only [xlit, nI_add, pk_mul]; congr 1; omega)) ⟨by first | omega | decide, by first | decide | omega⟩ dX2_init_189 rfl ?_
  refine x_dup B 191 dX2_init_190 rfl rfl ?_
  refine x_iconst B 192 (v := 4) dX2_init_191 (by decide) rfl ?_
  refine x_bipush B 194 (v := 111) dX2_init_192 (by decide) rfl ?_
  refine x_iast B 195 (by repeat (first | with_reducible exact xu_h | apply xu_t)) (j := 4) (by first | (simp only [xlit, nI_add, pk_mul]; done) | rfl | (simp only [xlit, nI_add, pk_mul]; congr 1; omega)) ⟨by first | omega | decide, by first | decide | omega⟩ dX2_init_194 rfl ?_
  refine x_dup B 196 dX2_init_195 rfl rfl ?_
  refine x_iconst B 197 (v := 5) dX2_init_196 (by decide) rfl ?_
  refine x_bipush B 199 (v := 116) dX2_init_197 (by decide) rfl ?_
  refine x_iast B 200 (by repeat (first | with_reducible exact xu_h | apply xu_t)) (j := 5) (by first | (simp only [xlit, nI_add, pk_mul]; done) | rfl | (simp only [xlit, nI_add, pk_mul]; congr 1; omega)) ⟨by first | omega | decide, by first | decide | omega⟩ dX2_init_199 rfl ?_
  refine s_X2_53_X2e B 203 (by first | rfl | exact xisR_rf _) rfl (by repeat (first | with_reducible exact xu_h | apply xu_t)) dX2_init_200 rfl ?_
  refine x_aload0 B 204 dX2_init_203 rfl (by first | rfl | exact xisR_rf _) ?_
  refine x_iconst B 205 (v := 4) dX2_init_204 (by decide) rfl ?_
  refine x_newa B 207 (atype := .int) (ty := .int) (t0 := 0) (N := 4) rfl q179 rfl rfl rfl (by decide) (by decide) ⟨by decide, by decide⟩ dX2_init_205 rfl (fun q15 => ?_)
  refine x_dup B 208 dX2_init_207 rfl rfl ?_
  refine x_iconst B 209 (v := 0) dX2_init_208 (by decide) rfl ?_
  refine x_bipush B 211 (v := 103) dX2_init_209 (by decide) rfl ?_
  refine x_iast B 212 (by repeat (first | with_reducible exact xu_h | apply xu_t)) (j := 0) (by first | (simp only [xlit, nI_add, pk_mul]; done) | rfl | (simp only [xlit, nI_add, pk_mul]; congr 1; omega)) ⟨by first | omega | decide, by first | decide | omega⟩ dX2_init_211 rfl ?_
  refine x_dup B 213 dX2_init_212 rfl rfl ?_
  refine x_iconst B 214 (v := 1) dX2_init_213 (by decide) rfl ?_
  refine x_bipush B 216 (v := 114) dX2_init_214 (by decide) rfl ?_
  refine x_iast B 217 (by repeat (first | with_reducible exact xu_h | apply xu_t)) (j := 1) (by first | (simp only [xlit, nI_add, pk_mul]; done) | rfl | (simp only [xlit, nI_add, pk_mul]; congr 1; omega)) ⟨by first | omega | decide, by first | decide | omega⟩ dX2_init_216 rfl ?_
  refine x_dup B 218 dX2_init_217 rfl rfl ?_
  refine x_iconst B 219 (v := 2) dX2_init_218 (by decide) rfl ?_
  refine x_bipush B 221 (v := 101) dX2_init_219 (by decide) rfl ?_
  refine x_iast B 222 (by repeat (first | with_reducible exact xu_h | apply xu_t)) (j := 2) (by first | (simp only [xlit, nI_add, pk_mul]; done) | rfl | (simp only [xlit, nI_add, pk_mul]; congr 1; omega)) ⟨by first | omega | decide, by first | decide | omega⟩ dX2_init_221 rfl ?_
  refine x_dup B 223 dX2_init_222 rfl rfl ?_
  refine x_iconst B 224 (v := 3) dX2_init_223 (by decide) rfl ?_
  refine x_bipush B 226 (v := 121) dX2_init_224 (by decide) rfl ?_
  refine x_iast B 227 (by repeat (first | with_reducible exact xu_h | apply xu_t)) (j := 3) (by first | (simp only [xlit, nI_add, pk_mul]; done) | rfl | (simp only [xlit, nI_add, pk_mul]; congr 1; omega)) ⟨by first | omega | decide, by first | decide | omega⟩ dX2_init_226 rfl ?_
  refine s_X2_56_X2e B 230 (by first | rfl | exact xisR_rf _) rfl (by repeat (first | with_reducible exact xu_h | apply xu_t)) dX2_init_227 rfl ?_
  refine x_aload0 B 231 dX2_init_230 rfl (by first | rfl | exact xisR_rf _) ?_
  refine x_bipush B 233 (v := 8) dX2_init_231 (by decide) rfl ?_
  refine x_newa B 235 (atype := .int) (ty := .int) (t0 := 0) (N := 8) rfl q179 rfl rfl rfl (by decide) (by decide) ⟨by decide, by decide⟩ dX2_init_233 rfl (fun q16 => ?_)
  refine x_dup B 236 dX2_init_235 rfl rfl ?_
  refine x_iconst B 237 (v := 0) dX2_init_236 (by decide) rfl ?_
  refine x_bipush B 239 (v := 99) dX2_init_237 (by decide) rfl ?_
  refine x_iast B 240 (by repeat (first | with_reducible exact xu_h | apply xu_t)) (j := 0) (by first | (simp only [xlit, nI_add, pk_mul]; done) | rfl | (simp only [xlit, nI_add, pk_mul]; congr 1; omega)) ⟨by first | omega | decide, by first | decide | omega⟩ dX2_init_239 rfl ?_
  refine x_dup B 241 dX2_init_240 rfl rfl ?_
  refine x_iconst B 242 (v := 1) dX2_init_241 (by decide) rfl ?_
  refine x_bipush B 244 (v := 111) dX2_init_242 (by decide) rfl ?_
  refine x_iast B 245 (by repeat (first | with_reducible exact xu_h | apply xu_t)) (j := 1) (by first | (simp only [xlit, nI_add, pk_mul]; done) | rfl | (simp only [xlit, nI_add, pk_mul]; congr 1; omega)) ⟨by first | omega | decide, by first | decide | omega⟩ dX2_init_244 rfl ?_
  refine x_dup B 246 dX2_init_245 rfl rfl ?_
  refine x_iconst B 247 (v := 2) dX2_init_246 (by decide) rfl ?_
  refine x_bipush B 249 (v := 99) dX2_init_247 (by decide) rfl ?_
  refine x_iast B 250 (by repeat (first | with_reducible exact xu_h | apply xu_t)) (j := 2) (by first | (simp only [xlit, nI_add, pk_mul]; done) | rfl | (simp only [xlit, nI_add, pk_mul]; congr 1; omega)) ⟨by first | omega | decide, by first | decide | omega⟩ dX2_init_249 rfl ?_
  refine x_dup B 251 dX2_init_250 rfl rfl ?_
  refine x_iconst B 252 (v := 3) dX2_init_251 (by decide) rfl ?_
  refine x_bipush B 254 (v := 107) dX2_init_252 (by decide) rfl ?_
  refine x_iast B 255 (by repeat (first | with_reducible exact xu_h | apply xu_t)) (j := 3) (by first | (simp only [xlit, nI_add, pk_mul]; done) | rfl | (simp only [xlit, nI_add, pk_mul]; congr 1; omega)) ⟨by first | omega | decide, by first | decide | omega⟩ dX2_init_254 rfl ?_
  refine x_dup B 256 dX2_init_255 rfl rfl ?_
  refine x_iconst B 257 (v := 4) dX2_init_256 (by decide) rfl ?_
  refine x_bipush B 259 (v := 97) dX2_init_257 (by decide) rfl ?_
  refine x_iast B 260 (by repeat (first | with_reducible exact xu_h | apply xu_t)) (j := 4) (by first | (simp only [xlit, nI_add, pk_mul]; done) | rfl | (simp only [xlit, nI_add, pk_mul]; congr 1; omega)) ⟨by first | omega | decide, by first | decide | omega⟩ dX2_init_259 rfl ?_
  refine x_dup B 261 dX2_init_260 rfl rfl ?_
  refine x_iconst B 262 (v := 5) dX2_init_261 (by decide) rfl ?_
  refine x_bipush B 264 (v := 116) dX2_init_262 (by decide) rfl ?_
  refine x_iast B 265 (by repeat (first | with_reducible exact xu_h | apply xu_t)) (j := 5) (by first | (simp only [xlit, nI_add, pk_mul]; done) | rfl | (simp only [xlit, nI_add, pk_mul]; congr 1; omega)) ⟨by first | omega | decide, by first | decide | omega⟩ dX2_init_264 rfl ?_
  refine x_dup B 266 dX2_init_265 rfl rfl ?_
  refine x_bipush B 268 (v := 6) dX2_init_266 (by decide) rfl ?_
  refine x_bipush B 270 (v := 111) dX2_init_268 (by decide) rfl ?_
  refine x_iast B 271 (by repeat (first | with_reducible exact xu_h | apply xu_t)) (j := 6) (by first | (simp only [xlit, nI_add, pk_mul]; done) | rfl | (simp only [xlit, nI_add, pk_mul]; congr 1; omega)) ⟨by first | omega | decide, by first | decide | omega⟩ dX2_init_270 rfl ?_
  refine x_dup B 272 dX2_init_271 rfl rfl ?_
  refine x_bipush B 274 (v := 7) dX2_init_272 (by decide) rfl ?_
  refine x_bipush B 276 (v := 111) dX2_init_274 (by decide) rfl ?_
  refine x_iast B 277 (by repeat (first | with_reducible exact xu_h | apply xu_t)) (j := 7) (by first | (simp only [xlit, nI_add, pk_mul]; done) | rfl | (simp only [xlit, nI_add, pk_mul]; congr 1; omega)) ⟨by first | omega | decide, by first | decide | omega⟩ dX2_init_276 rfl ?_
  refine s_X2_59_X2e B 280 (by first | rfl | exact xisR_rf _) rfl (by repeat (first | with_reducible exact xu_h | apply xu_t)) dX2_init_277 rfl ?_
  refine x_aload0 B 281 dX2_init_280 rfl (by first | rfl | exact xisR_rf _) ?_
  refine x_iconst B 282 (v := 4) dX2_init_281 (by decide) rfl ?_
  refine x_newa B 284 (atype := .int) (ty := .int) (t0 := 0) (N := 4) rfl q179 rfl rfl rfl (by decide) (by decide) ⟨by decide, by decide⟩ dX2_init_282 rfl (fun q17 => ?_)
  refine x_dup B 285 dX2_init_284 rfl rfl ?_
  refine x_iconst B 286 (v := 0) dX2_init_285 (by decide) rfl ?_
  refine x_bipush B 288 (v := 104) dX2_init_286 (by decide) rfl ?_
  refine x_iast B 289 (by repeat (first | with_reducible exact xu_h | apply xu_t)) (j := 0) (by first | (simp only [xlit, nI_add, pk_mul]; done) | rfl | (simp only [xlit, nI_add, pk_mul]; congr 1; omega)) ⟨by first | omega | decide, by first | decide | omega⟩ dX2_init_288 rfl ?_
  refine x_dup B 290 dX2_init_289 rfl rfl ?_
  refine x_iconst B 291 (v := 1) dX2_init_290 (by decide) rfl ?_
  refine x_bipush B 293 (v := 97) dX2_init_291 (by decide) rfl ?_
  refine x_iast B 294 (by repeat (first | with_reducible exact xu_h | apply xu_t)) (j := 1) (by first | (simp only [xlit, nI_add, pk_mul]; done) | rfl | (simp only [xlit, nI_add, pk_mul]; congr 1; omega)) ⟨by first | omega | decide, by first | decide | omega⟩ dX2_init_293 rfl ?_
  refine x_dup B 295 dX2_init_294 rfl rfl ?_
  refine x_iconst B 296 (v := 2) dX2_init_295 (by decide) rfl ?_
  refine x_bipush B 298 (v := 119) dX2_init_296 (by decide) rfl ?_
  refine x_iast B 299 (by repeat (first | with_reducible exact xu_h | apply xu_t)) (j := 2) (by first | (simp only [xlit, nI_add, pk_mul]; done) | rfl | (simp only [xlit, nI_add, pk_mul]; congr 1; omega)) ⟨by first | omega | decide, by first | decide | omega⟩ dX2_init_298 rfl ?_
  refine x_dup B 300 dX2_init_299 rfl rfl ?_
  refine x_iconst B 301 (v := 3) dX2_init_300 (by decide) rfl ?_
  refine x_bipush B 303 (v := 107) dX2_init_301 (by decide) rfl ?_
  refine x_iast B 304 (by repeat (first | with_reducible exact xu_h | apply xu_t)) (j := 3) (by first | (simp only [xlit, nI_add, pk_mul]; done) | rfl | (simp only [xlit, nI_add, pk_mul]; congr 1; omega)) ⟨by first | omega | decide, by first | decide | omega⟩ dX2_init_303 rfl ?_
  refine s_X2_62_X2e B 307 (by first | rfl | exact xisR_rf _) rfl (by repeat (first | with_reducible exact xu_h | apply xu_t)) dX2_init_304 rfl ?_
  refine x_aload0 B 308 dX2_init_307 rfl (by first | rfl | exact xisR_rf _) ?_
  refine x_iconst B 309 (v := 5) dX2_init_308 (by decide) rfl ?_
  refine x_newa B 311 (atype := .int) (ty := .int) (t0 := 0) (N := 5) rfl q179 rfl rfl rfl (by decide) (by decide) ⟨by decide, by decide⟩ dX2_init_309 rfl (fun q18 => ?_)
  refine x_dup B 312 dX2_init_311 rfl rfl ?_
  refine x_iconst B 313 (v := 0) dX2_init_312 (by decide) rfl ?_
  refine x_bipush B 315 (v := 103) dX2_init_313 (by decide) rfl ?_
  refine x_iast B 316 (by repeat (first | with_reducible exact xu_h | apply xu_t)) (j := 0) (by first | (simp only [xlit, nI_add, pk_mul]; done) | rfl | (simp only [xlit, nI_add, pk_mul]; congr 1; omega)) ⟨by first | omega | decide, by first | decide | omega⟩ dX2_init_315 rfl ?_
  refine x_dup B 317 dX2_init_316 rfl rfl ?_
  refine x_iconst B 318 (v := 1) dX2_init_317 (by decide) rfl ?_
  refine x_bipush B 320 (v := 114) dX2_init_318 (by decide) rfl ?_
  refine x_iast B 321 (by repeat (first | with_reducible exact xu_h | apply xu_t)) (j := 1) (by first | (simp only [xlit, nI_add, pk_mul]; done) | rfl | (simp only [xlit, nI_add, pk_mul]; congr 1; omega)) ⟨by first | omega | decide, by first | decide | omega⟩ dX2_init_320 rfl ?_
  refine x_dup B 322 dX2_init_321 rfl rfl ?_
  refine x_iconst B 323 (v := 2) dX2_init_322 (by decide) rfl ?_
  refine x_bipush B 325 (v := 101) dX2_init_323 (by decide) rfl ?_
  refine x_iast B 326 (by repeat (first | with_reducible exact xu_h | apply xu_t)) (j := 2) (by first | (simp only [xlit, nI_add, pk_mul]; done) | rfl | (simp only [xlit, nI_add, pk_mul]; congr 1; omega)) ⟨by first | omega | decide, by first | decide | omega⟩ dX2_init_325 rfl ?_
  refine x_dup B 327 dX2_init_326 rfl rfl ?_
  refine x_iconst B 328 (v := 3) dX2_init_327 (by decide) rfl ?_
  refine x_bipush B 330 (v := 101) dX2_init_328 (by decide) rfl ?_
  refine x_iast B 331 (by repeat (first | with_reducible exact xu_h | apply xu_t)) (j := 3) (by first | (simp only [xlit, nI_add, pk_mul]; done) | rfl | (simp only [xlit, nI_add, pk_mul]; congr 1; omega)) ⟨by first | omega | decide, by first | decide | omega⟩ dX2_init_330 rfl ?_
  refine x_dup B 332 dX2_init_331 rfl rfl ?_
  refine x_iconst B 333 (v := 4) dX2_init_332 (by decide) rfl ?_
  refine x_bipush B 335 (v := 110) dX2_init_333 (by decide) rfl ?_
  refine x_iast B 336 (by repeat (first | with_reducible exact xu_h | apply xu_t)) (j := 4) (by first | (simp only [xlit, nI_add, pk_mul]; done) | rfl | (simp only [xlit, nI_add, pk_mul]; congr 1; omega)) ⟨by first | omega | decide, by first | decide | omega⟩ dX2_init_335 rfl ?_
  refine s_X2_65_X2e B 339 (by first | rfl | exact xisR_rf _) rfl (by repeat (first | with_reducible exact xu_h | apply xu_t)) dX2_init_336 rfl ?_
  refine x_aload0 B 340 dX2_init_339 rfl (by first | rfl | exact xisR_rf _) ?_
  refine x_iconst B 341 (v := 3) dX2_init_340 (by decide) rfl ?_
  refine x_newa B 343 (atype := .int) (ty := .int) (t0 := 0) (N := 3) rfl q179 rfl rfl rfl (by decide) (by decide) ⟨by decide, by decide⟩ dX2_init_341 rfl (fun q19 => ?_)
  refine x_dup B 344 dX2_init_343 rfl rfl ?_
  refine x_iconst B 345 (v := 0) dX2_init_344 (by decide) rfl ?_
  refine x_bipush B 347 (v := 109) dX2_init_345 (by decide) rfl ?_
  refine x_iast B 348 (by repeat (first | with_reducible exact xu_h | apply xu_t)) (j := 0) (by first | (simp only [xlit, nI_add, pk_mul]; done) | rfl | (simp only [xlit, nI_add, pk_mul]; congr 1; omega)) ⟨by first | omega | decide, by first | decide | omega⟩ dX2_init_347 rfl ?_
  refine x_dup B 349 dX2_init_348 rfl rfl ?_
  refine x_iconst B 350 (v := 1) dX2_init_349 (by decide) rfl ?_
  refine x_bipush B 352 (v := 97) dX2_init_350 (by decide) rfl ?_
  refine x_iast B 353 (by repeat (first | with_reducible exact xu_h | apply xu_t)) (j := 1) (by first | (simp only [xlit, nI_add, pk_mul]; done) | rfl | (simp only [xlit, nI_add, pk_mul]; congr 1; omega)) ⟨by first | omega | decide, by first | decide | omega⟩ dX2_init_352 rfl ?_
  refine x_dup B 354 dX2_init_353 rfl rfl ?_
  refine x_iconst B 355 (v := 2) dX2_init_354 (by decide) rfl ?_
  refine x_bipush B 357 (v := 110) dX2_init_355 (by decide) rfl ?_
  refine x_iast B 358 (by repeat (first | with_reducible exact xu_h | apply xu_t)) (j := 2) (by first | (simp only [xlit, nI_add, pk_mul]; done) | rfl | (simp only [xlit, nI_add, pk_mul]; congr 1; omega)) ⟨by first | omega | decide, by first | decide | omega⟩ dX2_init_357 rfl ?_
  refine s_X2_68_X2e B 361 (by first | rfl | exact xisR_rf _) rfl (by repeat (first | with_reducible exact xu_h | apply xu_t)) dX2_init_358 rfl ?_
  refine x_aload0 B 362 dX2_init_361 rfl (by first | rfl | exact xisR_rf _) ?_
  refine x_iconst B 363 (v := 5) dX2_init_362 (by decide) rfl ?_
  refine x_newa B 365 (atype := .int) (ty := .int) (t0 := 0) (N := 5) rfl q179 rfl rfl rfl (by decide) (by decide) ⟨by decide, by decide⟩ dX2_init_363 rfl (fun q20 => ?_)
  refine x_dup B 366 dX2_init_365 rfl rfl ?_
  refine x_iconst B 367 (v := 0) dX2_init_366 (by decide) rfl ?_
  refine x_bipush B 369 (v := 107) dX2_init_367 (by decide) rfl ?_
  refine x_iast B 370 (by repeat (first | with_reducible exact xu_h | apply xu_t)) (j := 0) (by first | (simp only [xlit, nI_add, pk_mul]; done) | rfl | (simp only [xlit, nI_add, pk_mul]; congr 1; omega)) ⟨by first | omega | decide, by first | decide | omega⟩ dX2_init_369 rfl ?_
  refine x_dup B 371 dX2_init_370 rfl rfl ?_
  refine x_iconst B 372 (v := 1) dX2_init_371 (by decide) rfl ?_
  refine x_bipush B 374 (v := 110) dX2_init_372 (by decide) rfl ?_
  refine x_iast B 375 (by repeat (first | with_reducible exact xu_h | apply xu_t)) (j := 1) (by first | (simp only [xlit, nI_add, pk_mul]; done) | rfl | (simp only [xlit, nI_add, pk_mul]; congr 1; omega)) ⟨by first | omega | decide, by first | decide | omega⟩ dX2_init_374 rfl ?_
  refine x_dup B 376 dX2_init_375 rfl rfl ?_
  refine x_iconst B 377 (v := 2) dX2_init_376 (by decide) rfl ?_
  refine x_bipush B 379 (v := 111) dX2_init_377 (by decide) rfl ?_
  refine x_iast B 380 (by repeat (first | with_reducible exact xu_h | apply xu_t)) (j := 2) (by first | (simp only [xlit, nI_add, pk_mul]; done) | rfl | (simp only [xlit, nI_add, pk_mul]; congr 1; omega)) ⟨by first | omega | decide, by first | decide | omega⟩ dX2_init_379 rfl ?_
  refine x_dup B 381 dX2_init_380 rfl rfl ?_
  refine x_iconst B 382 (v := 3) dX2_init_381 (by decide) rfl ?_
  refine x_bipush B 384 (v := 119) dX2_init_382 (by decide) rfl ?_
  refine x_iast B 385 (by repeat (first | with_reducible exact xu_h | apply xu_t)) (j := 3) (by first | (simp only [xlit, nI_add, pk_mul]; done) | rfl | (simp only [xlit, nI_add, pk_mul]; congr 1; omega)) ⟨by first | omega | decide, by first | decide | omega⟩ dX2_init_384 rfl ?_
  refine x_dup B 386 dX2_init_385 rfl rfl ?_
  refine x_iconst B 387 (v := 4) dX2_init_386 (by decide) rfl ?_
  refine x_bipush B 389 (v := 115) dX2_init_387 (by decide) rfl ?_
  refine x_iast B 390 (by repeat (first | with_reducible exact xu_h | apply xu_t)) (j := 4) (by first | (simp only [xlit, nI_add, pk_mul]; done) | rfl | (simp only [xlit, nI_add, pk_mul]; congr 1; omega)) ⟨by first | omega | decide, by first | decide | omega⟩ dX2_init_389 rfl ?_
  refine s_X2_71_X2e B 393 (by first | rfl | exact xisR_rf _) rfl (by repeat (first | with_reducible exact xu_h | apply xu_t)) dX2_init_390 rfl ?_
  refine x_aload0 B 394 dX2_init_393 rfl (by first | rfl | exact xisR_rf _) ?_
  refine x_iconst B 395 (v := 4) dX2_init_394 (by decide) rfl ?_
  refine x_newa B 397 (atype := .int) (ty := .int) (t0 := 0) (N := 4) rfl q179 rfl rfl rfl (by decide) (by decide) ⟨by decide, by decide⟩ dX2_init_395 rfl (fun q21 => ?_)
  refine x_dup B 398 dX2_init_397 rfl rfl ?_
  refine x_iconst B 399 (v := 0) dX2_init_398 (by decide) rfl ?_
  refine x_bipush B 401 (v := 115) dX2_init_399 (by decide) rfl ?_
  refine x_iast B 402 (by repeat (first | with_reducible exact xu_h | apply xu_t)) (j := 0) (by first | (simp only [xlit, nI_add, pk_mul]; done) | rfl | (simp only [xlit, nI_add, pk_mul]; congr 1; omega)) ⟨by first | omega | decide, by first | decide | omega⟩ dX2_init_401 rfl ?_
  refine x_dup B 403 dX2_init_402 rfl rfl ?_
  refine x_iconst B 404 (v := 1) dX2_init_403 (by decide) rfl ?_
  refine x_bipush B 406 (v := 105) dX2_init_404 (by decide) rfl ?_
  refine x_iast B 407 (by repeat (first | with_reducible exact xu_h | apply xu_t)) (j := 1) (by first | (simp only [xlit, nI_add, pk_mul]; done) | rfl | (simp only [xlit, nI_add, pk_mul]; congr 1; omega)) ⟨by first | omega | decide, by first | decide | omega⟩ dX2_init_406 rfl ?_
  refine x_dup B 408 dX2_init_407 rfl rfl ?_
  refine x_iconst B 409 (v := 2) dX2_init_408 (by decide) rfl ?_
  refine x_bipush B 411 (v := 116) dX2_init_409 (by decide) rfl ?_
  refine x_iast B 412 (by repeat (first | with_reducible exact xu_h | apply xu_t)) (j := 2) (by first | (simp only [xlit, nI_add, pk_mul]; done) | rfl | (simp only [xlit, nI_add, pk_mul]; congr 1; omega)) ⟨by first | omega | decide, by first | decide | omega⟩ dX2_init_411 rfl ?_
  refine x_dup B 413 dX2_init_412 rfl rfl ?_
  refine x_iconst B 414 (v := 3) dX2_init_413 (by decide) rfl ?_
  refine x_bipush B 416 (v := 115) dX2_init_414 (by decide) rfl ?_
  refine x_iast B 417 (by repeat (first | with_reducible exact xu_h | apply xu_t)) (j := 3) (by first | (simp only [xlit, nI_add, pk_mul]; done) | rfl | (simp only [xlit, nI_add, pk_mul]; congr 1; omega)) ⟨by first | omega | decide, by first | decide | omega⟩ dX2_init_416 rfl ?_
  refine s_X2_74_X2e B 420 (by first | rfl | exact xisR_rf _) rfl (by repeat (first | with_reducible exact xu_h | apply xu_t)) dX2_init_417 rfl ?_
  refine x_aload0 B 421 dX2_init_420 rfl (by first | rfl | exact xisR_rf _) ?_
  refine x_iconst B 422 (v := 5) dX2_init_421 (by decide) rfl ?_
  refine x_newa B 424 (atype := .int) (ty := .int) (t0 := 0) (N := 5) rfl q179 rfl rfl rfl (by decide) (by decide) ⟨by decide, by decide⟩ dX2_init_422 rfl (fun q22 => ?_)
  refine x_dup B 425 dX2_init_424 rfl rfl ?_
  refine x_iconst B 426 (v := 0) dX2_init_425 (by decide) rfl ?_
  refine x_bipush B 428 (v := 99) dX2_init_426 (by decide) rfl ?_
  refine x_iast B 429 (by repeat (first | with_reducible exact xu_h | apply xu_t)) (j := 0) (by first | (simp only [xlit, nI_add, pk_mul]; done) | rfl | (simp only [xlit, nI_add, pk_mul]; congr 1; omega)) ⟨by first | omega | decide, by first | decide | omega⟩ dX2_init_428 rfl ?_
  refine x_dup B 430 dX2_init_429 rfl rfl ?_
  refine x_iconst B 431 (v := 1) dX2_init_430 (by decide) rfl ?_
  refine x_bipush B 433 (v := 111) dX2_init_431 (by decide) rfl ?_
  refine x_iast B 434 (by repeat (first | with_reducible exact xu_h | apply xu_t)) (j := 1) (by first | (simp only [xlit, nI_add, pk_mul]; done) | rfl | (simp only [xlit, nI_add, pk_mul]; congr 1; omega)) ⟨by first | omega | decide, by first | decide | omega⟩ dX2_init_433 rfl ?_
  refine x_dup B 435 dX2_init_434 rfl rfl ?_
  refine x_iconst B 436 (v := 2) dX2_init_435 (by decide) rfl ?_
  refine x_bipush B 438 (v := 118) dX2_init_436 (by decide) rfl ?_
  refine x_iast B 439 (by repeat (first | with_reducible exact xu_h | apply xu_t)) (j := 2) (by first | (simp only [xlit, nI_add, pk_mul]; done) | rfl | (simp only [xlit, nI_add, pk_mul]; congr 1; omega)) ⟨by first | omega | decide, by first | decide | omega⟩ dX2_init_438 rfl ?_
  refine x_dup B 440 dX2_init_439 rfl rfl ?_
  refine x_iconst B 441 (v := 3) dX2_init_440 (by decide) rfl ?_
  refine x_bipush B 443 (v := 101) dX2_init_441 (by decide) rfl ?_
  refine x_iast B 444 (by repeat (first | with_reducible exact xu_h | apply xu_t)) (j := 3) (by first | (simp only [xlit, nI_add, pk_mul]; done) | rfl | (simp only [xlit, nI_add, pk_mul]; congr 1; omega)) ⟨by first | omega | decide, by first | decide | omega⟩ dX2_init_443 rfl ?_
  refine x_dup B 445 dX2_init_444 rfl rfl ?_
  refine x_iconst B 446 (v := 4) dX2_init_445 (by decide) rfl ?_
  refine x_bipush B 448 (v := 114) dX2_init_446 (by decide) rfl ?_
  refine x_iast B 449 (by repeat (first | with_reducible exact xu_h | apply xu_t)) (j := 4) (by first | (simp only [xlit, nI_add, pk_mul]; done) | rfl | (simp only [xlit, nI_add, pk_mul]; congr 1; omega)) ⟨by first | omega | decide, by first | decide | omega⟩ dX2_init_448 rfl ?_
  refine s_X2_77_X2e B 452 (by first | rfl | exact xisR_rf _) rfl (by repeat (first | with_reducible exact xu_h | apply xu_t)) dX2_init_449 rfl ?_
  refine x_aload0 B 453 dX2_init_452 rfl (by first | rfl | exact xisR_rf _) ?_
  refine x_bipush B 455 (v := 8) dX2_init_453 (by decide) rfl ?_
  refine x_newa B 457 (atype := .int) (ty := .int) (t0 := 0) (N := 8) rfl q179 rfl rfl rfl (by decide) (by decide) ⟨by decide, by decide⟩ dX2_init_455 rfl (fun q23 => ?_)
  refine s_X2_80_X2e B 460 (by first | rfl | exact xisR_rf _) rfl (by repeat (first | with_reducible exact xu_h | apply xu_t)) dX2_init_457 rfl ?_
  refine x_aload0 B 461 dX2_init_460 rfl (by first | rfl | exact xisR_rf _) ?_
  refine x_sipush B 464 (v := 203) dX2_init_461 (by decide) rfl ?_
  refine x_newa B 466 (atype := .boolean) (ty := .boolean) (t0 := 3) (N := 203) rfl q1863 rfl rfl rfl (by decide) (by decide) ⟨by decide, by decide⟩ dX2_init_464 rfl (fun q24 => ?_)
  refine s_X2_83_X2e B 469 (by first | rfl | exact xisR_rf _) rfl (by repeat (first | with_reducible exact xu_h | apply xu_t)) dX2_init_466 rfl ?_
  refine x_aload0 B 470 dX2_init_469 rfl (by first | rfl | exact xisR_rf _) ?_
  refine x_sipush B 473 (v := 203) dX2_init_470 (by decide) rfl ?_
  refine x_newa B 475 (atype := .boolean) (ty := .boolean) (t0 := 3) (N := 203) rfl q1863 rfl rfl rfl (by decide) (by decide) ⟨by decide, by decide⟩ dX2_init_473 rfl (fun q25 => ?_)
  refine s_X2_86_X2e B 478 (by first | rfl | exact xisR_rf _) rfl (by repeat (first | with_reducible exact xu_h | apply xu_t)) dX2_init_475 rfl ?_
  refine x_aload0 B 479 dX2_init_478 rfl (by first | rfl | exact xisR_rf _) ?_
  refine x_bipush B 481 (v := 64) dX2_init_479 (by decide) rfl ?_
  refine x_newa B 483 (atype := .int) (ty := .int) (t0 := 0) (N := 64) rfl q179 rfl rfl rfl (by decide) (by decide) ⟨by decide, by decide⟩ dX2_init_481 rfl (fun q26 => ?_)
  refine s_X2_89_X2e B 486 (by first | rfl | exact xisR_rf _) rfl (by repeat (first | with_reducible exact xu_h | apply xu_t)) dX2_init_483 rfl ?_
  refine x_aload0 B 487 dX2_init_486 rfl (by first | rfl | exact xisR_rf _) ?_
  refine x_iconst B 488 (v := 4) dX2_init_487 (by decide) rfl ?_
  refine x_newa B 490 (atype := .int) (ty := .int) (t0 := 0) (N := 4) rfl q179 rfl rfl rfl (by decide) (by decide) ⟨by decide, by decide⟩ dX2_init_488 rfl (fun q27 => ?_)
  refine s_X2_92_X2e B 493 (by first | rfl | exact xisR_rf _) rfl (by repeat (first | with_reducible exact xu_h | apply xu_t)) dX2_init_490 rfl ?_
  refine x_aload0 B 494 dX2_init_493 rfl (by first | rfl | exact xisR_rf _) ?_
  refine x_bipush B 496 (v := 32) dX2_init_494 (by decide) rfl ?_
  refine x_newa B 498 (atype := .int) (ty := .int) (t0 := 0) (N := 32) rfl q179 rfl rfl rfl (by decide) (by decide) ⟨by decide, by decide⟩ dX2_init_496 rfl (fun q28 => ?_)
  refine s_X2_95_X2e B 501 (by first | rfl | exact xisR_rf _) rfl (by repeat (first | with_reducible exact xu_h | apply xu_t)) dX2_init_498 rfl ?_
  refine x_aload0 B 502 dX2_init_501 rfl (by first | rfl | exact xisR_rf _) ?_
  refine x_iconst B 503 (v := 4) dX2_init_502 (by decide) rfl ?_
  refine x_newa B 505 (atype := .int) (ty := .int) (t0 := 0) (N := 4) rfl q179 rfl rfl rfl (by decide) (by decide) ⟨by decide, by decide⟩ dX2_init_503 rfl (fun q29 => ?_)
  refine s_X2_98_X2e B 508 (by first | rfl | exact xisR_rf _) rfl (by repeat (first | with_reducible exact xu_h | apply xu_t)) dX2_init_505 rfl ?_
  refine x_aload0 B 509 dX2_init_508 rfl (by first | rfl | exact xisR_rf _) ?_
  refine x_iconst B 510 (v := 4) dX2_init_509 (by decide) rfl ?_
  refine x_newa B 512 (atype := .int) (ty := .int) (t0 := 0) (N := 4) rfl q179 rfl rfl rfl (by decide) (by decide) ⟨by decide, by decide⟩ dX2_init_510 rfl (fun q30 => ?_)
  refine s_X2_101_X2e B 515 (by first | rfl | exact xisR_rf _) rfl (by repeat (first | with_reducible exact xu_h | apply xu_t)) dX2_init_512 rfl ?_
  refine x_aload0 B 516 dX2_init_515 rfl (by first | rfl | exact xisR_rf _) ?_
  refine x_bipush B 518 (v := 12) dX2_init_516 (by decide) rfl ?_
  refine x_newa B 520 (atype := .int) (ty := .int) (t0 := 0) (N := 12) rfl q179 rfl rfl rfl (by decide) (by decide) ⟨by decide, by decide⟩ dX2_init_518 rfl (fun q31 => ?_)
  refine s_X2_104_X2e B 523 (by first | rfl | exact xisR_rf _) rfl (by repeat (first | with_reducible exact xu_h | apply xu_t)) dX2_init_520 rfl ?_
  exact x_vret B rfl ⟨rfl, (fun i => [q0, 0, q1, q2, 0, 0, q3, q4, q5, 0, q6, q7, q8, q9, q10, q11, 0, 0, 0, 0, q12, 0, 0, q13, q14, q15, q16, q17, q18, q19, q20, q21, q22, q23, q24, q25, q26, q27, q28, q29, q30, q31].getD i 0), _, wf0, (by decide), wf0_ok, rfl⟩ dX2_init_523 ⟨by first | omega | decide, by first | omega | decide⟩
end T24
