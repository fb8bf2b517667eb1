/-! THE COMPONENT, 16: what a state does, over a whole state -/
abbrev cL (D : xG) (h : Nat) (r : SR) : List va_W := [cS0 h r.1 r.2.2.2.2.2.1 r.2.2.2.2.2.2, cS1 D r.1, cK D r.1 r.2.1, cSI D r.1 2 8 r.2.2.1, cSI D r.1 3 4 r.2.2.2.1, cSI D r.1 4 4 r.2.2.2.2.1]
theorem cT_xf (D : xG) (h : Nat) (r : SR) (l : List va_W) : xf (cT D h r :: l) = xf (cL D h r ++ l) := by
  show cT D h r ++ xf l = cS0 h r.1 r.2.2.2.2.2.1 r.2.2.2.2.2.2 ++ (cS1 D r.1 ++ (cK D r.1 r.2.1 ++ (cSI D r.1 2 8 r.2.2.1 ++ (cSI D r.1 3 4 r.2.2.2.1 ++ (cSI D r.1 4 4 r.2.2.2.2.1 ++ xf l)))))
  unfold cT
  simp only [List.append_assoc]
theorem xf_nil (cs : List va_W) : (xf cs).Perm (xf cs ++ []) := by rw [List.append_nil]
section WHOLE
variable {D : xG} {h : Nat} {ad : Nat → Nat} {iv : Nat → Int32} {tg : Option Nat} {bf : Nat → Option Nat} {bp : va_W} {nb nm : Nat} {kd : Nat → Nat} {S : HS} {r : SR} {sf : Nat → Int32}
theorem m_X1_goT (n : Nat) (hn : n < 1000) (hT : SRp nb nm r S) (hO : HOk nb nm kd S) (hE : S.2.2.2.2.2 + n < 100000) (h1 : iv 1 = nI nb) (h2 : iv 2 = nI nm) (hB : BKn bf bp nb kd) (h5 : iv 5 = -1) : XC D yX1_go (ws_ yX1_go cX1_go 3 (Option.some (Jvm.ClassFile.FieldType.object "ParrotSpeech$State"))) 8 320 0 0 [.ref (r.1 0), .int (nI n)] [cT D h r, cR h ad iv tg, cBr D ad bf, bp, cSd D ad sf] (fun v cs' => v = some (.ref (r.1 0)) ∧ ∃ r' iv' sf', r'.1 = r.1 ∧ SRp nb nm r' (hGo kd nb nm S n) ∧ J4 iv iv' ∧ cs' = [cT D h r', cR h ad iv' tg, cBr D ad bf, bp, cSd D ad sf']) x0 := by
  refine XC.big [] (m_X1_go (D := D) (h := h) (ad := ad) (tg := tg) (sa := r.1) (sf := sf) n hn hT.1 hT.2 hO hE h1 h2 hB h5) ?_ (fun v cs hv => ?_) (fun E q cs hx => hx.elim)
  · rw [cT_xf]; exact xf_nil _
  · obtain ⟨e1, kn', hf', iv', sf', ev', g1, g2, g3, rfl⟩ := hv
    refine ⟨[cT D h (r.1, kn', r.2.2.1, hf', r.2.2.2.2.1, r.2.2.2.2.2.1, ev'), cR h ad iv' tg, cBr D ad bf, bp, cSd D ad sf'], ⟨e1, _, iv', sf', rfl, ⟨g1, g2⟩, g3, rfl⟩, ?_⟩
    rw [cT_xf]; exact xf_nil _
theorem m_X1_passT (hT : SRp nb nm r S) (hO : HOk nb nm kd S) (h1 : iv 1 = nI nb) (h2 : iv 2 = nI nm) (hB : BKn bf bp nb kd) (lis : Option Nat) (h5 : iv 5 = oI lis) (hls : ∀ z, lis = some z → z < 4) : XC D yX1_pass (ws_ yX1_pass cX1_pass 2 (Option.some (Jvm.ClassFile.FieldType.object "ParrotSpeech$State"))) 7 280 0 0 [.ref (r.1 0)] [cT D h r, cR h ad iv tg, cBr D ad bf, bp, cSd D ad sf] (fun v cs' => v = some (.ref (r.1 0)) ∧ ∃ r' iv' sf', r'.1 = r.1 ∧ SRp nb nm r' (hPass kd nb nm S).1 ∧ SdR iv' sf' (lisL lis (hPass kd nb nm S).2) ∧ J4 iv iv' ∧ cs' = [cT D h r', cR h ad iv' tg, cBr D ad bf, bp, cSd D ad sf']) x0 := by
  refine XC.big [] (m_X1_pass (D := D) (h := h) (ad := ad) (tg := tg) (sa := r.1) (sf := sf) hT.1 hT.2 hO h1 h2 hB lis h5 hls) ?_ (fun v cs hv => ?_) (fun E q cs hx => hx.elim)
  · rw [cT_xf]; exact xf_nil _
  · obtain ⟨e1, kn', hf', iv', sf', ev', g1, g2, g4, g3, rfl⟩ := hv
    refine ⟨[cT D h (r.1, kn', r.2.2.1, hf', r.2.2.2.2.1, r.2.2.2.2.2.1, ev'), cR h ad iv' tg, cBr D ad bf, bp, cSd D ad sf'], ⟨e1, _, iv', sf', rfl, ⟨g1, g2⟩, g4, g3, rfl⟩, ?_⟩
    rw [cT_xf]; exact xf_nil _
theorem m_X1_sitT (m : Nat) (y : Option Nat) (hT : SRp nb nm r S) (hO : HOk nb nm kd S) (hiv : iv 2 = nI nm) (hm : m < nm) (hyb : ∀ j, y = some j → j < nb) : XC D yX1_sit (ws_ yX1_sit cX1_sit 4 (Option.none : Option Jvm.ClassFile.FieldType)) 1 40 0 0 [.ref (r.1 0), .int (nI m), .int (oI y)] [cT D h r, cR h ad iv tg] (fun v cs' => v = none ∧ ∃ r', r'.1 = r.1 ∧ SRp nb nm r' (hSets S nm m y) ∧ cs' = [cT D h r', cR h ad iv tg]) x0 := by
  refine XC.big (xf (xclr (cL D h r ++ [cR h ad iv tg]) [0, 5, 6])) (m_X1_sit (D := D) (h := h) (ad := ad) (tg := tg) (sa := r.1) (yf := r.2.2.2.2.1) (cov := r.2.2.2.2.2.1) (ev := r.2.2.2.2.2.2) nb nm m y S hO hiv hT.1.2.2.2.2.2 hm hyb) ?_ (fun v cs hv => ?_) (fun E q cs hx => hx.elim)
  · rw [cT_xf]; exact xsel_perm [0, 5, 6] _ _ (by decide) rfl
  · obtain ⟨e1, yf', g1, rfl⟩ := hv
    obtain ⟨⟨t1, t2, t3, t4, t5, t6⟩, t7⟩ := hT
    refine ⟨[cT D h (r.1, r.2.1, r.2.2.1, r.2.2.2.1, yf', r.2.2.2.2.2.1, r.2.2.2.2.2.2), cR h ad iv tg], ⟨e1, _, rfl, ⟨⟨t1, t2, t3, t4, t5, g1⟩, t7⟩, rfl⟩, ?_⟩
    rw [cT_xf]; exact xsel_perm [0, 5, 6] _ _ (by decide) rfl
theorem m_X1_ownerT (b : Nat) (hT : SRp nb nm r S) (hO : HOk nb nm kd S) (hiv : iv 2 = nI nm) (hb : b < 8) : XC D yX1_owner (ws_ yX1_owner cX1_owner 3 (Option.some Jvm.ClassFile.FieldType.int)) 0 0 0 0 [.ref (r.1 0), .int (nI b)] [cT D h r, cR h ad iv tg] (fun v cs' => v = some (.int (oI (hMan S.2.2.2.1 b nm))) ∧ cs' = [cT D h r, cR h ad iv tg]) x0 := by
  refine XC.big (xf (xclr (cL D h r ++ [cR h ad iv tg]) [0, 5, 6])) (m_X1_owner (D := D) (h := h) (ad := ad) (tg := tg) (sa := r.1) (yf := r.2.2.2.2.1) (cov := r.2.2.2.2.2.1) (ev := r.2.2.2.2.2.2) nm b S.2.2.2.1 hiv hO.2.1 hT.1.2.2.2.2.2 (fun m j hm e => by have := hO.2.2.2.2.2.2.1 m j hm e; have := hO.1; omega) (fun m m' q1 q2 => hO.2.2.2.2.2.2.2.1 m m' b q1 q2) hb) ?_ (fun v cs hv => ?_) (fun E q cs hx => hx.elim)
  · rw [cT_xf]; exact xsel_perm [0, 5, 6] _ _ (by decide) rfl
  · obtain ⟨e1, rfl⟩ := hv
    refine ⟨[cT D h r, cR h ad iv tg], ⟨e1, rfl⟩, ?_⟩
    rw [cT_xf]; exact xsel_perm [0, 5, 6] _ _ (by decide) rfl
theorem m_X1_wellT (b : Nat) (hT : SRp nb nm r S) (hO : HOk nb nm kd S) (hb : b < nb) : XC D yX1_well (ws_ yX1_well cX1_well 4 (Option.some Jvm.ClassFile.FieldType.int)) 1 40 0 0 [.ref (r.1 0), .int (nI b)] [cT D h r] (fun v cs' => v = some (.int (nI (hWell (S.1 b) 10))) ∧ cs' = [cT D h r]) x0 := by
  refine XC.big (xf (xclr (cL D h r ++ []) [0, 1, 2])) (m_X1_well (D := D) (h := h) (sa := r.1) (kn := r.2.1) (cov := r.2.2.2.2.2.1) (ev := r.2.2.2.2.2.2) b (S.1 b) (by have := hO.1; omega) (fun w hw => ⟨hT.1.2.2.2.1 b w hb hw, hO.2.2.2.1 b w hb hw⟩)) ?_ (fun v cs hv => ?_) (fun E q cs hx => hx.elim)
  · rw [cT_xf]; exact xsel_perm [0, 1, 2] _ _ (by decide) rfl
  · obtain ⟨e1, rfl⟩ := hv
    refine ⟨[cT D h r], ⟨e1, rfl⟩, ?_⟩
    rw [cT_xf]; exact xsel_perm [0, 1, 2] _ _ (by decide) rfl
theorem m_X1_gainsT (b w m : Nat) (hT : SRp nb nm r S) (hO : HOk nb nm kd S) (hb : b < nb) (hw : w < 10) (hm : m ≤ 9) : XC D yX1_gains (ws_ yX1_gains cX1_gains 4 (Option.none : Option Jvm.ClassFile.FieldType)) 1 40 0 0 [.ref (r.1 0), .int (nI b), .int (nI w), .int (nI m)] [cT D h r] (fun v cs' => v = none ∧ ∃ r', r'.1 = r.1 ∧ SRp nb nm r' (hGain S b w m) ∧ cs' = [cT D h r']) x0 := by
  refine XC.big (xf (xclr (cL D h r ++ []) [0, 1, 2])) (m_X1_gains (D := D) (h := h) (sa := r.1) (kn := r.2.1) (cov := r.2.2.2.2.2.1) (ev := r.2.2.2.2.2.2) b w (S.1 b w) m (by have := hO.1; omega) hw (hT.1.2.2.2.1 b w hb hw) (hO.2.2.2.1 b w hb hw) hm) ?_ (fun v cs hv => ?_) (fun E q cs hx => hx.elim)
  · rw [cT_xf]; exact xsel_perm [0, 1, 2] _ _ (by decide) rfl
  · obtain ⟨e1, rfl⟩ := hv
    have hz : (if 9 < S.1 b w + m then 9 else S.1 b w + m) ≤ 9 := by split <;> omega
    refine ⟨[cT D h (r.1, fUp r.2.1 b (upd (r.2.1 b) w (nI (if 9 < S.1 b w + m then 9 else S.1 b w + m))), r.2.2)], ⟨e1, _, rfl, ⟨hT.1.gain b w m, hT.2.gain b w hz⟩, rfl⟩, ?_⟩
    rw [cT_xf]; exact xsel_perm [0, 1, 2] _ _ (by decide) rfl
end WHOLE
/-! what is where in a whole state -/
section CTM
variable {D : xG} {h : Nat} {r : SR}
theorem cT_1 : (r.1 1, aQ (D.2.1 4) 8 (fun b => some (r.1 (5 + b)))) ∈ cT D h r := List.mem_append_right _ (List.mem_append_left _ List.mem_cons_self)
theorem cT_K {b : Nat} (hb : b < 8) : (r.1 (5 + b), aI (D.2.1 1) 10 (r.2.1 b)) ∈ cT D h r := List.mem_append_right _ (List.mem_append_right _ (List.mem_append_left _ (cK_get hb)))
theorem cT_2 : (r.1 2, aI (D.2.1 0) 8 r.2.2.1) ∈ cT D h r := List.mem_append_right _ (List.mem_append_right _ (List.mem_append_right _ (List.mem_append_left _ List.mem_cons_self)))
theorem cT_3 : (r.1 3, aI (D.2.1 0) 4 r.2.2.2.1) ∈ cT D h r := List.mem_append_right _ (List.mem_append_right _ (List.mem_append_right _ (List.mem_append_right _ (List.mem_append_left _ List.mem_cons_self))))
theorem cT_4 : (r.1 4, aI (D.2.1 0) 4 r.2.2.2.2.1) ∈ cT D h r := List.mem_append_right _ (List.mem_append_right _ (List.mem_append_right _ (List.mem_append_right _ (List.mem_append_right _ List.mem_cons_self))))
theorem cT_up0 (f4 f5 : Int32) : XIn (cT D h r) (r.1 0) (.inr (1, [.ref (r.1 1), .ref (r.1 2), .ref (r.1 3), .ref (r.1 4), .int r.2.2.2.2.2.1, .int r.2.2.2.2.2.2, .ref h])) (.inr (1, [.ref (r.1 1), .ref (r.1 2), .ref (r.1 3), .ref (r.1 4), .int f4, .int f5, .ref h])) (cT D h (r.1, r.2.1, r.2.2.1, r.2.2.2.1, r.2.2.2.2.1, f4, f5)) := ⟨0, rfl, rfl⟩
theorem cT_upK {b : Nat} (hb : b < 8) (f : Nat → Int32) : XIn (cT D h r) (r.1 (5 + b)) (aI (D.2.1 1) 10 (r.2.1 b)) (aI (D.2.1 1) 10 f) (cT D h (r.1, fUp r.2.1 b f, r.2.2)) := by
  refine ⟨2 + b, ?_, ?_⟩
  · have : b = 0 ∨ b = 1 ∨ b = 2 ∨ b = 3 ∨ b = 4 ∨ b = 5 ∨ b = 6 ∨ b = 7 := by omega
    rcases this with rfl | rfl | rfl | rfl | rfl | rfl | rfl | rfl <;> rfl
  · have : b = 0 ∨ b = 1 ∨ b = 2 ∨ b = 3 ∨ b = 4 ∨ b = 5 ∨ b = 6 ∨ b = 7 := by omega
    rcases this with rfl | rfl | rfl | rfl | rfl | rfl | rfl | rfl <;> rfl
theorem cT_up2 (f : Nat → Int32) : XIn (cT D h r) (r.1 2) (aI (D.2.1 0) 8 r.2.2.1) (aI (D.2.1 0) 8 f) (cT D h (r.1, r.2.1, f, r.2.2.2)) := ⟨10, rfl, rfl⟩
theorem cT_up3 (f : Nat → Int32) : XIn (cT D h r) (r.1 3) (aI (D.2.1 0) 4 r.2.2.2.1) (aI (D.2.1 0) 4 f) (cT D h (r.1, r.2.1, r.2.2.1, f, r.2.2.2.2)) := ⟨11, rfl, rfl⟩
theorem cT_up4 (f : Nat → Int32) : XIn (cT D h r) (r.1 4) (aI (D.2.1 0) 4 r.2.2.2.2.1) (aI (D.2.1 0) 4 f) (cT D h (r.1, r.2.1, r.2.2.1, r.2.2.2.1, f, r.2.2.2.2.2)) := ⟨12, rfl, rfl⟩
end CTM
