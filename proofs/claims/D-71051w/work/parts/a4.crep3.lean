/-! THE COMPONENT, 15: states kept: those to come back to -/
/-- a state's cells: addresses, what birds know, perches, what men have, by whom, covered, evening -/
abbrev SR : Type := (Nat → Nat) × (Nat → Nat → Int32) × (Nat → Int32) × (Nat → Int32) × (Nat → Int32) × Int32 × Int32
def cT (D : xG) (h : Nat) (r : SR) : va_W := cS0 h r.1 r.2.2.2.2.2.1 r.2.2.2.2.2.2 ++ (cS1 D r.1 ++ (cK D r.1 r.2.1 ++ (cSI D r.1 2 8 r.2.2.1 ++ (cSI D r.1 3 4 r.2.2.2.1 ++ cSI D r.1 4 4 r.2.2.2.2.1))))
def cTo (D : xG) (h : Nat) : Option SR → va_W
  | none => []
  | some r => cT D h r
/-- states that may be there -/
def cTs (D : xG) (h : Nat) (bs : List (Option SR)) : va_W := (bs.map (cTo D h)).flatten
def SRp (nb nm : Nat) (r : SR) (S : HS) : Prop := CRep r.2.1 r.2.2.1 r.2.2.2.1 r.2.2.2.2.1 r.2.2.2.2.2.1 r.2.2.2.2.2.2 nb nm S ∧ CFit r.2.1
def bAd (bs : List (Option SR)) (j : Nat) : Option Nat := (bs.getD j none).map (fun r => r.1 0)
abbrev cBk (D : xG) (ad : Nat → Nat) (bs : List (Option SR)) : va_W := [(ad 10, aQ (D.2.1 7) 8 (bAd bs))]
/-- those to come back to -/
def CU (bs : List (Option SR)) (nb nm : Nat) (kd : Nat → Nat) (U : List HS) : Prop := bs.length = 8 ∧ U.length ≤ 8 ∧ ∀ k S, U[k]? = some S → ∃ r, bs[k]? = some (some r) ∧ SRp nb nm r S ∧ HG nb nm kd S
theorem cT_six (D : xG) (h : Nat) (r : SR) : xf [cT D h r] = xf [cS0 h r.1 r.2.2.2.2.2.1 r.2.2.2.2.2.2, cS1 D r.1, cK D r.1 r.2.1, cSI D r.1 2 8 r.2.2.1, cSI D r.1 3 4 r.2.2.2.1, cSI D r.1 4 4 r.2.2.2.2.1] := by
  unfold cT xf
  simp only [List.flatten_cons, List.flatten_nil, List.append_nil, List.append_assoc]
theorem cTs_at (D : xG) (h : Nat) (s t : List (Option SR)) (x : Option SR) : (xf [cTs D h (s ++ x :: t)]).Perm (xf [cTs D h (s ++ t), cTo D h x]) := by
  unfold cTs xf
  simp only [List.map_append, List.map_cons, List.flatten_append, List.flatten_cons, List.flatten_nil, List.append_nil, List.append_assoc]
  exact List.Perm.append_left _ List.perm_append_comm
theorem cTs_rot (D : xG) (h : Nat) (x : Option SR) (t : List (Option SR)) : (xf [cTs D h (x :: t)]).Perm (xf [cTs D h (t ++ [x])]) := by
  unfold cTs xf
  simp only [List.map_append, List.map_cons, List.map_nil, List.flatten_append, List.flatten_cons, List.flatten_nil, List.append_nil]
  exact List.perm_append_comm
theorem cT_0 {D : xG} {h : Nat} {r : SR} : (r.1 0, (.inr (1, [.ref (r.1 1), .ref (r.1 2), .ref (r.1 3), .ref (r.1 4), .int r.2.2.2.2.2.1, .int r.2.2.2.2.2.2, .ref h]) : va_E)) ∈ cT D h r := List.mem_append_left _ List.mem_cons_self
theorem cTs_mem {D : xG} {h : Nat} {bs : List (Option SR)} {k : Nat} {r : SR} (hk : bs[k]? = some (some r)) {q : Nat × va_E} (hq : q ∈ cT D h r) : q ∈ cTs D h bs := by
  unfold cTs
  exact List.mem_flatten.mpr ⟨_, List.mem_map.mpr ⟨some r, List.mem_of_getElem? hk, rfl⟩, hq⟩
theorem split_at {α : Type} : ∀ {l : List α} {k : Nat} {x : α}, l[k]? = some x → ∃ s t, l = s ++ x :: t ∧ s.length = k
  | [], k, x, h => by simp at h
  | y :: l, 0, x, h => by
    obtain rfl : y = x := by simpa using h
    exact ⟨[], l, rfl, rfl⟩
  | y :: l, k + 1, x, h => by
    obtain ⟨s, t, e1, e2⟩ := split_at (l := l) (k := k) (by simpa using h)
    exact ⟨y :: s, t, by rw [e1]; rfl, by simp [e2]⟩
theorem bAd_set {bs : List (Option SR)} {k : Nat} {r r' : SR} (h : bs[k]? = some (some r)) (e : r'.1 = r.1) : ∀ j, bAd (bs.set k (some r')) j = bAd bs j := by
  intro j
  unfold bAd
  rw [List.getD_eq_getElem?_getD, List.getD_eq_getElem?_getD, List.getElem?_set]
  by_cases c : k = j
  · subst c
    rw [if_pos rfl, h]
    have hl := (List.getElem?_eq_some_iff.mp h).1
    rw [if_pos hl]
    simp [e]
  · rw [if_neg c]
theorem set_mid {α : Type} {s t : List α} {x y : α} : (s ++ x :: t).set s.length y = s ++ y :: t := by
  rw [List.set_append_right _ _ (Nat.le_refl _), Nat.sub_self]; rfl
theorem SRp.of_set {nb nm : Nat} {r r' : SR} {S : HS} (h : SRp nb nm r S) (hb : nb ≤ 8) (hm : nm ≤ 4) (h1 : ∀ b w, b < 8 → w < 10 → r'.2.1 b w = r.2.1 b w) (h2 : ∀ j, j < 8 → r'.2.2.1 j = r.2.2.1 j) (h3 : ∀ j, j < 4 → r'.2.2.2.1 j = r.2.2.2.1 j) (h4 : ∀ j, j < 4 → r'.2.2.2.2.1 j = r.2.2.2.2.1 j) (h5 : r'.2.2.2.2.2 = r.2.2.2.2.2) : SRp nb nm r' S := by
  obtain ⟨⟨g1, g2, g3, g4, g5, g6⟩, gf⟩ := h
  refine ⟨⟨by rw [h5]; exact g1, by rw [h5]; exact g2, fun b hb2 => by rw [h2 b (by omega)]; exact g3 b hb2, fun b w hb2 hw => by rw [h1 b w (by omega) hw]; exact g4 b w hb2 hw, fun m hm2 => by rw [h3 m (by omega)]; exact g5 m hm2, fun m hm2 => by rw [h4 m (by omega)]; exact g6 m hm2⟩, fun b w hb2 hw => ?_⟩
  obtain ⟨v, v1, v2⟩ := gf b w hb2 hw
  exact ⟨v, v1, by rw [h1 b w hb2 hw]; exact v2⟩
/-- set over whole states -/
theorem m_X1_setT {D : xG} {h : Nat} {r ro : SR} (hf : CFit ro.2.1) : XC D yX1_set (ws_ yX1_set cX1_set 3 (Option.some (Jvm.ClassFile.FieldType.object "ParrotSpeech$State"))) 1 40 0 0 [.ref (r.1 0), .ref (ro.1 0)] [cT D h r, cT D h ro] (fun v cs' => v = some (.ref (r.1 0)) ∧ ∃ r', r'.1 = r.1 ∧ (∀ nb nm S, nb ≤ 8 → nm ≤ 4 → SRp nb nm ro S → SRp nb nm r' S) ∧ cs' = [cT D h r', cT D h ro]) x0 := by
  have h0 := m_X1_set (D := D) (h := h) (sa := r.1) (sb := ro.1) (kn := r.2.1) (kno := ro.2.1) (pf := r.2.2.1) (hf := r.2.2.2.1) (yf := r.2.2.2.2.1) (pfo := ro.2.2.1) (hfo := ro.2.2.2.1) (yfo := ro.2.2.2.2.1) (cov := r.2.2.2.2.2.1) (ev := r.2.2.2.2.2.2) (covo := ro.2.2.2.2.2.1) (evo := ro.2.2.2.2.2.2) hf
  refine XC.big [] h0 ?_ (fun v cs hv => ?_) (fun E q cs hx => hx.elim)
  · show _root_.List.Perm (cT D h r ++ (cT D h ro ++ [])) _
    rw [List.append_nil, List.append_nil]
    refine List.Perm.of_eq ?_
    unfold cT xf
    simp only [List.flatten_cons, List.flatten_nil, List.append_nil, List.append_assoc]
  · obtain ⟨e1, kn', pf', hf', yf', g1, g2, g3, g4, rfl⟩ := hv
    refine ⟨[cT D h (r.1, kn', pf', hf', yf', ro.2.2.2.2.2), cT D h ro], ⟨e1, (r.1, kn', pf', hf', yf', ro.2.2.2.2.2), rfl, fun nb nm S hb hm hS => hS.of_set hb hm g1 g2 g3 g4 rfl, rfl⟩, ?_⟩
    refine List.Perm.of_eq ?_
    unfold cT xf
    simp only [List.flatten_cons, List.flatten_nil, List.append_nil, List.append_assoc]
