/-! THE COMPONENT, 11: states, birds, what is said -/
def BKn (bf : Nat → Option Nat) (bp : va_W) (nb : Nat) (kd : Nat → Nat) : Prop := ∀ b, b < nb → ∃ q, bf b = some q ∧ (q, oB (kd b) b) ∈ bp
abbrev cBr (D : xG) (ad : Nat → Nat) (bf : Nat → Option Nat) : va_W := [(ad 0, aQ (D.2.1 6) 8 bf)]
abbrev cSd (D : xG) (ad : Nat → Nat) (sf : Nat → Int32) : va_W := [(ad 3, aI (D.2.1 0) 16 sf)]
/-- what is said, laid out -/
def SdR (iv sf : Nat → Int32) (L : List Nat) : Prop := iv 4 = nI L.length ∧ L.length ≤ 16 ∧ ∀ k v, L[k]? = some v → sf k = nI v
abbrev J4 (iv iv' : Nat → Int32) : Prop := ∀ j, j ≠ 4 → iv' j = iv j
theorem jLow_h : ∀ H, H < 1024 → H ≠ 0 → nI H &&& (nI H - 1) = nI (H - 2 ^ loBit H) := by decide +kernel
theorem CFit.gain {kn : Nat → Nat → Int32} (h : CFit kn) (b w : Nat) {z : Nat} (hz : z ≤ 9) : CFit (fUp kn b (upd (kn b) w (nI z))) := by
  intro b' w' hb hw
  unfold fUp
  by_cases c : b' = b
  · rw [if_pos c]
    by_cases c2 : w' = w
    · rw [c2, pk_us]; exact ⟨z, hz, rfl⟩
    · rw [pk_un c2]
      obtain ⟨v, h1, h2⟩ := h b' w' hb hw
      exact ⟨v, h1, by rw [← c]; exact h2⟩
  · rw [if_neg c]; exact h b' w' hb hw
theorem CRep.setK {kn : Nat → Nat → Int32} {pf hf yf : Nat → Int32} {cov ev : Int32} {nb nm : Nat} {S : HS} (h : CRep kn pf hf yf cov ev nb nm S) (b w z : Nat) : CRep (fUp kn b (upd (kn b) w (nI z))) pf hf yf cov ev nb nm (kUp S.1 b w z, S.2) := by
  obtain ⟨h1, h2, h3, h4, h5, h6⟩ := h
  refine ⟨h1, h2, h3, fun b' w' hb hw => ?_, h5, h6⟩
  show fUp kn b (upd (kn b) w (nI z)) b' w' = nI (kUp S.1 b w z b' w')
  unfold fUp kUp
  by_cases c : b' = b
  · rw [if_pos c]
    by_cases c2 : w' = w
    · rw [c2, pk_us, if_pos ⟨c, rfl⟩]
    · rw [pk_un c2, if_neg (fun e => c2 e.2), ← c]; exact h4 b' w' hb hw
  · rw [if_neg c, if_neg (fun e => c e.1)]; exact h4 b' w' hb hw
theorem CRep.gain {kn : Nat → Nat → Int32} {pf hf yf : Nat → Int32} {cov ev : Int32} {nb nm : Nat} {S : HS} (h : CRep kn pf hf yf cov ev nb nm S) (b w m : Nat) : CRep (fUp kn b (upd (kn b) w (nI (if 9 < S.1 b w + m then 9 else S.1 b w + m)))) pf hf yf cov ev nb nm (hGain S b w m) := h.setK b w _
theorem CRep.setH {kn : Nat → Nat → Int32} {pf hf yf : Nat → Int32} {cov ev : Int32} {nb nm : Nat} {S : HS} (h : CRep kn pf hf yf cov ev nb nm S) (m x : Nat) : CRep kn pf (upd hf m (nI x)) yf cov ev nb nm (S.1, S.2.1, fUp S.2.2.1 m x, S.2.2.2) := by
  obtain ⟨h1, h2, h3, h4, h5, h6⟩ := h
  refine ⟨h1, h2, h3, h4, fun m' hm => ?_, h6⟩
  show upd hf m (nI x) m' = nI (fUp S.2.2.1 m x m')
  unfold fUp
  by_cases c : m' = m
  · rw [c, pk_us, if_pos rfl]
  · rw [pk_un c, if_neg c]; exact h5 m' hm
theorem hSil_mono {kd : Nat → Nat} {S : HS} {p b : Nat} (h : (hUp S b p && decide (kd b = 3)) = true) : ∀ n, b < n → hSil kd S p n = true
  | n + 1, hn => by
    unfold hSil
    rcases Nat.eq_or_lt_of_le (Nat.le_of_lt_succ hn) with e | e
    · subst e; rw [h, Bool.or_true]
    · rw [hSil_mono h n e, Bool.true_or]
theorem hTalk_len {kd : Nat → Nat} {nb p b : Nat} : ∀ (n : Nat) (S : HS) (told : Nat) (L : List Nat), (hTalk kd nb p b n S told L).2.length ≤ L.length + n
  | 0, S, told, L => Nat.le_refl _
  | n + 1, S, told, L => by
    unfold hTalk
    split
    · show L.length ≤ L.length + (n + 1)
      omega
    · rename_i w _
      have := hTalk_len (kd := kd) (nb := nb) (p := p) (b := b) n (hSay kd S p b w nb) (told ||| 2 ^ w) (L ++ [w])
      rw [List.length_append, List.length_singleton] at this
      omega
theorem hSpk_len {kd : Nat → Nat} {nb p : Nat} {S : HS} : ∀ b, (hSpk kd nb p S b).2.length ≤ 2 * b
  | 0 => Nat.le_refl _
  | b + 1 => by
    have ih := hSpk_len (kd := kd) (nb := nb) (p := p) (S := S) b
    unfold hSpk
    dsimp only
    split
    · have := hTalk_len (kd := kd) (nb := nb) (p := p) (b := b) (hSays (kd b)) (hSpk kd nb p S b).1 0 (hSpk kd nb p S b).2
      have := hSays_le (kd b)
      omega
    · omega
theorem SdR.add {iv sf : Nat → Int32} {L : List Nat} (h : SdR iv sf L) (hl : L.length < 16) (w : Nat) : SdR (upd iv 4 (nI (L.length + 1))) (upd sf L.length (nI w)) (L ++ [w]) := by
  refine ⟨by rw [pk_us, List.length_append, List.length_singleton], by rw [List.length_append, List.length_singleton]; omega, fun k v hk => ?_⟩
  rcases Nat.lt_trichotomy k L.length with c | c | c
  · rw [pk_un (by omega)]
    rw [List.getElem?_append_left c] at hk
    exact h.2.2 k v hk
  · subst c
    rw [List.getElem?_append_right (Nat.le_refl _), Nat.sub_self] at hk
    cases hk
    exact pk_us
  · rw [List.getElem?_eq_none (by rw [List.length_append, List.length_singleton]; omega)] at hk
    cases hk
theorem hLose_cov {kd : Nat → Nat} {S : HS} {b : Nat} (h : S.2.2.2.2.1.testBit b = true) : ∀ j, j ≤ 10 → hLose kd S (10 * b + j) = hLose kd S (10 * b)
  | 0, _ => rfl
  | j + 1, hj => by
    show hLose1 kd (hLose kd S (10 * b + j)) ((10 * b + j) / 10) ((10 * b + j) % 10) = _
    rw [hLose_cov h j (by omega)]
    unfold hLose1
    rw [hLose_snd (10 * b), show (10 * b + j) / 10 = b by omega, if_neg (by rw [h]; simp)]
/-- nothing is said yet where it was not come to -/
theorem hPers_nil {kd : Nat → Nat} {nb : Nat} {S : HS} : ∀ p z, p ≤ z → (hPers kd nb S p).2 z = []
  | 0, z, _ => rfl
  | p + 1, z, h => by
    show fUp (hPers kd nb S p).2 p (hPer kd nb (hPers kd nb S p).1 p).2 z = []
    unfold fUp
    rw [if_neg (by omega)]
    exact hPers_nil p z (by omega)
/-- what is listened to -/
def lisL : Option Nat → (Nat → List Nat) → List Nat
  | none, _ => []
  | some p, f => f p
theorem lisL_up (lis : Option Nat) (f : Nat → List Nat) (p : Nat) (Lp : List Nat) : lisL lis (fUp f p Lp) = if lis = some p then Lp else lisL lis f := by
  cases lis with
  | none => rw [if_neg (by simp)]; rfl
  | some z =>
    show fUp f p Lp z = _
    unfold fUp
    by_cases c : z = p
    · rw [if_pos c, if_pos (by rw [c])]
    · rw [if_neg c, if_neg (fun e => c (Option.some.inj e))]; rfl
