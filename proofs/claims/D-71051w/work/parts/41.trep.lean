/-! THE BOOK, 2: bits; a harbour in the twin's row -/
theorem xs_l : ∀ n, n < 32 → ((nI n &&& 31).toBitVec.smod 32).toNat = n := by decide +kernel
theorem xshr {C b : Nat} (hC : C < 2147483648) (hb : b < 32) : nI C >>> (nI b &&& 31) = nI (C / 2 ^ b) := pk_shrN (n := C) (by omega) _ b (xs_l b hb)
theorem xshl1 {b : Nat} (hb : b < 31) : (1 : Int32) <<< (nI b &&& 31) = nI (2 ^ b) := by
  have h : (2 : Nat) ^ b ≤ 2 ^ 30 := Nat.pow_le_pow_right (by decide) (by omega)
  have := pk_shlN (n := 1) (nI b &&& 31) b (xs_l b (by omega)) (by omega)
  rw [Nat.one_mul] at this
  exact this
theorem xand1 {n : Nat} (h : n < 4294967296) : nI n &&& 1 = nI (n % 2) := pk_andN (n := n) (by omega) 1 (by decide)
theorem xtest (C b : Nat) : C.testBit b = decide (C / 2 ^ b % 2 = 1) := Nat.testBit_eq_decide_div_mod_eq
theorem xhas_bit {C b : Nat} (hC : C < 2147483648) (hb : b < 32) : x_has (nI C) (nI b) = if C.testBit b = true then 1 else 0 := by
  have h1 : C / 2 ^ b ≤ C := Nat.div_le_self _ _
  unfold x_has
  rw [xshr hC hb, xand1 (by omega), xtest]
  have h2 : C / 2 ^ b % 2 < 2 := Nat.mod_lt _ (by decide)
  by_cases h : C / 2 ^ b % 2 = 1
  · rw [h]; simp [nI]
  · have h0 : C / 2 ^ b % 2 = 0 := by omega
    rw [h0]; simp [nI]
def oI : Option Nat → Int32
  | none => -1
  | some b => nI b
theorem oI_none {y : Option Nat} (h : ∀ b, y = some b → b < 2147483648) : oI y = -1 ↔ y = none := by
  cases y with
  | none => simp [oI]
  | some b =>
    have hb := h b rfl
    simp only [oI, reduceCtorEq, iff_false]
    intro e
    have h1 := nI_toInt (n := b) (by omega)
    rw [e] at h1
    rw [show ((-1 : Int32)).toInt = -1 from by decide] at h1
    omega
def TRep (row : Nat → Int32) (base nb nm : Nat) (kd : Nat → Nat) (S : HS) : Prop :=
  row base = nI nb ∧ row (base + 1) = nI nm ∧ row (base + 2) = nI S.2.2.2.2.2 ∧ row (base + 3) = nI S.2.2.2.2.1 ∧ (∀ b, b < nb → row (base + 4 + b) = nI (kd b)) ∧ (∀ b, b < nb → row (base + 12 + b) = nI (S.2.1 b)) ∧ (∀ b w, b < nb → w < 10 → row (base + 20 + 10 * b + w) = nI (S.1 b w)) ∧ (∀ m, m < nm → row (base + 100 + m) = nI (S.2.2.1 m)) ∧ (∀ m, m < nm → row (base + 104 + m) = oI (S.2.2.2.1 m))
def TSame (base : Nat) (row row' : Nat → Int32) : Prop := ∀ j, (j < base ∨ base + 108 ≤ j) → row' j = row j
theorem TSame.rf {base : Nat} {row : Nat → Int32} : TSame base row row := fun _ _ => rfl
theorem TSame.trans {base : Nat} {r1 r2 r3 : Nat → Int32} (h : TSame base r1 r2) (h2 : TSame base r2 r3) : TSame base r1 r3 := fun j hj => (h2 j hj).trans (h j hj)
theorem TSame.upd {base : Nat} {r1 r2 : Nat → Int32} (h : TSame base r1 r2) {i : Nat} {x : Int32} (h1 : base ≤ i) (h2 : i < base + 108) : TSame base r1 (upd r2 i x) := fun j hj => by rw [pk_un (by omega)]; exact h j hj
theorem TRep.congr {row row' : Nat → Int32} {base nb nm : Nat} {kd : Nat → Nat} {S : HS} (h : TRep row base nb nm kd S) (hb : nb ≤ 8) (hm : nm ≤ 4) (e : ∀ j, base ≤ j → j < base + 108 → row' j = row j) : TRep row' base nb nm kd S := by
  obtain ⟨h1, h2, h3, h4, h5, h6, h7, h8, h9⟩ := h
  refine ⟨by rw [e _ (by omega) (by omega)]; exact h1, by rw [e _ (by omega) (by omega)]; exact h2, by rw [e _ (by omega) (by omega)]; exact h3, by rw [e _ (by omega) (by omega)]; exact h4, fun b hb => by rw [e _ (by omega) (by omega)]; exact h5 b hb, fun b hb => by rw [e _ (by omega) (by omega)]; exact h6 b hb, fun b w hb hw => by rw [e _ (by omega) (by omega)]; exact h7 b w hb hw, fun m hm => by rw [e _ (by omega) (by omega)]; exact h8 m hm, fun m hm => by rw [e _ (by omega) (by omega)]; exact h9 m hm⟩
theorem TRep.setK {row : Nat → Int32} {base nb nm : Nat} {kd : Nat → Nat} {S : HS} (h : TRep row base nb nm kd S) (hb8 : nb ≤ 8) (hm4 : nm ≤ 4) {b w : Nat} (hb : b < nb) (hw : w < 10) (x : Nat) : TRep (upd row (base + 20 + 10 * b + w) (nI x)) base nb nm kd (kUp S.1 b w x, S.2) := by
  obtain ⟨h1, h2, h3, h4, h5, h6, h7, h8, h9⟩ := h
  refine ⟨by rw [pk_un (by omega)]; exact h1, by rw [pk_un (by omega)]; exact h2, by rw [pk_un (by omega)]; exact h3, by rw [pk_un (by omega)]; exact h4, fun b hb => by rw [pk_un (by omega)]; exact h5 b hb, fun b hb => by rw [pk_un (by omega)]; exact h6 b hb, fun b' w' hb' hw' => ?_, fun m hm => by rw [pk_un (by omega)]; exact h8 m hm, fun m hm => by rw [pk_un (by omega)]; exact h9 m hm⟩
  show _ = nI (kUp S.1 b w x b' w')
  unfold kUp
  by_cases e : b' = b ∧ w' = w
  · obtain ⟨rfl, rfl⟩ := e
    rw [pk_us, if_pos ⟨rfl, rfl⟩]
  · rw [pk_un (by omega), if_neg e]
    exact h7 b' w' hb' hw'
theorem TRep.setH {row : Nat → Int32} {base nb nm : Nat} {kd : Nat → Nat} {S : HS} (h : TRep row base nb nm kd S) (hb8 : nb ≤ 8) (hm4 : nm ≤ 4) {m : Nat} (hm : m < nm) (x : Nat) : TRep (upd row (base + 100 + m) (nI x)) base nb nm kd (S.1, S.2.1, fUp S.2.2.1 m x, S.2.2.2) := by
  obtain ⟨h1, h2, h3, h4, h5, h6, h7, h8, h9⟩ := h
  refine ⟨by rw [pk_un (by omega)]; exact h1, by rw [pk_un (by omega)]; exact h2, by rw [pk_un (by omega)]; exact h3, by rw [pk_un (by omega)]; exact h4, fun b hb => by rw [pk_un (by omega)]; exact h5 b hb, fun b hb => by rw [pk_un (by omega)]; exact h6 b hb, fun b' w' hb' hw' => by rw [pk_un (by omega)]; exact h7 b' w' hb' hw', fun m' hm' => ?_, fun m hm => by rw [pk_un (by omega)]; exact h9 m hm⟩
  show _ = nI (fUp S.2.2.1 m x m')
  unfold fUp
  by_cases e : m' = m
  · subst e
    rw [pk_us, if_pos rfl]
  · rw [pk_un (by omega), if_neg e]
    exact h8 m' hm'
theorem TRep.setP {row : Nat → Int32} {base nb nm : Nat} {kd : Nat → Nat} {S : HS} (h : TRep row base nb nm kd S) (hb8 : nb ≤ 8) (hm4 : nm ≤ 4) {m : Nat} (hm : m < nb) (x : Nat) : TRep (upd row (base + 12 + m) (nI x)) base nb nm kd (S.1, fUp S.2.1 m x, S.2.2) := by
  obtain ⟨h1, h2, h3, h4, h5, h6, h7, h8, h9⟩ := h
  refine ⟨by rw [pk_un (by omega)]; exact h1, by rw [pk_un (by omega)]; exact h2, by rw [pk_un (by omega)]; exact h3, by rw [pk_un (by omega)]; exact h4, fun b hb => by rw [pk_un (by omega)]; exact h5 b hb, fun m' hm' => ?_, fun b' w' hb' hw' => by rw [pk_un (by omega)]; exact h7 b' w' hb' hw', fun m hm => by rw [pk_un (by omega)]; exact h8 m hm, fun m hm => by rw [pk_un (by omega)]; exact h9 m hm⟩
  show _ = nI (fUp S.2.1 m x m')
  unfold fUp
  by_cases e : m' = m
  · subst e
    rw [pk_us, if_pos rfl]
  · rw [pk_un (by omega), if_neg e]
    exact h6 m' hm'
theorem TRep.setY {row : Nat → Int32} {base nb nm : Nat} {kd : Nat → Nat} {S : HS} (h : TRep row base nb nm kd S) (hb8 : nb ≤ 8) (hm4 : nm ≤ 4) {m : Nat} (hm : m < nm) (x : Option Nat) : TRep (upd row (base + 104 + m) (oI x)) base nb nm kd (S.1, S.2.1, S.2.2.1, fUp S.2.2.2.1 m x, S.2.2.2.2) := by
  obtain ⟨h1, h2, h3, h4, h5, h6, h7, h8, h9⟩ := h
  refine ⟨by rw [pk_un (by omega)]; exact h1, by rw [pk_un (by omega)]; exact h2, by rw [pk_un (by omega)]; exact h3, by rw [pk_un (by omega)]; exact h4, fun b hb => by rw [pk_un (by omega)]; exact h5 b hb, fun b hb => by rw [pk_un (by omega)]; exact h6 b hb, fun b' w' hb' hw' => by rw [pk_un (by omega)]; exact h7 b' w' hb' hw', fun m hm => by rw [pk_un (by omega)]; exact h8 m hm, fun m' hm' => ?_⟩
  show _ = oI (fUp S.2.2.2.1 m x m')
  unfold fUp
  by_cases e : m' = m
  · subst e
    rw [pk_us, if_pos rfl]
  · rw [pk_un (by omega), if_neg e]
    exact h9 m' hm'
theorem TRep.setC {row : Nat → Int32} {base nb nm : Nat} {kd : Nat → Nat} {S : HS} (h : TRep row base nb nm kd S) (hb8 : nb ≤ 8) (hm4 : nm ≤ 4) (x : Nat) : TRep (upd row (base + 3) (nI x)) base nb nm kd (S.1, S.2.1, S.2.2.1, S.2.2.2.1, x, S.2.2.2.2.2) := by
  obtain ⟨h1, h2, h3, h4, h5, h6, h7, h8, h9⟩ := h
  exact ⟨by rw [pk_un (by omega)]; exact h1, by rw [pk_un (by omega)]; exact h2, by rw [pk_un (by omega)]; exact h3, pk_us, fun b hb => by rw [pk_un (by omega)]; exact h5 b hb, fun b hb => by rw [pk_un (by omega)]; exact h6 b hb, fun b' w' hb' hw' => by rw [pk_un (by omega)]; exact h7 b' w' hb' hw', fun m hm => by rw [pk_un (by omega)]; exact h8 m hm, fun m hm => by rw [pk_un (by omega)]; exact h9 m hm⟩
theorem TRep.setE {row : Nat → Int32} {base nb nm : Nat} {kd : Nat → Nat} {S : HS} (h : TRep row base nb nm kd S) (hb8 : nb ≤ 8) (hm4 : nm ≤ 4) (x : Nat) : TRep (upd row (base + 2) (nI x)) base nb nm kd (S.1, S.2.1, S.2.2.1, S.2.2.2.1, S.2.2.2.2.1, x) := by
  obtain ⟨h1, h2, h3, h4, h5, h6, h7, h8, h9⟩ := h
  exact ⟨by rw [pk_un (by omega)]; exact h1, by rw [pk_un (by omega)]; exact h2, pk_us, by rw [pk_un (by omega)]; exact h4, fun b hb => by rw [pk_un (by omega)]; exact h5 b hb, fun b hb => by rw [pk_un (by omega)]; exact h6 b hb, fun b' w' hb' hw' => by rw [pk_un (by omega)]; exact h7 b' w' hb' hw', fun m hm => by rw [pk_un (by omega)]; exact h8 m hm, fun m hm => by rw [pk_un (by omega)]; exact h9 m hm⟩
theorem pow_nb {nb : Nat} (h : nb ≤ 8) : 2 ^ nb ≤ 256 := Nat.pow_le_pow_right (by decide) h
theorem loFrom_spec : ∀ (n k s : Nat), (∃ j, k ≤ j ∧ j < k + n ∧ s.testBit j = true) → loFrom s k n < k + n ∧ k ≤ loFrom s k n ∧ s.testBit (loFrom s k n) = true ∧ ∀ j, k ≤ j → j < loFrom s k n → s.testBit j = false
  | 0, k, s, h => by obtain ⟨j, h1, h2, -⟩ := h; omega
  | n + 1, k, s, h => by
    unfold loFrom
    by_cases hk : s.testBit k = true
    · rw [if_pos hk]
      exact ⟨by omega, Nat.le_refl _, hk, fun j h1 h2 => by omega⟩
    · rw [if_neg hk]
      obtain ⟨j, h1, h2, h3⟩ := h
      have hj : k + 1 ≤ j := by
        rcases Nat.lt_or_ge k j with q | q
        · omega
        · exact absurd (by rw [show k = j by omega]; exact h3) hk
      obtain ⟨a1, a2, a3, a4⟩ := loFrom_spec n (k + 1) s ⟨j, hj, by omega, h3⟩
      refine ⟨by omega, by omega, a3, fun i h1 h2 => ?_⟩
      rcases Nat.eq_or_lt_of_le h1 with q | q
      · subst q; simpa using hk
      · exact a4 i q h2
theorem loBit_spec {s : Nat} (h0 : s ≠ 0) (h : s < 1024) : loBit s < 10 ∧ s.testBit (loBit s) = true ∧ ∀ j, j < loBit s → s.testBit j = false := by
  obtain ⟨j, hj⟩ : ∃ j, s.testBit j = true := Nat.exists_testBit_of_ne_zero h0
  have hj10 : j < 10 := by
    rcases Nat.lt_or_ge j 10 with q | q
    · exact q
    · rw [Nat.testBit_lt_two_pow (Nat.lt_of_lt_of_le h (show 1024 ≤ 2 ^ j from Nat.pow_le_pow_right (n := 2) (by decide) q))] at hj
      cases hj
  obtain ⟨a1, -, a3, a4⟩ := loFrom_spec 10 0 s ⟨j, Nat.zero_le _, by omega, hj⟩
  exact ⟨by unfold loBit; omega, a3, fun i hi => a4 i (Nat.zero_le _) hi⟩
theorem HOk.gain {nb nm : Nat} {kd : Nat → Nat} {S : HS} (h : HOk nb nm kd S) (b w m : Nat) : HOk nb nm kd (hGain S b w m) := by
  obtain ⟨h1, h2, h3, h4, h5⟩ := h
  refine ⟨h1, h2, h3, fun b' w' hb hw => ?_, h5⟩
  show kUp S.1 b w _ b' w' ≤ 9
  unfold kUp
  split
  · split <;> omega
  · exact h4 b' w' hb hw
theorem HOk.inh1 {nb nm : Nat} {kd : Nat → Nat} {S : HS} (h : HOk nb nm kd S) (m : Nat) (hm : m < nm) : HOk nb nm kd (hInh1 kd S m) := by
  unfold hInh1
  split
  · exact h
  · split
    · exact h
    · refine HOk.gain ?_ _ _ _
      obtain ⟨h1, h2, h3, h4, h5, h6, h7⟩ := h
      refine ⟨h1, h2, h3, h4, h5, fun m' hm' => ?_, h7⟩
      show fUp S.2.2.1 m _ m' < 1024
      unfold fUp
      split
      · exact Nat.lt_of_le_of_lt (Nat.sub_le _ _) (h6 m hm)
      · exact h6 m' hm'
theorem HOk.inh {nb nm : Nat} {kd : Nat → Nat} {S : HS} (h : HOk nb nm kd S) : ∀ m, m ≤ nm → HOk nb nm kd (hInh kd S m)
  | 0, _ => h
  | m + 1, hm => (HOk.inh h m (by omega)).inh1 m (by omega)
theorem xclear : ∀ H, H < 1024 → ∀ w, w < 10 → H.testBit w = true → nI H &&& (nI (2 ^ w) ^^^ (-1)) = nI (H - 2 ^ w) := by decide +kernel
theorem t_gets_h : ∀ k, k < 5 → t_gets (nI k) = nI (hGets k) := by decide
theorem t_hears_h : ∀ k, k < 5 → t_hears (nI k) = nI (hHears k) := by decide
theorem t_says_h : ∀ k, k < 5 → t_says (nI k) = nI (hSays k) := by decide
theorem t_loses_h : ∀ k, k < 5 → t_loses (nI k) = nI (hLoses k) := by decide
theorem hGets_le (k : Nat) : hGets k ≤ 5 := by unfold hGets; split <;> (try split) <;> (try split) <;> omega
theorem hHears_le (k : Nat) : hHears k ≤ 2 := by unfold hHears; split <;> (try split) <;> omega
theorem hSays_le (k : Nat) : hSays k ≤ 2 := by unfold hSays; split <;> (try split) <;> (try split) <;> omega
theorem hLoses_le (k : Nat) : hLoses k ≤ 1 := by unfold hLoses; split <;> (try split) <;> omega
def bI (b : Bool) : Int32 := if b = true then 1 else 0
theorem bI01 (b : Bool) : bI b = 0 ∨ bI b = 1 := by cases b <;> simp [bI]
theorem HOk.say {nb nm : Nat} {kd : Nat → Nat} {S : HS} (h : HOk nb nm kd S) (p b w : Nat) : ∀ o, HOk nb nm kd (hSay kd S p b w o)
  | 0 => h
  | o + 1 => by
    have ih := HOk.say h p b w o
    show HOk nb nm kd (if o ≠ b ∧ hUp (hSay kd S p b w o) o p = true then hGain (hSay kd S p b w o) o w (hHears (kd o)) else hSay kd S p b w o)
    split
    · exact ih.gain _ _ _
    · exact ih
theorem HOk.talk {nb nm : Nat} {kd : Nat → Nat} (p b : Nat) : ∀ (n : Nat) (S : HS) (told : Nat) (L : List Nat), HOk nb nm kd S → HOk nb nm kd (hTalk kd nb p b n S told L).1
  | 0, S, told, L, h => h
  | n + 1, S, told, L, h => by
    unfold hTalk
    split
    · exact h
    · exact HOk.talk p b n _ _ _ (h.say p b _ nb)
theorem HOk.spk {nb nm : Nat} {kd : Nat → Nat} {S : HS} (h : HOk nb nm kd S) (p : Nat) : ∀ b, HOk nb nm kd (hSpk kd nb p S b).1
  | 0 => h
  | b + 1 => by
    have ih := HOk.spk h p b
    unfold hSpk
    dsimp only
    split
    · exact HOk.talk p b _ _ _ _ ih
    · exact ih
theorem HOk.per {nb nm : Nat} {kd : Nat → Nat} {S : HS} (h : HOk nb nm kd S) (p : Nat) : HOk nb nm kd (hPer kd nb S p).1 := by
  unfold hPer
  split
  · exact h
  · exact h.spk p nb
theorem HOk.pers {nb nm : Nat} {kd : Nat → Nat} {S : HS} (h : HOk nb nm kd S) : ∀ p, HOk nb nm kd (hPers kd nb S p).1
  | 0 => h
  | p + 1 => (HOk.pers h p).per p
theorem HOk.lose {nb nm : Nat} {kd : Nat → Nat} {S : HS} (h : HOk nb nm kd S) : ∀ k, HOk nb nm kd (hLose kd S k)
  | 0 => h
  | k + 1 => by
    have ih := HOk.lose h k
    show HOk nb nm kd (hLose1 kd (hLose kd S k) (k / 10) (k % 10))
    unfold hLose1
    split
    · rename_i c
      obtain ⟨h1, h2, h3, h4, h5⟩ := ih
      refine ⟨h1, h2, h3, fun b' w' hb hw => ?_, h5⟩
      show kUp _ _ _ _ b' w' ≤ 9
      unfold kUp
      split
      · omega
      · exact h4 b' w' hb hw
    · exact ih
theorem hBest_lt {k : Nat → Nat} {but : Nat} : ∀ {w v : Nat}, hBest k but w = some v → v < w ∧ 0 < k v ∧ but.testBit v = false
  | 0, v, h => by cases h
  | w + 1, v, h => by
    unfold hBest at h
    split at h
    · rename_i c
      cases h
      exact ⟨by omega, c.1, c.2.1⟩
    · obtain ⟨a, b⟩ := hBest_lt h
      exact ⟨by omega, b⟩
def hMost (k : Nat → Nat) (but w : Nat) : Nat := match hBest k but w with
  | none => 0
  | some v => k v
theorem hMost_le {k : Nat → Nat} {but w : Nat} (hk : ∀ w, w < 10 → k w ≤ 9) (hw : w ≤ 10) : hMost k but w ≤ 9 := by
  unfold hMost
  split
  · omega
  · rename_i v h
    exact hk v (by have := (hBest_lt h).1; omega)
theorem hBest_step {k : Nat → Nat} {but w : Nat} : hBest k but (w + 1) = (if hMost k but w < (if but.testBit w = true then 0 else k w) then some w else hBest k but w) ∧ hMost k but (w + 1) = (if hMost k but w < (if but.testBit w = true then 0 else k w) then k w else hMost k but w) := by
  have e : (0 < k w ∧ but.testBit w = false ∧ ∀ v, hBest k but w = some v → k v < k w) ↔ hMost k but w < (if but.testBit w = true then 0 else k w) := by
    unfold hMost
    cases ht : but.testBit w with
    | true => simp
    | false =>
      cases hb : hBest k but w with
      | none => simp
      | some v => simp; intro h; omega
  have e1 : hBest k but (w + 1) = (if hMost k but w < (if but.testBit w = true then 0 else k w) then some w else hBest k but w) := by
    rw [show hBest k but (w + 1) = (if 0 < k w ∧ but.testBit w = false ∧ (∀ v, hBest k but w = some v → k v < k w) then some w else hBest k but w) from rfl]
    by_cases c : hMost k but w < (if but.testBit w = true then 0 else k w)
    · rw [if_pos c, if_pos (e.mpr c)]
    · rw [if_neg c, if_neg (fun z => c (e.mp z))]
  refine ⟨e1, ?_⟩
  rw [show hMost k but (w + 1) = (match hBest k but (w + 1) with | none => 0 | some v => k v) from rfl, e1]
  by_cases c : hMost k but w < (if but.testBit w = true then 0 else k w)
  · rw [if_pos c, if_pos c]
  · rw [if_neg c, if_neg c]; rfl
/-- what is said on perch p, in the twin's two rows -/
def SRep (sw sm : Nat → Int32) (p : Nat) (L : List Nat) : Prop := sm p = nI L.length ∧ L.length ≤ 16 ∧ ∀ i, i < L.length → sw (16 * p + i) = nI (L.getD i 0)
def SSame (p : Nat) (sw sw' sm sm' : Nat → Int32) : Prop := (∀ j, (j < 16 * p ∨ 16 * p + 16 ≤ j) → sw' j = sw j) ∧ ∀ j, j ≠ p → sm' j = sm j
theorem SSame.rf {p : Nat} {sw sm : Nat → Int32} : SSame p sw sw sm sm := ⟨fun _ _ => rfl, fun _ _ => rfl⟩
theorem SSame.trans {p : Nat} {a a2 a3 b b2 b3 : Nat → Int32} (h : SSame p a a2 b b2) (h2 : SSame p a2 a3 b2 b3) : SSame p a a3 b b3 := ⟨fun j hj => (h2.1 j hj).trans (h.1 j hj), fun j hj => (h2.2 j hj).trans (h.2 j hj)⟩
theorem SRep.add {sw sm : Nat → Int32} {p : Nat} {L : List Nat} (h : SRep sw sm p L) (hl : L.length < 16) (w : Nat) : SRep (upd sw (16 * p + L.length) (nI w)) (upd sm p (nI (L.length + 1))) p (L ++ [w]) ∧ SSame p sw (upd sw (16 * p + L.length) (nI w)) sm (upd sm p (nI (L.length + 1))) := by
  refine ⟨⟨by rw [pk_us]; simp, by simp; omega, fun i hi => ?_⟩, fun j hj => by rw [pk_un (by omega)], fun j hj => by rw [pk_un hj]⟩
  simp only [List.length_append, List.length_cons, List.length_nil] at hi
  by_cases e : i = L.length
  · subst e
    rw [pk_us]; simp
  · rw [pk_un (by omega), h.2.2 i (by omega)]
    simp only [List.getD_eq_getElem?_getD]
    rw [List.getElem?_append_left (by omega)]
theorem SRep.keep {sw sw' sm sm' : Nat → Int32} {p q : Nat} {L : List Nat} (h : SRep sw sm q L) (hs : SSame p sw sw' sm sm') (hne : p ≠ q) : SRep sw' sm' q L :=
  ⟨by rw [hs.2 q (Ne.symm hne)]; exact h.1, h.2.1, fun i hi => by have := h.2.1; rw [hs.1 _ (by omega)]; exact h.2.2 i hi⟩
theorem xor_nI (a b : Nat) : nI a ||| nI b = nI (a ||| b) := by
  apply Int32.toBitVec_inj.mp
  show BitVec.ofNat 32 a ||| BitVec.ofNat 32 b = BitVec.ofNat 32 (a ||| b)
  apply BitVec.eq_of_getLsbD_eq
  intro i hi
  simp [BitVec.getLsbD_or, BitVec.getLsbD_ofNat, hi, Nat.testBit_or]
theorem xand_nI (a b : Nat) : nI a &&& nI b = nI (a &&& b) := by
  apply Int32.toBitVec_inj.mp
  show BitVec.ofNat 32 a &&& BitVec.ofNat 32 b = BitVec.ofNat 32 (a &&& b)
  apply BitVec.eq_of_getLsbD_eq
  intro i hi
  simp [BitVec.getLsbD_and, BitVec.getLsbD_ofNat, hi, Nat.testBit_and]
theorem xxor_nI (a b : Nat) : nI a ^^^ nI b = nI (a ^^^ b) := by
  apply Int32.toBitVec_inj.mp
  show BitVec.ofNat 32 a ^^^ BitVec.ofNat 32 b = BitVec.ofNat 32 (a ^^^ b)
  apply BitVec.eq_of_getLsbD_eq
  intro i hi
  simp [BitVec.getLsbD_xor, BitVec.getLsbD_ofNat, hi, Nat.testBit_xor]
