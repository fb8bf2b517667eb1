/-! THE BOOK, 7: what is told, in the twin -/
def TRs (iv rb : Nat → Int32) (X : HT) (d : Bool) : Prop := iv 18 = nI X.1 ∧ iv 19 = nI X.2.1 ∧ (∀ m, m < X.2.1 → rb m = oI (X.2.2.2.2.2.2.1 m)) ∧ iv 22 = bI d
def TTo (row : Nat → Int32) (X : HT) : Prop := TRep row 108 X.1 X.2.1 X.2.2.1 X.2.2.2 ∧ ∀ b w, X.1 ≤ b → b < 8 → w < 10 → row (108 + 20 + 10 * b + w) = 0
def HXk (X : HT) : Prop := HOk X.1 X.2.1 X.2.2.1 X.2.2.2 ∧ X.2.2.2.2.2.2.2.2 = 0
def HCk (X : HT) (c : HC) : Prop := (c.1 ≤ 4 ∧ X.1 < 8 ∧ c.2.1 < 4) ∨ c.1 = 5 ∨ (c.1 = 6 ∧ X.2.1 < 4 ∧ c.2.1 < 1024) ∨ (c.1 = 7 ∧ c.2.1 < X.1 ∧ c.2.2.1 < 10 ∧ c.2.2.2 < 10) ∨ (c.1 = 8 ∧ c.2.1 < X.2.1 ∧ c.2.2.1 < X.1 ∧ hOther X.2.2.2.2.2.2.1 c.2.1 c.2.2.1 X.2.1 = false) ∨ (c.1 = 9 ∧ c.2.1 < X.1)
theorem hOther_no {Y : Nat → Option Nat} {m b : Nat} : ∀ {n : Nat}, hOther Y m b n = false → ∀ o, o < n → o ≠ m → Y o ≠ some b
  | n + 1, h, o, ho, hm => by
    unfold hOther at h
    rw [Bool.or_eq_false_iff] at h
    rcases Nat.eq_or_lt_of_le (Nat.le_of_lt_succ ho) with c | c
    · subst c; intro e; have := h.2; simp [hm, e] at this
    · exact hOther_no h.1 o c hm
theorem HXk.tell {X : HT} (h : HXk X) {c : HC} (hc : HCk X c) : HXk (tellC X c) := by
  obtain ⟨⟨h1, h2, h3, h4, h5, h6, h7, h8, h9, h10⟩, hE⟩ := h
  rcases hc with ⟨c1, c2, c3⟩ | c1 | ⟨c1, c2, c3⟩ | ⟨c1, c2, c3, c4⟩ | ⟨c1, c2, c3, c4⟩ | ⟨c1, c2⟩
  · unfold tellC
    rw [if_neg (by omega), if_neg (by omega), if_neg (by omega), if_neg (by omega), if_neg (by omega)]
    refine ⟨⟨by show X.1 + 1 ≤ 8; omega, h2, fun b hb => ?_, fun b w hb hw => ?_, fun b hb => ?_, h6, fun m b hm e => ?_, h8, ?_, h10⟩, hE⟩
    · show fUp X.2.2.1 X.1 c.1 b ≤ 4
      have hb : b < X.1 + 1 := hb
      unfold fUp; split
      · exact c1
      · exact h3 b (by omega)
    · show (if b = X.1 then 0 else X.2.2.2.1 b w) ≤ 9
      have hb : b < X.1 + 1 := hb
      split
      · omega
      · exact h4 b w (by omega) hw
    · show fUp X.2.2.2.2.1 X.1 c.2.1 b ≤ 3
      have hb : b < X.1 + 1 := hb
      unfold fUp; split
      · omega
      · exact h5 b (by omega)
    · exact Nat.lt_succ_of_lt (h7 m b hm e)
    · show X.2.2.2.2.2.2.2.1 < 2 ^ (X.1 + 1)
      rw [Nat.pow_succ]; omega
  · unfold tellC
    rw [if_pos c1]
    refine ⟨⟨Nat.zero_le _, Nat.zero_le _, fun b hb => ?_, fun b w hb hw => ?_, fun b hb => ?_, fun m hm => ?_, fun m b hm e => ?_, fun m m' b hm => ?_, Nat.one_pos, h10⟩, hE⟩ <;> first | exact absurd hb (Nat.not_lt_zero _) | exact absurd hm (Nat.not_lt_zero _)
  · unfold tellC
    rw [if_neg (by omega), if_pos c1]
    refine ⟨⟨h1, c2, h3, h4, h5, fun m hm => ?_, fun m b hm e => ?_, fun m m' b hm hm' e e' => ?_, h9, h10⟩, hE⟩
    · have hm : m < X.2.1 + 1 := hm
      show fUp X.2.2.2.2.2.1 X.2.1 c.2.1 m < 1024
      unfold fUp; split
      · exact c3
      · exact h6 m (by omega)
    · have hm : m < X.2.1 + 1 := hm
      have e : fUp X.2.2.2.2.2.2.1 X.2.1 none m = some b := e
      unfold fUp at e; split at e
      · cases e
      · exact h7 m b (by omega) e
    · have hm : m < X.2.1 + 1 := hm
      have hm' : m' < X.2.1 + 1 := hm'
      have e : fUp X.2.2.2.2.2.2.1 X.2.1 none m = some b := e
      have e' : fUp X.2.2.2.2.2.2.1 X.2.1 none m' = some b := e'
      unfold fUp at e e'; split at e
      · cases e
      · split at e'
        · cases e'
        · exact h8 m m' b (by omega) (by omega) e e'
  · unfold tellC
    rw [if_neg (by omega), if_neg (by omega), if_pos c1]
    refine ⟨⟨h1, h2, h3, fun b w hb hw => ?_, h5, h6, h7, h8, h9, h10⟩, hE⟩
    show kUp X.2.2.2.1 c.2.1 c.2.2.1 c.2.2.2 b w ≤ 9
    unfold kUp; split
    · omega
    · exact h4 b w hb hw
  · unfold tellC
    rw [if_neg (by omega), if_neg (by omega), if_neg (by omega), if_pos c1]
    have no := hOther_no c4
    refine ⟨⟨h1, h2, h3, h4, h5, h6, fun m b hm e => ?_, fun m m' b hm hm' e e' => ?_, h9, h10⟩, hE⟩
    · have e : fUp X.2.2.2.2.2.2.1 c.2.1 (some c.2.2.1) m = some b := e
      unfold fUp at e; split at e
      · cases e; exact c3
      · exact h7 m b hm e
    · have e : fUp X.2.2.2.2.2.2.1 c.2.1 (some c.2.2.1) m = some b := e
      have e' : fUp X.2.2.2.2.2.2.1 c.2.1 (some c.2.2.1) m' = some b := e'
      unfold fUp at e e'
      by_cases q : m = c.2.1
      · by_cases q' : m' = c.2.1
        · omega
        · rw [if_pos q] at e; rw [if_neg q'] at e'; rw [← e] at e'
          exact absurd e' (no m' hm' q')
      · rw [if_neg q] at e
        by_cases q' : m' = c.2.1
        · rw [if_pos q'] at e'; rw [← e'] at e
          exact absurd e (no m hm q)
        · rw [if_neg q'] at e'; exact h8 m m' b hm hm' e e'
  · unfold tellC
    rw [if_neg (by omega), if_neg (by omega), if_neg (by omega), if_neg (by omega), if_pos c1]
    exact ⟨⟨h1, h2, h3, h4, h5, h6, h7, h8, Nat.or_lt_two_pow h9 (Nat.pow_lt_pow_right (by decide) c2), h10⟩, hE⟩
def P4 (j : Nat) : Prop := j = 16 ∨ j = 17 ∨ j = 18 ∨ j = 19
theorem I4.trans {P : Nat → Prop} {a b c : Nat → Int32} (h : I4 P a b) (h2 : I4 P b c) : I4 P a c := fun j hj => (h2 j hj).trans (h j hj)
theorem I4.p4 {a b : Nat → Int32} (h : I4 (fun j => j = 16 ∨ j = 17) a b) : I4 P4 a b := fun j hj => h j (fun z => hj (by rcases z with z | z <;> simp [P4, z]))
theorem I4.rf {P : Nat → Prop} {a : Nat → Int32} : I4 P a a := fun _ _ => rfl
theorem I4.upd {P : Nat → Prop} {a b : Nat → Int32} (h : I4 P a b) {i : Nat} {x : Int32} (hi : P i) : I4 P a (upd b i x) := fun j hj => by rw [pk_un (fun e => hj (by rw [e]; exact hi))]; exact h j hj
theorem TRs.i4 {iv iv' rb : Nat → Int32} {X : HT} {d : Bool} (h : TRs iv rb X d) (hi : I4 (fun j => j = 16 ∨ j = 17) iv iv') : TRs iv' rb X d := ⟨by rw [hi _ (by omega)]; exact h.1, by rw [hi _ (by omega)]; exact h.2.1, h.2.2.1, by rw [hi _ (by omega)]; exact h.2.2.2⟩
theorem TTx.i4 {iv iv' tx : Nat → Int32} {T : List Nat} (h : TTx tx iv T) (hi : I4 P4 iv iv') : TTx tx iv' T := ⟨by rw [hi 4 (by simp [P4])]; exact h.1, h.2⟩
def TOut (o : HF) (T : List Nat) (X : HT) (d : Bool) (r : Option Value) (iv' row' rb' : Nat → Int32) : Prop := match o with
  | .inl f => r = some (.int 0) ∧ iv' 16 = nI f
  | .inr (c, tk) => r = some (.int 1) ∧ TTok iv' T tk ∧ TRs iv' rb' (tellC X c) d ∧ (d = true → TTo row' (tellC X c)) ∧ HCk X c
theorem lo_two : ∀ v, v < 10 → loBit (2 ^ v) = v := by decide
theorem hWords_1 {T : List Nat} {tk : Nat × Nat} {s : Nat} (hk : tk.1 < T.length → tk.1 < tk.2) (h : hWords T tk 1 = some s) : ∃ v, v < 10 ∧ s = 2 ^ v := by
  unfold hWords at h
  split at h
  · cases h
  · rename_i c e
    have hp := (List.getElem?_eq_some_iff.mp e).1
    split at h
    · rename_i q
      have := hk hp
      rw [show tk.2 - tk.1 = 0 + 1 by omega] at h
      unfold hRise at h
      rw [e] at h
      dsimp only at h
      split at h
      · unfold hRise at h
        cases h
        exact ⟨c - 97, by omega, by simp⟩
      · cases h
    · cases h
