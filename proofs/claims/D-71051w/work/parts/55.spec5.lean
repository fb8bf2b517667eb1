/-! THE BOOK, 6: texts -/
def scan (P : Nat → Bool) (T : List Nat) : Nat → Nat → Nat
  | 0, p => p
  | n + 1, p => match T[p]? with
    | some c => if P c = true then scan P T n (p + 1) else p
    | none => p
def isL (c : Nat) : Bool := decide (97 ≤ c ∧ c ≤ 122)
def isD (c : Nat) : Bool := decide (48 ≤ c ∧ c ≤ 57)
def hEnd (T : List Nat) (f : Nat) : Nat := match T[f]? with
  | none => f
  | some c => if isL c = true then scan isL T T.length (f + 1) else if isD c = true then scan isD T T.length (f + 1) else f + 1
/-- the token from p on: where it begins, where it ends -/
def hTok (T : List Nat) (p : Nat) : Nat × Nat := (scan (fun c => decide (c = 32)) T T.length p, hEnd T (scan (fun c => decide (c = 32)) T T.length p))
def hNum (T : List Nat) (tk : Nat × Nat) (below : Nat) : Option Nat := match T[tk.1]? with
  | none => none
  | some c => if 48 ≤ c ∧ c ≤ 57 ∧ tk.2 = tk.1 + 1 ∧ c < 48 + below then some (c - 48) else none
def hRise (T : List Nat) : Nat → Nat → Nat → Nat → Option Nat
  | 0, _, _, set => some set
  | n + 1, k, last, set => match T[k]? with
    | none => none
    | some c => if last < c ∧ c < 107 then hRise T n (k + 1) c (set ||| 2 ^ (c - 97)) else none
def hWords (T : List Nat) (tk : Nat × Nat) (most : Nat) : Option Nat := match T[tk.1]? with
  | none => none
  | some c => if 97 ≤ c ∧ c ≤ 122 ∧ tk.2 ≤ tk.1 + most then hRise T (tk.2 - tk.1) tk.1 96 0 else none
def hEq (T : List Nat) (f : Nat) (w : List Nat) : Nat → Bool
  | 0 => true
  | k + 1 => hEq T f w k && decide (T[f + k]? = w[k]?)
def hIs (T : List Nat) (tk : Nat × Nat) (w : List Nat) : Bool := decide (tk.2 = tk.1 + w.length) && hEq T tk.1 w w.length
/-- what is told: birds, men, kinds, the evening -/
abbrev HT : Type := Nat × Nat × (Nat → Nat) × HS
abbrev HC : Type := Nat × Nat × Nat × Nat
def tellC (X : HT) (c : HC) : HT :=
  if c.1 = 5 then (0, 0, X.2.2.1, X.2.2.2.1, X.2.2.2.2.1, X.2.2.2.2.2.1, (fun _ => none), 0, X.2.2.2.2.2.2.2.2)
  else if c.1 = 6 then (X.1, X.2.1 + 1, X.2.2.1, X.2.2.2.1, X.2.2.2.2.1, fUp X.2.2.2.2.2.1 X.2.1 c.2.1, fUp X.2.2.2.2.2.2.1 X.2.1 none, X.2.2.2.2.2.2.2)
  else if c.1 = 7 then (X.1, X.2.1, X.2.2.1, kUp X.2.2.2.1 c.2.1 c.2.2.1 c.2.2.2, X.2.2.2.2)
  else if c.1 = 8 then (X.1, X.2.1, X.2.2.1, X.2.2.2.1, X.2.2.2.2.1, X.2.2.2.2.2.1, fUp X.2.2.2.2.2.2.1 c.2.1 (some c.2.2.1), X.2.2.2.2.2.2.2)
  else if c.1 = 9 then (X.1, X.2.1, X.2.2.1, X.2.2.2.1, X.2.2.2.2.1, X.2.2.2.2.2.1, X.2.2.2.2.2.2.1, X.2.2.2.2.2.2.2.1 ||| 2 ^ c.2.1, X.2.2.2.2.2.2.2.2)
  else (X.1 + 1, X.2.1, fUp X.2.2.1 X.1 c.1, (fun b w => if b = X.1 then 0 else X.2.2.2.1 b w), fUp X.2.2.2.2.1 X.1 c.2.1, X.2.2.2.2.2)
abbrev HF : Type := Nat ⊕ (HC × (Nat × Nat))
def hcBird (T : List Nat) (tk : Nat × Nat) (X : HT) (k : Nat) : HF := if X.1 = 8 then .inl tk.1 else match hNum T (hTok T tk.2) 4 with
  | none => .inl (hTok T tk.2).1
  | some p => .inr ((k, p, 0, 0), hTok T (hTok T tk.2).2)
def hcMan (T : List Nat) (tk : Nat × Nat) (X : HT) : HF := if X.2.1 = 4 then .inl tk.1 else match hWords T (hTok T tk.2) 10 with
  | none => .inl (hTok T tk.2).1
  | some s => .inr ((6, s, 0, 0), hTok T (hTok T tk.2).2)
def hcKnows (T : List Nat) (tk : Nat × Nat) (X : HT) : HF := match hNum T (hTok T tk.2) X.1 with
  | none => .inl (hTok T tk.2).1
  | some b => match hWords T (hTok T (hTok T tk.2).2) 1 with
    | none => .inl (hTok T (hTok T tk.2).2).1
    | some s => match hNum T (hTok T (hTok T (hTok T tk.2).2).2) 10 with
      | none => .inl (hTok T (hTok T (hTok T tk.2).2).2).1
      | some n => .inr ((7, b, loBit s, n), hTok T (hTok T (hTok T (hTok T tk.2).2).2).2)
def hOther (Y : Nat → Option Nat) (m b : Nat) : Nat → Bool
  | 0 => false
  | o + 1 => hOther Y m b o || (decide (o ≠ m) && decide (Y o = some b))
def hcSits (T : List Nat) (tk : Nat × Nat) (X : HT) : HF := match hNum T (hTok T tk.2) X.2.1 with
  | none => .inl (hTok T tk.2).1
  | some m => match hNum T (hTok T (hTok T tk.2).2) X.1 with
    | none => .inl (hTok T (hTok T tk.2).2).1
    | some b => if hOther X.2.2.2.2.2.2.1 m b X.2.1 = true then .inl (hTok T (hTok T tk.2).2).1 else .inr ((8, m, b, 0), hTok T (hTok T (hTok T tk.2).2).2)
def hcCover (T : List Nat) (tk : Nat × Nat) (X : HT) : HF := match hNum T (hTok T tk.2) X.1 with
  | none => .inl (hTok T tk.2).1
  | some b => .inr ((9, b, 0, 0), hTok T (hTok T tk.2).2)
def wParrot : List Nat := [112, 97, 114, 114, 111, 116]
def wGrey : List Nat := [103, 114, 101, 121]
def wCockatoo : List Nat := [99, 111, 99, 107, 97, 116, 111, 111]
def wHawk : List Nat := [104, 97, 119, 107]
def wGreen : List Nat := [103, 114, 101, 101, 110]
def wMan : List Nat := [109, 97, 110]
def wHarbour : List Nat := [104, 97, 114, 98, 111, 117, 114]
def wKnows : List Nat := [107, 110, 111, 119, 115]
def wSits : List Nat := [115, 105, 116, 115]
def wCover : List Nat := [99, 111, 118, 101, 114]
def hKind (T : List Nat) (tk : Nat × Nat) : Option Nat := if hIs T tk wParrot = true then some 0 else if hIs T tk wGrey = true then some 1 else if hIs T tk wCockatoo = true then some 2 else if hIs T tk wHawk = true then some 3 else if hIs T tk wGreen = true then some 4 else none
def hClause (T : List Nat) (tk : Nat × Nat) (X : HT) : HF := match hKind T tk with
  | some k => hcBird T tk X k
  | none => if hIs T tk wMan = true then hcMan T tk X else if hIs T tk wHarbour = true then .inr ((5, 0, 0, 0), hTok T tk.2) else if hIs T tk wKnows = true then hcKnows T tk X else if hIs T tk wSits = true then hcSits T tk X else if hIs T tk wCover = true then hcCover T tk X else .inl tk.1
def hReads (T : List Nat) : Nat → (Nat × Nat) → HT → Nat ⊕ List HC
  | n, tk, X => match hClause T tk X with
    | .inl f => .inl f
    | .inr (c, tk') => if T.length ≤ tk'.1 then .inr [c] else match n with
      | 0 => .inl tk'.1
      | n + 1 => if T[tk'.1]? ≠ some 59 then .inl tk'.1 else match hReads T n (hTok T tk'.2) (tellC X c) with
        | .inl f => .inl f
        | .inr cs => .inr (c :: cs)
def hParse (T : List Nat) (X : HT) : Nat ⊕ List HC := hReads T 19 (hTok T 0) X
theorem scan_b (P : Nat → Bool) (T : List Nat) : ∀ n p, p ≤ T.length → p ≤ scan P T n p ∧ scan P T n p ≤ T.length
  | 0, p, h => ⟨Nat.le_refl _, h⟩
  | n + 1, p, h => by
    unfold scan
    cases e : T[p]? with
    | none => exact ⟨Nat.le_refl _, h⟩
    | some c =>
      have hp := (List.getElem?_eq_some_iff.mp e).1
      dsimp only
      split
      · have := scan_b P T n (p + 1) hp; omega
      · exact ⟨Nat.le_refl _, h⟩
theorem hEnd_b (T : List Nat) {f : Nat} (h : f ≤ T.length) : f ≤ hEnd T f ∧ hEnd T f ≤ T.length ∧ (f < T.length → f < hEnd T f) := by
  unfold hEnd
  cases e : T[f]? with
  | none => have := List.getElem?_eq_none_iff.mp e; exact ⟨Nat.le_refl _, h, fun z => by omega⟩
  | some c =>
    have hp := (List.getElem?_eq_some_iff.mp e).1
    dsimp only
    split
    · have := scan_b isL T T.length (f + 1) hp; omega
    · split
      · have := scan_b isD T T.length (f + 1) hp; omega
      · omega
theorem hTok_b (T : List Nat) {p : Nat} (h : p ≤ T.length) : p ≤ (hTok T p).1 ∧ (hTok T p).1 ≤ (hTok T p).2 ∧ (hTok T p).2 ≤ T.length ∧ ((hTok T p).1 < T.length → (hTok T p).1 < (hTok T p).2) := by
  have h1 := scan_b (fun c => decide (c = 32)) T T.length p h
  have h2 := hEnd_b T h1.2
  exact ⟨h1.1, h2.1, h2.2.1, h2.2.2⟩
theorem hNum_lt {T : List Nat} {tk : Nat × Nat} {k v : Nat} (h : hNum T tk k = some v) : v < k ∧ v < 10 := by
  unfold hNum at h
  split at h
  · cases h
  · split at h
    · cases h; omega
    · cases h
theorem hRise_lt {T : List Nat} : ∀ {n k last set v : Nat}, set < 1024 → 96 ≤ last → hRise T n k last set = some v → v < 1024 ∧ (0 < n → v ≠ 0)
  | 0, k, last, set, v, h0, h1, h => by cases h; exact ⟨h0, fun z => by omega⟩
  | n + 1, k, last, set, v, h0, h1, h => by
    unfold hRise at h
    split at h
    · cases h
    · split at h
      · rename_i c _ hc
        have hp : 2 ^ (c - 97) < 1024 := Nat.pow_lt_pow_right (n := 10) (by decide) (by omega)
        have ho : set ||| 2 ^ (c - 97) < 1024 := Nat.or_lt_two_pow (n := 10) h0 hp
        have hle : 2 ^ (c - 97) ≤ set ||| 2 ^ (c - 97) := Nat.right_le_or
        have hpos : 0 < 2 ^ (c - 97) := Nat.two_pow_pos _
        have key := hRise_lt ho (by omega) h
        refine ⟨key.1, fun _ => ?_⟩
        rcases Nat.eq_zero_or_pos n with z | z
        · subst z; cases h; omega
        · exact key.2 z
      · cases h
theorem hWords_lt {T : List Nat} {tk : Nat × Nat} {k v : Nat} (hk : tk.1 < T.length → tk.1 < tk.2) (h : hWords T tk k = some v) : v < 1024 ∧ v ≠ 0 := by
  unfold hWords at h
  split at h
  · cases h
  · rename_i c e
    have hp := (List.getElem?_eq_some_iff.mp e).1
    split at h
    · have := hRise_lt (by decide) (Nat.le_refl _) h
      exact ⟨this.1, this.2 (by have := hk hp; omega)⟩
    · cases h
/-- what is read, in the twin -/
def TTok (iv : Nat → Int32) (T : List Nat) (tk : Nat × Nat) : Prop := iv 16 = nI tk.1 ∧ iv 17 = nI tk.2 ∧ tk.1 ≤ tk.2 ∧ tk.2 ≤ T.length ∧ (tk.1 < T.length → tk.1 < tk.2)
def I4 (P : Nat → Prop) (iv iv' : Nat → Int32) : Prop := ∀ j, ¬ P j → iv' j = iv j
theorem isL_x {c : Nat} (hc : c < 256) : x_in (nI c).toInt64 97 122 = bI (isL c) := by
  rw [show x_in (nI c).toInt64 97 122 = if 97 ≤ c ∧ c ≤ 122 then 1 else 0 from x_in_small (by omega) (by decide) (by decide)]
  unfold isL bI
  by_cases h : 97 ≤ c ∧ c ≤ 122
  · simp [h]
  · simp [h]
theorem isD_x {c : Nat} (hc : c < 256) : x_in (nI c).toInt64 48 57 = bI (isD c) := by
  rw [show x_in (nI c).toInt64 48 57 = if 48 ≤ c ∧ c ≤ 57 then 1 else 0 from x_in_small (by omega) (by decide) (by decide)]
  unfold isD bI
  by_cases h : 48 ≤ c ∧ c ≤ 57
  · simp [h]
  · simp [h]
