/-! THE BOOK, 8: a tongue's text, its fault -/
def isW (c : Nat) : Bool := decide ((97 ≤ c ∧ c ≤ 106) ∨ c = 46)
/-- one letter of a tongue: may it stand there; needs, may star, how deep then -/
def tgMay (c : Nat) (needs star : Bool) (deep : Nat) : Bool := isW c || (decide (c = 40) && decide (deep < 6)) || (!needs && (decide (c = 124) || (decide (c = 41) && decide (0 < deep)) || (decide (c = 42) && star)))
def tgDeep (c deep : Nat) : Nat := if c = 40 then deep + 1 else if c = 41 then deep - 1 else deep
def tgNeeds (c : Nat) : Bool := decide (c = 40 ∨ c = 124)
def tgStar (c : Nat) : Bool := isW c || decide (c = 41)
/-- the fault's place -/
def tgFault (T : List Nat) : Nat → Nat → Bool → Bool → Nat → Option Nat
  | 0, at_, needs, _, deep => if needs = true ∨ 0 < deep then some at_ else none
  | n + 1, at_, needs, star, deep => match T[at_]? with
    | none => if needs = true ∨ 0 < deep then some at_ else none
    | some c => if c = 32 then tgFault T n (at_ + 1) needs star deep else if tgMay c needs star deep = true then tgFault T n (at_ + 1) (tgNeeds c) (tgStar c) (tgDeep c deep) else some at_
def hTgF (T : List Nat) : Option Nat := tgFault T T.length 0 true false 0
theorem tgFault_le {T : List Nat} : ∀ {n a : Nat} {x y : Bool} {d v : Nat}, a + n ≤ T.length → tgFault T n a x y d = some v → v ≤ T.length
  | 0, a, x, y, d, v, ha, h => by
    unfold tgFault at h
    split at h
    · cases h; omega
    · cases h
  | n + 1, a, x, y, d, v, ha, h => by
    unfold tgFault at h
    split at h
    · split at h
      · cases h; omega
      · cases h
    · split at h
      · exact tgFault_le (by omega) h
      · split at h
        · exact tgFault_le (by omega) h
        · cases h; omega
theorem isW_x {c : Nat} (hc : c < 256) : x_in (nI c).toInt64 97 106 = bI (decide (97 ≤ c ∧ c ≤ 106)) := by
  rw [show x_in (nI c).toInt64 97 106 = if 97 ≤ c ∧ c ≤ 106 then 1 else 0 from x_in_small (by omega) (by decide) (by decide)]
  unfold bI
  by_cases h : 97 ≤ c ∧ c ≤ 106
  · simp [h]
  · simp [h]
def sFault (T : List Nat) (X : HT) (w : Int32) : Int32 := match toR w 0 2 with
  | none => -3
  | some w => if w = 1 then oI (hTgF T) else match hParse T X with
    | .inl f => nI f
    | .inr _ => -1
