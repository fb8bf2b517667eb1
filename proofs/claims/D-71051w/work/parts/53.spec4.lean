/-! THE BOOK, 5: reels -/
def hRem (x : Int32) : Int32 := x - x / 1000003 * 1000003
def sReel (R : HR) (r s n : Int32) : Int32 × HR := match toR r 0 3 with
  | none => (-2, R)
  | some r => match toR s 0 4 with
    | none => (-3, R)
    | some s => if ¬ n ≤ 12 then (-3, R) else if ¬ 0 ≤ n then (-16, R) else (n, fUp R r (some (s, n.toInt.toNat, fun _ => if s = 3 then -1 else 0)))
def sNo (R : HR) (r s : Nat) (i : Int32) : Int32 := match R r with
  | none => -11
  | some (s', n, _) => if s' ≠ s then -12 else match toR i 0 n with
    | none => -14
    | some _ => 0
def sRecord (R : HR) (nb : Nat) (r s i v : Int32) : Int32 × HR := match toR r 0 3 with
  | none => (-2, R)
  | some r => if s = 3 ∧ toB v nb = none then (-2, R) else match toR s 0 4 with
    | none => (-3, R)
    | some s => match R r with
      | none => (-11, R)
      | some (s', n, f) => if s' ≠ s then (-12, R) else match toR i 0 n with
        | none => (-14, R)
        | some i => if s = 0 then (v.toInt8.toInt32 + 100000, fUp R r (some (s', n, fUp f i v.toInt8.toInt32))) else if s = 1 then (v.toInt16.toInt32 + 100000, fUp R r (some (s', n, fUp f i v.toInt16.toInt32))) else if s = 2 then (1, fUp R r (some (s', n, fUp f i v))) else (v, fUp R r (some (s', n, fUp f i v)))
def sPlay (R : HR) (r s i : Int32) : Int32 := match toR r 0 3 with
  | none => -2
  | some r => match toR s 0 4 with
    | none => -3
    | some s => match R r with
      | none => -11
      | some (s', n, f) => if s' ≠ s then -12 else match toR i 0 n with
        | none => -14
        | some i => if s = 3 then (if f i = -1 then -15 else f i) else if s < 2 then f i + 100000 else if f i < 0 then hRem (-(f i + 1)) + 2000000 else hRem (f i)
def hSpan (z : Nat) (i n : Int32) : Option (Nat × Nat) := if 0 ≤ i.toInt ∧ 0 ≤ n.toInt ∧ i.toInt + n.toInt ≤ z then some (i.toInt.toNat, n.toInt.toNat) else none
def sSplice (R : HR) (f i t j n : Int32) : Int32 × HR := match toR f 0 3 with
  | none => (-2, R)
  | some f => match toR t 0 3 with
    | none => (-2, R)
    | some t => match R f with
      | none => (-11, R)
      | some (s1, z1, f1) => match R t with
        | none => (-11, R)
        | some (s2, z2, f2) => if s1 ≠ s2 then (-13, R) else match hSpan z1 i n with
          | none => (-14, R)
          | some (i, _) => match hSpan z2 j n with
            | none => (-14, R)
            | some (j, k) => (n, fUp R t (some (s2, z2, fun x => if j ≤ x ∧ x < j + k then f1 (i + (x - j)) else f2 x)))
def sDrop (R : HR) (r : Int32) : Int32 × HR := match toR r 0 3 with
  | none => (-2, R)
  | some r => match R r with
    | none => (-11, R)
    | some (_, n, _) => (nI n, fUp R r none)
theorem hSpan_c (z : Nat) (i n : Int32) (hz : z ≤ 12) : (hSpan z i n = none ∧ ¬ (0 ≤ i.toInt ∧ 0 ≤ n.toInt ∧ i.toInt + n.toInt ≤ z) ∧ bI (hSpan z i n).isSome = 0) ∨ ∃ a b, a + b ≤ z ∧ i = nI a ∧ n = nI b ∧ hSpan z i n = some (a, b) ∧ bI (hSpan z i n).isSome = 1 := by
  by_cases c : 0 ≤ i.toInt ∧ 0 ≤ n.toInt ∧ i.toInt + n.toInt ≤ z
  · right
    have e : hSpan z i n = some (i.toInt.toNat, n.toInt.toNat) := if_pos c
    refine ⟨i.toInt.toNat, n.toInt.toNat, by omega, Int32.toInt_inj.mp ?_, Int32.toInt_inj.mp ?_, e, by rw [e]; rfl⟩
    · rw [nI_toInt (by omega)]; omega
    · rw [nI_toInt (by omega)]; omega
  · left
    have e : hSpan z i n = none := if_neg c
    exact ⟨e, c, by rw [e]; rfl⟩
