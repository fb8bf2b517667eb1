/-! THE BOOK, 3: answers -/
def toR (n : Int32) (a k : Nat) : Option Nat := if (a : Int) ≤ n.toInt ∧ n.toInt < (k : Int) then some n.toInt.toNat else none
theorem toR_c (n : Int32) (a k : Nat) (hk : k ≤ 2147483648) : (toR n a k = none ∧ bI (toR n a k).isSome = 0) ∨ ∃ j, a ≤ j ∧ j < k ∧ n = nI j ∧ toR n a k = some j ∧ bI (toR n a k).isSome = 1 := by
  by_cases c : (a : Int) ≤ n.toInt ∧ n.toInt < (k : Int)
  · right
    have e : toR n a k = some n.toInt.toNat := if_pos c
    refine ⟨n.toInt.toNat, by omega, by omega, Int32.toInt_inj.mp ?_, e, by rw [e]; rfl⟩
    rw [nI_toInt (by omega)]; omega
  · left
    have e : toR n a k = none := if_neg c
    exact ⟨e, by rw [e]; rfl⟩
theorem toR_n {j a k : Nat} (h1 : a ≤ j) (h2 : j < k) (hk : k ≤ 2147483648) : toR (nI j) a k = some j := by
  unfold toR
  rw [nI_toInt (by omega), if_pos ⟨by omega, by omega⟩]
  rfl
theorem toR_x {j a k : Nat} (h : ¬ (a ≤ j ∧ j < k)) (hj : j < 2147483648) : toR (nI j) a k = none := by
  unfold toR
  rw [nI_toInt (by omega), if_neg (by omega)]
theorem xinR (n : Int32) {a b : Int64} (a' b' : Nat) (ha : a = lN a') (hb : b = lN b') (h1 : a' < 2147483648) (h2 : b' < 2147483648) : x_in n.toInt64 a b = bI (toR n a' (b' + 1)).isSome := by
  subst ha hb
  unfold x_in toR
  have e1 : lN a' ≤ n.toInt64 ↔ (a' : Int) ≤ n.toInt := by rw [Int64.le_iff_toInt_le, lN_toInt (by omega), Int32.toInt_toInt64]
  have e2 : n.toInt64 ≤ lN b' ↔ n.toInt ≤ (b' : Int) := by rw [Int64.le_iff_toInt_le, lN_toInt (by omega), Int32.toInt_toInt64]
  by_cases c : (a' : Int) ≤ n.toInt ∧ n.toInt ≤ (b' : Int)
  · rw [if_pos ⟨e1.mpr c.1, e2.mpr c.2⟩, if_pos ⟨c.1, by omega⟩]; rfl
  · rw [if_neg (fun z => c ⟨e1.mp z.1, e2.mp z.2⟩), if_neg (by omega)]; rfl
theorem xin8 : ∀ n, n ≤ 12 → (nI n - 1).toInt64.toInt = (n : Int) - 1 := by decide
theorem xinB (b : Int32) {n : Nat} (hn : n ≤ 12) : x_in b.toInt64 0 (nI n - 1).toInt64 = bI (toR b 0 n).isSome := by
  unfold x_in toR
  have e1 : 0 ≤ b.toInt64 ↔ 0 ≤ b.toInt := by rw [Int64.le_iff_toInt_le, Int32.toInt_toInt64, show (0 : Int64).toInt = 0 from by decide]
  have e2 : b.toInt64 ≤ (nI n - 1).toInt64 ↔ b.toInt ≤ (n : Int) - 1 := by rw [Int64.le_iff_toInt_le, xin8 n hn, Int32.toInt_toInt64]
  by_cases c : 0 ≤ b.toInt ∧ b.toInt ≤ (n : Int) - 1
  · rw [if_pos ⟨e1.mpr c.1, e2.mpr c.2⟩, if_pos ⟨by omega, by omega⟩]; rfl
  · rw [if_neg (fun z => c ⟨e1.mp z.1, e2.mp z.2⟩), if_neg (by omega)]; rfl
def hMan (Y : Nat → Option Nat) (b : Nat) : Nat → Option Nat
  | 0 => none
  | m + 1 => if Y m = some b then some m else hMan Y b m
theorem hMan_lt {Y : Nat → Option Nat} {b : Nat} : ∀ {n m : Nat}, hMan Y b n = some m → m < n
  | n + 1, m, h => by
    unfold hMan at h
    split at h
    · cases h; omega
    · exact Nat.lt_succ_of_lt (hMan_lt h)
def hWell (k : Nat → Nat) : Nat → Nat
  | 0 => 0
  | w + 1 => hWell k w ||| (if 4 < k w then 2 ^ w else 0)
theorem hWell_lt (k : Nat → Nat) : ∀ n, hWell k n < 2 ^ n
  | 0 => by show (0 : Nat) < 1; omega
  | n + 1 => by
    unfold hWell
    have h1 := hWell_lt k n
    have h2 : 2 ^ n < 2 ^ (n + 1) := Nat.pow_lt_pow_right (by decide) (by omega)
    exact Nat.or_lt_two_pow (by omega) (by split <;> omega)
def hBits (s : Nat) : Nat → Nat
  | 0 => 0
  | k + 1 => hBits s k + s / 2 ^ k % 2
theorem hBits_le (s : Nat) : ∀ n, hBits s n ≤ n
  | 0 => Nat.le_refl _
  | n + 1 => by
    have h1 := hBits_le s n
    have h2 : s / 2 ^ n % 2 < 2 := Nat.mod_lt _ (by decide)
    unfold hBits; omega
def hSets (S : HS) (nm m : Nat) (b : Option Nat) : HS := (S.1, S.2.1, S.2.2.1, fUp (fun k => if k < nm ∧ b ≠ none ∧ S.2.2.2.1 k = b then none else S.2.2.2.1 k) m b, S.2.2.2.2)
def hPush (U : List HS) (S : HS) : List HS := if U.length = 8 then U.drop 1 ++ [S] else U ++ [S]
def hHalf (S : HS) (b : Nat) : Nat → HS
  | 0 => S
  | w + 1 => (kUp (hHalf S b w).1 b w ((hHalf S b w).1 b w / 2), S.2)
def hSum (k : Nat → Nat) : Nat → Nat
  | 0 => 0
  | w + 1 => hSum k w + k w
/-- answers, and what is then -/
abbrev HU : Type := Int32 × HS × List HS
def sBird (nb nm : Nat) (kd : Nat → Nat) (N : HS) (b what : Int32) : Int32 := match toR b 0 nb with
  | none => -2
  | some b => if what = 0 then nI (kd b) else if what = 1 then nI (N.2.1 b) else if what = 2 then nI (N.2.2.2.2.1 / 2 ^ b % 2) else if what = 3 then oI (hMan N.2.2.2.1 b nm) else if what = 4 then nI (hWell (N.1 b) 10) else -3
def sMan (nm : Nat) (N : HS) (m what : Int32) : Int32 := match toR m 0 nm with
  | none => -2
  | some m => if what = 0 then nI (N.2.2.1 m) else if what = 1 then oI (N.2.2.2.1 m) else -3
def sAs (nb : Nat) (kd : Nat → Nat) (b k : Int32) : Int32 := match toR b 0 nb with
  | none => -2
  | some b => match toR k 0 6 with
    | none => -3
    | some k => if k = 0 ∨ k = kd b + 1 ∨ (k = 1 ∧ kd b < 3) ∨ (k = 4 ∧ kd b = 4) then nI (hGets (kd b)) else -4
def sKnown (nb nm : Nat) (kd : Nat → Nat) (N : HS) (b w n : Int32) : Int32 := match toR b 0 nb with
  | none => -2
  | some b => match toR w 0 10 with
    | none => -2
    | some w => match toR n 0 61 with
      | none => -3
      | some n => nI ((hGo kd nb nm N n).1 b w)
def sEvening (nb nm : Nat) (kd : Nat → Nat) (N : HS) (U : List HS) (n : Int32) : HU := match toR n 1 13 with
  | none => (-3, N, U)
  | some n => if 999 < N.2.2.2.2.2 + n then (-5, N, U) else (nI (N.2.2.2.2.2 + n), hGo kd nb nm N n, hPush U N)
def sTeach (nb : Nat) (N : HS) (U : List HS) (b w : Int32) : HU := match toR b 0 nb with
  | none => (-2, N, U)
  | some b => match toR w 0 10 with
    | none => (-2, N, U)
    | some w => (nI ((hGain N b w 3).1 b w), hGain N b w 3, hPush U N)
def sMoult (nb : Nat) (N : HS) (U : List HS) (b : Int32) : HU := match toR b 0 nb with
  | none => (-2, N, U)
  | some b => (nI (hSum ((hHalf N b 10).1 b) 10), hHalf N b 10, hPush U N)
def sPerch (nb : Nat) (N : HS) (U : List HS) (b p : Int32) : HU := match toR b 0 nb with
  | none => (-2, N, U)
  | some b => match toR p 0 4 with
    | none => (-2, N, U)
    | some p => if N.2.1 b = p then (-4, N, U) else (nI (N.2.1 b), (N.1, fUp N.2.1 b p, N.2.2), hPush U N)
def sCover (nb : Nat) (N : HS) (U : List HS) (b : Int32) : HU := match toR b 0 nb with
  | none => (-2, N, U)
  | some b => (nI ((N.2.2.2.2.1 ^^^ 2 ^ b) / 2 ^ b % 2), (N.1, N.2.1, N.2.2.1, N.2.2.2.1, N.2.2.2.2.1 ^^^ 2 ^ b, N.2.2.2.2.2), hPush U N)
/-- a bird or none -/
def toB (b : Int32) (nb : Nat) : Option (Option Nat) := if b = -1 then some none else match toR b 0 nb with
  | none => none
  | some b => some (some b)
def sSit (nb nm : Nat) (N : HS) (U : List HS) (m b : Int32) : HU := match toR m 0 nm with
  | none => (-2, N, U)
  | some m => match toB b nb with
    | none => (-2, N, U)
    | some b => if N.2.2.2.1 m = b then (-4, N, U) else (oI (N.2.2.2.1 m), hSets N nm m b, hPush U N)
def sUndo (N : HS) (U : List HS) : HU := match U.getLast? with
  | none => (-4, N, U)
  | some S => (nI (U.length - 1), S, U.dropLast)
def sSaid (nb nm : Nat) (kd : Nat → Nat) (N : HS) (p i : Int32) : Int32 := match toR p 0 4 with
  | none => -2
  | some p => match toR i 0 16 with
    | none => -3
    | some i => oI (((hPass kd nb nm N).2 p)[i]?)
def hWhen (kd : Nat → Nat) (nb nm : Nat) (b w k : Nat) (N : HS) : Nat → Nat → Option Nat
  | _, 0 => none
  | n, j + 1 => if k ≤ (hGo kd nb nm N n).1 b w then some n else hWhen kd nb nm b w k N (n + 1) j
def sWhen (nb nm : Nat) (kd : Nat → Nat) (N : HS) (b w k : Int32) : Int32 := match toR b 0 nb with
  | none => -2
  | some b => match toR w 0 10 with
    | none => -2
    | some w => match toR k 1 10 with
      | none => -3
      | some k => oI (hWhen kd nb nm b w k N 0 61)
def hKeep (kd : Nat → Nat) (nb nm : Nat) (N : HS) (m b n : Nat) : Nat := hBits (hWell ((hGo kd nb nm (hSets N nm m (some b)) n).1 b) 10 &&& N.2.2.1 m) 10
def sKeeps (nb nm : Nat) (kd : Nat → Nat) (N : HS) (m b n : Int32) : Int32 := match toR m 0 nm with
  | none => -2
  | some m => match toR b 0 nb with
    | none => -2
    | some b => match toR n 1 21 with
      | none => -3
      | some n => nI (hKeep kd nb nm N m b n)
/-! what is kept: rows, undos -/
def TS (a b : Nat) (row row' : Nat → Int32) : Prop := ∀ j, (j < a ∨ b ≤ j) → row' j = row j
theorem TS.rf {a b : Nat} {r : Nat → Int32} : TS a b r r := fun _ _ => rfl
theorem TS.trans {a b : Nat} {r1 r2 r3 : Nat → Int32} (h : TS a b r1 r2) (h2 : TS a b r2 r3) : TS a b r1 r3 := fun j hj => (h2 j hj).trans (h j hj)
theorem TS.wide {a b a' b' : Nat} {r1 r2 : Nat → Int32} (h : TS a b r1 r2) (h1 : a' ≤ a) (h2 : b ≤ b') : TS a' b' r1 r2 := fun j hj => h j (by omega)
theorem TS.upd {a b : Nat} {r1 r2 : Nat → Int32} (h : TS a b r1 r2) {i : Nat} {x : Int32} (h1 : a ≤ i) (h2 : i < b) : TS a b r1 (upd r2 i x) := fun j hj => by rw [pk_un (by omega)]; exact h j hj
theorem TRep.keep {row row' : Nat → Int32} {base nb nm a b : Nat} {kd : Nat → Nat} {S : HS} (h : TRep row base nb nm kd S) (hb : nb ≤ 8) (hm : nm ≤ 4) (hs : TS a b row row') (hd : base + 108 ≤ a ∨ b ≤ base) : TRep row' base nb nm kd S := h.congr hb hm (fun j h1 h2 => hs j (by omega))
theorem TRep.copy {row row' : Nat → Int32} {f t nb nm : Nat} {kd : Nat → Nat} {S : HS} (h : TRep row f nb nm kd S) (hb : nb ≤ 8) (hm : nm ≤ 4) (hc : ∀ k, k < 108 → row' (t + k) = row (f + k)) : TRep row' t nb nm kd S := by
  obtain ⟨h1, h2, h3, h4, h5, h6, h7, h8, h9⟩ := h
  refine ⟨(hc 0 (by omega)).trans h1, (hc 1 (by omega)).trans h2, (hc 2 (by omega)).trans h3, (hc 3 (by omega)).trans h4, fun b hb => ?_, fun b hb => ?_, fun b w hb hw => ?_, fun m hm => ?_, fun m hm => ?_⟩
  · have := hc (4 + b) (by omega); rw [← Nat.add_assoc, ← Nat.add_assoc] at this; exact this.trans (h5 b hb)
  · have := hc (12 + b) (by omega); rw [← Nat.add_assoc, ← Nat.add_assoc] at this; exact this.trans (h6 b hb)
  · have := hc (20 + 10 * b + w) (by omega); rw [show t + (20 + 10 * b + w) = t + 20 + 10 * b + w by omega, show f + (20 + 10 * b + w) = f + 20 + 10 * b + w by omega] at this; exact this.trans (h7 b w hb hw)
  · have := hc (100 + m) (by omega); rw [← Nat.add_assoc, ← Nat.add_assoc] at this; exact this.trans (h8 m hm)
  · have := hc (104 + m) (by omega); rw [← Nat.add_assoc, ← Nat.add_assoc] at this; exact this.trans (h9 m hm)
def HG (nb nm : Nat) (kd : Nat → Nat) (S : HS) : Prop := HOk nb nm kd S ∧ S.2.2.2.2.2 ≤ 999
def TU (row iv : Nat → Int32) (nb nm : Nat) (kd : Nat → Nat) (U : List HS) : Prop := iv 1 = nI U.length ∧ U.length ≤ 8 ∧ ∀ k S, U[k]? = some S → TRep row (216 + 108 * k) nb nm kd S ∧ HG nb nm kd S
theorem TU.keep {row row' iv iv' : Nat → Int32} {nb nm a b : Nat} {kd : Nat → Nat} {U : List HS} (h : TU row iv nb nm kd U) (hb : nb ≤ 8) (hm : nm ≤ 4) (hs : TS a b row row') (hd : 1080 ≤ a ∨ b ≤ 216) (hi : iv' 1 = iv 1) : TU row' iv' nb nm kd U := by
  refine ⟨by rw [hi]; exact h.1, h.2.1, fun k S hk => ?_⟩
  have := (List.getElem?_eq_some_iff.mp hk).1
  have := h.2.1
  exact ⟨(h.2.2 k S hk).1.keep hb hm hs (by omega), (h.2.2 k S hk).2⟩
theorem hPush_len {U : List HS} {S : HS} (h : U.length ≤ 8) : (hPush U S).length = (if U.length = 8 then 8 else U.length + 1) := by
  unfold hPush
  split
  · simp; omega
  · simp
theorem HOk.sets {nb nm : Nat} {kd : Nat → Nat} {S : HS} (h : HOk nb nm kd S) {m : Nat} (hm : m < nm) {b : Option Nat} (hb : ∀ j, b = some j → j < nb) : HOk nb nm kd (hSets S nm m b) := by
  obtain ⟨h1, h2, h3, h4, h5, h6, h7, h8, h9, h10⟩ := h
  have hd : ∀ k, (if k < nm ∧ b ≠ none ∧ S.2.2.2.1 k = b then none else S.2.2.2.1 k) = none ∨ (¬ (k < nm ∧ b ≠ none ∧ S.2.2.2.1 k = b) ∧ (if k < nm ∧ b ≠ none ∧ S.2.2.2.1 k = b then none else S.2.2.2.1 k) = S.2.2.2.1 k) := by
    intro k
    by_cases c : k < nm ∧ b ≠ none ∧ S.2.2.2.1 k = b
    · left; rw [if_pos c]
    · right; exact ⟨c, by rw [if_neg c]⟩
  refine ⟨h1, h2, h3, h4, h5, h6, fun k j hk e => ?_, fun k k' j hk hk' e e' => ?_, h9, h10⟩
  · have e : fUp (fun k => if k < nm ∧ b ≠ none ∧ S.2.2.2.1 k = b then none else S.2.2.2.1 k) m b k = some j := e
    unfold fUp at e
    split at e
    · exact hb j e
    · rcases hd k with q | ⟨-, q⟩
      · dsimp only at e; rw [q] at e; cases e
      · dsimp only at e; rw [q] at e; exact h7 k j hk e
  · have e : fUp (fun k => if k < nm ∧ b ≠ none ∧ S.2.2.2.1 k = b then none else S.2.2.2.1 k) m b k = some j := e
    have e' : fUp (fun k => if k < nm ∧ b ≠ none ∧ S.2.2.2.1 k = b then none else S.2.2.2.1 k) m b k' = some j := e'
    unfold fUp at e e'
    by_cases c : k = m
    · rw [if_pos c] at e
      by_cases c' : k' = m
      · omega
      · rw [if_neg c'] at e'
        dsimp only at e'
        rcases hd k' with q | ⟨q0, q⟩
        · rw [q] at e'; cases e'
        · rw [q] at e'
          exact absurd ⟨hk', by rw [e]; simp, by rw [e, e']⟩ q0
    · rw [if_neg c] at e
      dsimp only at e
      rcases hd k with q | ⟨q0, q⟩
      · rw [q] at e; cases e
      · rw [q] at e
        by_cases c' : k' = m
        · rw [if_pos c'] at e'
          exact absurd ⟨hk, by rw [e']; simp, by rw [e, e']⟩ q0
        · rw [if_neg c'] at e'
          dsimp only at e'
          rcases hd k' with q' | ⟨q0', q'⟩
          · rw [q'] at e'; cases e'
          · rw [q'] at e'
            exact h8 k k' j hk hk' e e'
theorem HOk.half {nb nm : Nat} {kd : Nat → Nat} {S : HS} (h : HOk nb nm kd S) (b : Nat) : ∀ n, HOk nb nm kd (hHalf S b n) ∧ (hHalf S b n).2 = S.2
  | 0 => ⟨h, rfl⟩
  | n + 1 => by
    obtain ⟨⟨h1, h2, h3, h4, h5⟩, e⟩ := HOk.half h b n
    obtain ⟨-, -, -, -, g5⟩ := h
    refine ⟨⟨h1, h2, h3, fun b' w' hb hw => ?_, g5⟩, rfl⟩
    show kUp (hHalf S b n).1 b n ((hHalf S b n).1 b n / 2) b' w' ≤ 9
    unfold kUp
    split
    · rename_i c; obtain ⟨rfl, rfl⟩ := c
      have := h4 b' w' hb hw; omega
    · exact h4 b' w' hb hw
theorem HOk.setP {nb nm : Nat} {kd : Nat → Nat} {S : HS} (h : HOk nb nm kd S) {b p : Nat} (hp : p < 4) : HOk nb nm kd (S.1, fUp S.2.1 b p, S.2.2) := by
  obtain ⟨h1, h2, h3, h4, h5, h6⟩ := h
  refine ⟨h1, h2, h3, h4, fun b' hb => ?_, h6⟩
  show fUp S.2.1 b p b' ≤ 3
  unfold fUp
  split
  · omega
  · exact h5 b' hb
theorem HOk.setC {nb nm : Nat} {kd : Nat → Nat} {S : HS} (h : HOk nb nm kd S) {c : Nat} (hc : c < 2 ^ nb) : HOk nb nm kd (S.1, S.2.1, S.2.2.1, S.2.2.2.1, c, S.2.2.2.2.2) := by
  obtain ⟨h1, h2, h3, h4, h5, h6, h7, h8, h9, h10⟩ := h
  exact ⟨h1, h2, h3, h4, h5, h6, h7, h8, hc, h10⟩
theorem HOk.Yb {nb nm : Nat} {kd : Nat → Nat} {S : HS} (h : HOk nb nm kd S) {m : Nat} (hm : m < nm) : ∀ b, S.2.2.2.1 m = some b → b < 2147483648 := fun b e => by have := h.2.2.2.2.2.2.1 m b hm e; have := h.1; omega
theorem oI_inj {y z : Option Nat} (hy : ∀ b, y = some b → b < 2147483648) (hz : ∀ b, z = some b → b < 2147483648) : oI y = oI z ↔ y = z := by
  cases y with
  | none =>
    cases z with
    | none => simp
    | some b => simp only [reduceCtorEq, iff_false]; intro e; exact ne_m1 (hz b rfl) e.symm
  | some a =>
    cases z with
    | none => simp only [reduceCtorEq, iff_false]; intro e; exact ne_m1 (hy a rfl) e
    | some b =>
      simp only [oI, Option.some.injEq]
      exact nI_eq (hy a rfl) (hz b rfl)
theorem t_bits_h {s : Nat} (hs : s < 2147483648) : ∀ n, n ≤ 10 → t_bits (nI s) n = nI (hBits s n)
  | 0, _ => rfl
  | n + 1, hn => by
    have ih := t_bits_h hs n (by omega)
    have h1 : s / 2 ^ n ≤ s := Nat.div_le_self _ _
    unfold t_bits hBits
    rw [ih, xshr hs (by omega), xand1 (by omega), nI_add]
section TSW
variable {D : xG} {X : XX} {own : String} {cc : ByteArray} {ret : Option FieldType} {nm : String} {nL : Nat} {et : List ExceptionTableEntry} {fr lo mc ms : Nat} {Rl : Option Value → List va_W → Prop} {Rx : String → Nat → List va_W → Prop} {cs : List va_W} {k n pc : Nat} {L : List (Option Value)} {st : List Value}
theorem lv_tsw {p : Program} {l : Launch} {e : Env} {R : Room} {s : State} {m : MethodId} {args : Array Value} {below : List Frame} {meth : Method} {c : Code} {H : Heap} {locs : List Loc} {cells slots : Nat} {Q : State → Prop} {cc : ByteArray} {pc : Nat} {ls : Array Slot} {rest : List Value} (hexec : p.tables.exec = Jvm.exec) (hb : c.code = cc) {x : Int32} {df lo hi off : Int} {os : Array Int} {ln tgt : Nat} (hdg : decode cc pc = .ok (.tableswitch df lo hi os, ln)) (ho : (if x.toInt < lo ∨ x.toInt > hi then some df else os[(x.toInt - lo).toNat]?) = some off) (ht : (pc : Int) + off = (tgt : Int)) (k : W p l e R s m args below meth c H locs cells slots Q (F0 m tgt ls rest)) : W p l e R s m args below meth c H locs cells slots Q (F0 m pc ls (.int x :: rest)) := by
  intro T hT X
  obtain ⟨t, a, b⟩ := k T hT X
  refine ⟨t, ?_, b⟩
  by_cases hd : x.toInt < lo ∨ x.toInt > hi
  · rw [if_pos hd] at ho
    have ho := Option.some.inj ho
    subst ho
    jvm_step X.here [X.here.top, hexec, hb, hdg, hd, ht]
    exact a
  · rw [if_neg hd] at ho
    jvm_step X.here [X.here.top, hexec, hb, hdg, hd, ho, ht]
    exact a
theorem x_tsw (B : XB D X own cc ret nm nL et fr lo mc ms Rl Rx) (tp : Nat) {x : Int32} {df l0 h0 : Int} {os : Array Int} {ln : Nat} (off : Int) (d : decode cc pc = .ok (.tableswitch df l0 h0 os, ln)) (ho : (if x.toInt < l0 ∨ x.toInt > h0 then some df else os[(x.toInt - l0).toNat]?) = some off) (t : (pc : Int) + off = (tp : Int)) (h : WX D X cs k n tp L st) : WX D X cs k n pc L (.int x :: st) := by
  obtain ⟨p, l, e0, R, s, m, args, below, meth, c, A, Q⟩ := X
  intro H locs ls hP hD hS hL
  exact lv_tsw B.1 B.2.1 d ho t (h H locs ls hP hD hS hL)
end TSW
theorem sw_out {x : Int32} {n : Nat} (hn : n < 2147483648) (h : ∀ j, j ≤ n → x ≠ nI j) : x.toInt < 0 ∨ x.toInt > (n : Int) := by
  rcases Int.lt_or_le x.toInt 0 with c | c
  · exact Or.inl c
  · right
    rcases Int.lt_or_le (n : Int) x.toInt with c2 | c2
    · exact c2
    · exact absurd (Int32.toInt_inj.mp (by rw [nI_toInt (by omega)]; omega)) (h x.toInt.toNat (by omega))
theorem TRep.ext {row : Nat → Int32} {base nb nm : Nat} {kd : Nat → Nat} {S : HS} {Y : Nat → Option Nat} (h : TRep row base nb nm kd S) (e : ∀ m, m < nm → Y m = S.2.2.2.1 m) : TRep row base nb nm kd (S.1, S.2.1, S.2.2.1, Y, S.2.2.2.2) := by
  obtain ⟨h1, h2, h3, h4, h5, h6, h7, h8, h9⟩ := h
  exact ⟨h1, h2, h3, h4, h5, h6, h7, h8, fun m hm => by rw [h9 m hm, ← e m hm]⟩
def TW (row iv : Nat → Int32) (nb nm : Nat) (kd : Nat → Nat) (N : HS) (U : List HS) : Prop := TRep row 0 nb nm kd N ∧ HG nb nm kd N ∧ TU row iv nb nm kd U
def TK (row row' : Nat → Int32) : Prop := ∀ j, 108 ≤ j → (j < 216 ∨ 1080 ≤ j) → row' j = row j
def TI (iv iv' : Nat → Int32) : Prop := ∀ j, j ≠ 1 → iv' j = iv j
theorem TK.rf {r : Nat → Int32} : TK r r := fun _ _ _ => rfl
theorem TI.rf {r : Nat → Int32} : TI r r := fun _ _ => rfl
theorem TW.tried {row row' iv : Nat → Int32} {nb nm : Nat} {kd : Nat → Nat} {N : HS} {U : List HS} (h : TW row iv nb nm kd N U) (hs : TS 1296 1404 row row') : TW row' iv nb nm kd N U := ⟨h.1.keep h.2.1.1.1 h.2.1.1.2.1 hs (by omega), h.2.1, h.2.2.keep h.2.1.1.1 h.2.1.1.2.1 hs (by omega) rfl⟩
/-- the harbour itself is another one, the rest stands -/
theorem TW.now {row row' iv : Nat → Int32} {nb nm : Nat} {kd : Nat → Nat} {N N' : HS} {U : List HS} (h : TW row iv nb nm kd N U) (hT : TRep row' 0 nb nm kd N') (hG : HG nb nm kd N') (hs : TS 0 108 row row') : TW row' iv nb nm kd N' U := ⟨hT, hG, h.2.2.keep h.2.1.1.1 h.2.1.1.2.1 hs (by omega) rfl⟩
theorem TK.now {r1 r2 r3 : Nat → Int32} (h : TK r1 r2) (hs : TS 0 108 r2 r3) : TK r1 r3 := fun j h1 h2 => (hs j (by omega)).trans (h j h1 h2)
theorem TSame.ts {base : Nat} {r1 r2 : Nat → Int32} (h : TSame base r1 r2) : TS base (base + 108) r1 r2 := fun j hj => h j hj
theorem toB_c (b : Int32) {nb : Nat} (hn : nb ≤ 100) : (b = -1 ∧ toB b nb = some none) ∨ (b ≠ -1 ∧ toR b 0 nb = none ∧ toB b nb = none ∧ bI (toR b 0 nb).isSome = 0) ∨ ∃ j, j < nb ∧ b = nI j ∧ toB b nb = some (some j) ∧ bI (toR b 0 nb).isSome = 1 := by
  by_cases c : b = -1
  · left; exact ⟨c, by unfold toB; rw [if_pos c]⟩
  · right
    rcases toR_c b 0 nb (by omega) with ⟨e, e'⟩ | ⟨j, -, hj, e1, e, e'⟩
    · left; exact ⟨c, e, by unfold toB; rw [if_neg c, e], e'⟩
    · right; exact ⟨j, hj, e1, by unfold toB; rw [if_neg c, e], e'⟩
