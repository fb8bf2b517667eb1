/-! THE BOOK, 4: answers, on -/
abbrev HKp : Type := Nat → Option HS
def sKeep (N : HS) (Kp : HKp) (k : Int32) : Int32 × HKp := match toR k 0 2 with
  | none => (-2, Kp)
  | some k => (nI N.2.2.2.2.2, fUp Kp k (some N))
def sBack (N : HS) (U : List HS) (Kp : HKp) (k : Int32) : HU := match toR k 0 2 with
  | none => (-2, N, U)
  | some k => match Kp k with
    | none => (-4, N, U)
    | some S => (nI S.2.2.2.2.2, S, [])
def TQ (row zk : Nat → Int32) (nb nm : Nat) (kd : Nat → Nat) (Kp : HKp) : Prop := ∀ k, k < 2 → (Kp k = none ∧ zk k = 0) ∨ ∃ S, Kp k = some S ∧ zk k = 1 ∧ TRep row (1080 + 108 * k) nb nm kd S ∧ HG nb nm kd S
theorem TQ.keep {row row' zk : Nat → Int32} {nb nm a b : Nat} {kd : Nat → Nat} {Kp : HKp} (h : TQ row zk nb nm kd Kp) (hb : nb ≤ 8) (hm : nm ≤ 4) (hs : TS a b row row') (hd : 1296 ≤ a ∨ b ≤ 1080) : TQ row' zk nb nm kd Kp := by
  intro k hk
  rcases h k hk with q | ⟨S, q1, q2, q3, q4⟩
  · exact Or.inl q
  · exact Or.inr ⟨S, q1, q2, q3.keep hb hm hs (by omega), q4⟩
def hClean1 (kd : Nat → Nat) (nb nm : Nat) (N : HS) (b w n : Nat) (best : Option Nat) (set : Nat) : Option Nat :=
  if set &&& (N.2.2.2.2.1 ||| 2 ^ b) = 0 ∧ (best = none ∨ ∃ v, best = some v ∧ hBits set 10 < hBits v 10) then
    (if (hGo kd nb nm (N.1, N.2.1, N.2.2.1, N.2.2.2.1, N.2.2.2.2.1 ||| set, N.2.2.2.2.2) n).1 b w < 5 then some set else best)
  else best
def hClean (kd : Nat → Nat) (nb nm : Nat) (N : HS) (b w n : Nat) : Nat → Option Nat
  | 0 => none
  | s + 1 => hClean1 kd nb nm N b w n (hClean kd nb nm N b w n s) s
theorem hClean_lt {kd : Nat → Nat} {nb nm : Nat} {N : HS} {b w n : Nat} : ∀ {s v : Nat}, hClean kd nb nm N b w n s = some v → v < s
  | s + 1, v, h => by
    have ih := hClean_lt (kd := kd) (nb := nb) (nm := nm) (N := N) (b := b) (w := w) (n := n) (s := s) (v := v)
    unfold hClean hClean1 at h
    split at h
    · split at h
      · cases h; omega
      · have := ih h; omega
    · have := ih h; omega
def sClean (nb nm : Nat) (kd : Nat → Nat) (N : HS) (b w n : Int32) : Int32 := match toR b 0 nb with
  | none => -2
  | some b => match toR w 0 10 with
    | none => -2
    | some w => match toR n 1 21 with
      | none => -3
      | some n => oI (hClean kd nb nm N b w n (2 ^ nb))
def hOdds (N : HS) (w x : Nat) : Nat → Nat
  | 0 => 1
  | b + 1 => hOdds N w x b * (if 4 < N.1 b w then x else 1)
theorem hOdds_le (N : HS) (w : Nat) {x : Nat} (hx : x ≤ 10) : ∀ n, hOdds N w x n ≤ hOdds N w 10 n
  | 0 => Nat.le_refl _
  | n + 1 => by
    unfold hOdds
    refine Nat.mul_le_mul (hOdds_le N w hx n) ?_
    split
    · exact hx
    · exact Nat.le_refl _
theorem hOdds_pos (N : HS) (w : Nat) : ∀ n, 0 < hOdds N w 10 n
  | 0 => Nat.one_pos
  | n + 1 => by
    unfold hOdds
    refine Nat.mul_pos (hOdds_pos N w n) ?_
    split <;> decide
theorem hOdds_lt (N : HS) (w : Nat) : ∀ n, hOdds N w 10 n ≤ 10 ^ n
  | 0 => Nat.le_refl _
  | n + 1 => by
    unfold hOdds
    rw [Nat.pow_succ]
    refine Nat.mul_le_mul (hOdds_lt N w n) ?_
    split <;> decide
theorem hOdds_lt8 (N : HS) (w : Nat) {n : Nat} (hn : n ≤ 8) : hOdds N w 10 n ≤ 100000000 := Nat.le_trans (hOdds_lt N w n) (Nat.le_trans (Nat.pow_le_pow_right (by decide) hn) (by decide))
def sLeft (nb : Nat) (N : HS) (w q part : Int32) : Int32 := match toR w 0 10 with
  | none => -2
  | some w => match toR q 0 11 with
    | none => -3
    | some q => match toR part 0 2 with
      | none => -3
      | some part => nI ((if part = 0 then hOdds N w 10 nb - hOdds N w q nb else hOdds N w 10 nb) / Nat.gcd (hOdds N w 10 nb - hOdds N w q nb) (hOdds N w 10 nb))
abbrev HSe : Type := List (Nat × Nat × Option Nat)
def sSeen (L : HSe) (p i w : Int32) : Int32 × HSe := match toR p 0 4 with
  | none => (-2, L)
  | some p => match toB w 10 with
    | none => (-2, L)
    | some w => match toR i 0 10 with
      | none => (-3, L)
      | some i => if L.length = 6 then (-5, L) else (nI (L.length + 1), L ++ [(p, i, w)])
def HSeOk (L : HSe) : Prop := L.length ≤ 6 ∧ ∀ (k : Nat) (x : Nat × Nat × Option Nat), L[k]? = some x → x.1 < 4 ∧ x.2.1 < 10 ∧ ∀ v, x.2.2 = some v → v < 10
def TSe (sp sl sq iv : Nat → Int32) (L : HSe) : Prop := iv 5 = nI L.length ∧ HSeOk L ∧ ∀ (k : Nat) (x : Nat × Nat × Option Nat), L[k]? = some x → sp k = nI x.1 ∧ sl k = nI x.2.1 ∧ sq k = oI x.2.2
def hIsSo (kd : Nat → Nat) (nb nm : Nat) (N : HS) (L : HSe) : Nat → Bool
  | 0 => true
  | k + 1 => hIsSo kd nb nm N L k && match L[k]? with
    | none => true
    | some x => decide (((hPass kd nb nm N).2 x.1)[x.2.1]? = x.2.2)
def hKinds (kd : Nat → Nat) (nb nm : Nat) (N : HS) (L : HSe) (b : Nat) : Nat → Nat
  | 0 => 0
  | k + 1 => hKinds kd nb nm N L b k ||| (if hIsSo (fUp kd b k) nb nm N L L.length = true then 2 ^ k else 0)
theorem hKinds_lt (kd : Nat → Nat) (nb nm : Nat) (N : HS) (L : HSe) (b : Nat) : ∀ k, hKinds kd nb nm N L b k < 2 ^ k
  | 0 => by show (0 : Nat) < 1; omega
  | n + 1 => by
    have h1 := hKinds_lt kd nb nm N L b n
    have h2 : 2 ^ n < 2 ^ (n + 1) := Nat.pow_lt_pow_right (by decide) (by omega)
    exact Nat.or_lt_two_pow (by omega) (by split <;> omega)
def sKinds (nb nm : Nat) (kd : Nat → Nat) (N : HS) (L : HSe) (b : Int32) : Int32 := match toR b 0 nb with
  | none => -2
  | some b => nI (hKinds kd nb nm N L b 5)
def hMenWords (N : HS) : Nat → Nat
  | 0 => 0
  | m + 1 => hMenWords N m + hBits (N.2.2.1 m) 10
theorem hMenWords_le (N : HS) : ∀ m, hMenWords N m ≤ 10 * m
  | 0 => Nat.le_refl _
  | m + 1 => by have := hMenWords_le N m; have := hBits_le (N.2.2.1 m) 10; unfold hMenWords; omega
def hAllWell (N : HS) : Nat → Nat
  | 0 => 0
  | b + 1 => hAllWell N b ||| hWell (N.1 b) 10
theorem hAllWell_lt (N : HS) : ∀ b, hAllWell N b < 1024
  | 0 => by show (0 : Nat) < 1024; omega
  | b + 1 => Nat.or_lt_two_pow (n := 10) (hAllWell_lt N b) (hWell_lt _ 10)
/-- a reel: its sort, how long it is, what is there -/
abbrev HR : Type := Nat → Option (Nat × Nat × (Nat → Int32))
def hReels (R : HR) : Nat → Nat
  | 0 => 0
  | r + 1 => hReels R r + (if R r = none then 0 else 1)
theorem hReels_le (R : HR) : ∀ r, hReels R r ≤ r
  | 0 => Nat.le_refl _
  | r + 1 => by have := hReels_le R r; unfold hReels; split <;> omega
def TRl (rz rs rp : Nat → Int32) (R : HR) : Prop := ∀ r, r < 3 → (R r = none ∧ rz r = -1) ∨ ∃ s n f, R r = some (s, n, f) ∧ s < 4 ∧ n ≤ 12 ∧ rz r = nI n ∧ rs r = nI s ∧ ∀ i, i < n → rp (12 * r + i) = f i
def sCount (nb nm : Nat) (N : HS) (seen : Nat) (R : HR) (undo text : Nat) (w : Int32) : Int32 :=
  if w = 0 then nI nb else if w = 1 then nI nm else if w = 2 then nI N.2.2.2.2.2 else if w = 3 then nI N.2.2.2.2.1 else if w = 4 then nI (hMenWords N nm) else if w = 5 then nI seen else if w = 6 then nI (hReels R 3) else if w = 7 then nI undo else if w = 8 then nI text else if w = 9 then nI (hAllWell N nb) else -3
def sWrite (L : List Nat) (c : Int32) : Int32 × List Nat := match toR c 0 256 with
  | none => (-3, L)
  | some c => if L.length = 200 then (-5, L) else (nI (L.length + 1), L ++ [c])
def TTx (tx iv : Nat → Int32) (L : List Nat) : Prop := iv 4 = nI L.length ∧ L.length ≤ 200 ∧ ∀ k c, L[k]? = some c → tx k = nI c ∧ c < 256
theorem hWell_bit (k : Nat → Nat) : ∀ n w, w < n → (hWell k n).testBit w = decide (4 < k w)
  | n + 1, w, hw => by
    unfold hWell
    rw [Nat.testBit_or]
    rcases Nat.eq_or_lt_of_le (Nat.le_of_lt_succ hw) with c | c
    · subst c
      rw [Nat.testBit_lt_two_pow (hWell_lt k w), Bool.false_or]
      by_cases h : 4 < k w
      · rw [if_pos h, Nat.testBit_two_pow_self]; simp [h]
      · rw [if_neg h, Nat.zero_testBit]; simp [h]
    · rw [hWell_bit k n w c]
      by_cases h : 4 < k n
      · rw [if_pos h, Nat.testBit_two_pow_of_ne (by omega), Bool.or_false]
      · rw [if_neg h, Nat.zero_testBit, Bool.or_false]
/-- what is said is words -/
theorem hTalk_word {kd : Nat → Nat} {nb p b : Nat} : ∀ (n : Nat) (S : HS) (told : Nat) (L : List Nat), (∀ v ∈ L, v < 10) → ∀ v ∈ (hTalk kd nb p b n S told L).2, v < 10
  | 0, S, told, L, h => h
  | n + 1, S, told, L, h => by
    unfold hTalk
    cases hB : hBest (S.1 b) told 10 with
    | none => exact h
    | some w =>
      refine hTalk_word n _ _ _ (fun v hv => ?_)
      rcases List.mem_append.mp hv with q | q
      · exact h v q
      · rw [List.mem_singleton.mp q]; exact (hBest_lt hB).1
theorem hSpk_word {kd : Nat → Nat} {nb p : Nat} {S : HS} : ∀ b, ∀ v ∈ (hSpk kd nb p S b).2, v < 10
  | 0, v, h => by cases h
  | b + 1, v, h => by
    have ih := hSpk_word (kd := kd) (nb := nb) (p := p) (S := S) b
    unfold hSpk at h
    dsimp only at h
    split at h
    · exact hTalk_word _ _ _ _ ih v h
    · exact ih v h
theorem hPers_word {kd : Nat → Nat} {nb : Nat} {S : HS} : ∀ p q, ∀ v ∈ (hPers kd nb S p).2 q, v < 10
  | 0, q, v, h => by cases h
  | p + 1, q, v, h => by
    unfold hPers at h
    dsimp only at h
    unfold fUp at h
    split at h
    · unfold hPer at h
      split at h
      · cases h
      · exact hSpk_word _ v h
    · exact hPers_word p q v h
theorem hPass_word {kd : Nat → Nat} {nb nm p i v : Nat} {S : HS} (h : ((hPass kd nb nm S).2 p)[i]? = some v) : v < 2147483648 := by
  have h1 : v ∈ (hPass kd nb nm S).2 p := List.mem_of_getElem? h
  have := hPers_word 4 p v h1
  omega
