/-! THE BOOK, 1: an evening, in numbers. A state: (K, P, H, Y, C, E): how well each bird knows each word, perches, what men have (bits), who is by them, who is covered (bits), the evening -/
abbrev HS : Type := (Nat → Nat → Nat) × (Nat → Nat) × (Nat → Nat) × (Nat → Option Nat) × Nat × Nat
def hHears (k : Nat) : Nat := if k = 3 then 0 else if k = 4 then 2 else 1
def hGets (k : Nat) : Nat := if k = 3 then 0 else if k = 4 then 0 else if k = 1 then 5 else 3
def hSays (k : Nat) : Nat := if k = 3 then 0 else if k = 4 then 0 else if k = 2 then 2 else 1
def hLoses (k : Nat) : Nat := if k = 0 then 1 else if k = 2 then 1 else 0
def kUp (K : Nat → Nat → Nat) (b w x : Nat) : Nat → Nat → Nat := fun b' w' => if b' = b ∧ w' = w then x else K b' w'
def fUp {α : Type} (f : Nat → α) (k : Nat) (x : α) : Nat → α := fun j => if j = k then x else f j
/-- a bird knows a word by so much more, 9 at most -/
def hGain (S : HS) (b w m : Nat) : HS := (kUp S.1 b w (if 9 < S.1 b w + m then 9 else S.1 b w + m), S.2)
/-- the least bit of a set of ten, from k on; n: how many are left to look at -/
def loFrom (s : Nat) : Nat → Nat → Nat
  | k, 0 => k
  | k, n + 1 => if s.testBit k then k else loFrom s (k + 1) n
def loBit (s : Nat) : Nat := loFrom s 0 10
/-- a man's least word goes over -/
def hInh1 (kd : Nat → Nat) (S : HS) (m : Nat) : HS :=
  match S.2.2.2.1 m with
  | none => S
  | some b => if S.2.2.2.2.1.testBit b = true ∨ hGets (kd b) = 0 ∨ S.2.2.1 m = 0 then S else
      hGain (S.1, S.2.1, fUp S.2.2.1 m (S.2.2.1 m - 2 ^ loBit (S.2.2.1 m)), S.2.2.2) b (loBit (S.2.2.1 m)) (hGets (kd b))
def hInh (kd : Nat → Nat) (S : HS) : Nat → HS
  | 0 => S
  | m + 1 => hInh1 kd (hInh kd S m) m
def hUp (S : HS) (b p : Nat) : Bool := decide (S.2.1 b = p) && !S.2.2.2.2.1.testBit b
def hSil (kd : Nat → Nat) (S : HS) (p : Nat) : Nat → Bool
  | 0 => false
  | b + 1 => hSil kd S p b || (hUp S b p && decide (kd b = 3))
/-- the best known word but some -/
def hBest (k : Nat → Nat) (but : Nat) : Nat → Option Nat
  | 0 => none
  | w + 1 => if 0 < k w ∧ but.testBit w = false ∧ (∀ v, hBest k but w = some v → k v < k w) then some w else hBest k but w
def hSay (kd : Nat → Nat) (S : HS) (p b w : Nat) : Nat → HS
  | 0 => S
  | o + 1 => let S' := hSay kd S p b w o; if o ≠ b ∧ hUp S' o p = true then hGain S' o w (hHears (kd o)) else S'
/-- one bird's words, n yet -/
def hTalk (kd : Nat → Nat) (nb p b : Nat) : Nat → HS → Nat → List Nat → HS × List Nat
  | 0, S, _, L => (S, L)
  | n + 1, S, told, L => match hBest (S.1 b) told 10 with
    | none => (S, L)
    | some w => hTalk kd nb p b n (hSay kd S p b w nb) (told ||| 2 ^ w) (L ++ [w])
def hSpk (kd : Nat → Nat) (nb p : Nat) (S : HS) : Nat → HS × List Nat
  | 0 => (S, [])
  | b + 1 => let r := hSpk kd nb p S b; if hUp r.1 b p = true then hTalk kd nb p b (hSays (kd b)) r.1 0 r.2 else r
def hPer (kd : Nat → Nat) (nb : Nat) (S : HS) (p : Nat) : HS × List Nat := if hSil kd S p nb = true then (S, []) else hSpk kd nb p S nb
def hPers (kd : Nat → Nat) (nb : Nat) (S : HS) : Nat → HS × (Nat → List Nat)
  | 0 => (S, fun _ => [])
  | p + 1 => let r := hPers kd nb S p; let q := hPer kd nb r.1 p; (q.1, fUp r.2 p q.2)
/-- k goes over all birds' words -/
def hLose1 (kd : Nat → Nat) (S : HS) (b w : Nat) : HS := if S.2.2.2.2.1.testBit b = false ∧ 0 < S.1 b w ∧ S.1 b w < 5 then (kUp S.1 b w (S.1 b w - hLoses (kd b)), S.2) else S
def hLose (kd : Nat → Nat) (S : HS) : Nat → HS
  | 0 => S
  | k + 1 => hLose1 kd (hLose kd S k) (k / 10) (k % 10)
def hPass (kd : Nat → Nat) (nb nm : Nat) (S : HS) : HS × (Nat → List Nat) :=
  let r := hPers kd nb (hInh kd S nm) 4
  let S3 := if S.2.2.2.2.2 % 3 = 2 then hLose kd r.1 (10 * nb) else r.1
  ((S3.1, S3.2.1, S3.2.2.1, S3.2.2.2.1, S3.2.2.2.2.1, S.2.2.2.2.2 + 1), r.2)
def hGo (kd : Nat → Nat) (nb nm : Nat) (S : HS) : Nat → HS
  | 0 => S
  | n + 1 => (hPass kd nb nm (hGo kd nb nm S n)).1
/-- what always holds -/
def HOk (nb nm : Nat) (kd : Nat → Nat) (S : HS) : Prop :=
  nb ≤ 8 ∧ nm ≤ 4 ∧ (∀ b, b < nb → kd b ≤ 4) ∧ (∀ b w, b < nb → w < 10 → S.1 b w ≤ 9) ∧ (∀ b, b < nb → S.2.1 b ≤ 3) ∧ (∀ m, m < nm → S.2.2.1 m < 1024) ∧ (∀ m b, m < nm → S.2.2.2.1 m = some b → b < nb) ∧ (∀ m m' b, m < nm → m' < nm → S.2.2.2.1 m = some b → S.2.2.2.1 m' = some b → m = m') ∧ S.2.2.2.2.1 < 2 ^ nb ∧ S.2.2.2.2.2 < 100000
