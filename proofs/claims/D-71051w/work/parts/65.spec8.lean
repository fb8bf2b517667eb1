/-! THE BOOK, 9: men matched -/
def hLine (kv : Nat → Nat → Nat) (nb : Nat) : List Nat → Nat × Nat × Bool
  | [] => (0, 0, true)
  | d :: r => ((hLine kv nb r).1 + (if d < nb then kv r.length d else 0), (hLine kv nb r).2.1 ||| (if d < nb then 2 ^ d else 0), (hLine kv nb r).2.2 && !(decide (d < nb) && (hLine kv nb r).2.1.testBit d))
abbrev HMt : Type := Option Nat × List Nat
def hStp (kv : Nat → Nat → Nat) (nb : Nat) (s : HMt) (l : List Nat) : HMt := if (hLine kv nb l).2.2 = true ∧ (s.1 = none ∨ ∃ v, s.1 = some v ∧ v < (hLine kv nb l).1) then (some (hLine kv nb l).1, l) else s
def hRec (kv : Nat → Nat → Nat) (nb : Nat) : Nat → List Nat → HMt → HMt
  | 0, r, s => hStp kv nb s r
  | n + 1, r, s => (List.range (nb + 1)).foldl (fun s d => hRec kv nb n (d :: r) s) s
def hInc (nb : Nat) : List Nat → Option (List Nat)
  | [] => none
  | d :: r => if d = nb then (hInc nb r).map (fun z => 0 :: z) else some ((d + 1) :: r)
def sMatch (nb nm : Nat) (kd : Nat → Nat) (N : HS) (n man : Int32) : Int32 := match toB man nm with
  | none => -2
  | some man => match toR n 1 21 with
    | none => -3
    | some n => match man with
      | none => oI (hRec (fun m b => hKeep kd nb nm N m b n) nb nm [] (none, [])).1
      | some m => if (hRec (fun m b => hKeep kd nb nm N m b n) nb nm [] (none, [])).2.getD (nm - 1 - m) 0 = nb then -1 else nI ((hRec (fun m b => hKeep kd nb nm N m b n) nb nm [] (none, [])).2.getD (nm - 1 - m) 0)
theorem hLine_le {kv : Nat → Nat → Nat} {nb : Nat} (hk : ∀ m b, kv m b ≤ 10) (hb : nb ≤ 8) : ∀ l, (hLine kv nb l).1 ≤ 10 * l.length ∧ (hLine kv nb l).2.1 < 256
  | [] => ⟨Nat.le_refl _, by show (0 : Nat) < 256; omega⟩
  | d :: r => by
    have ih := hLine_le hk hb r
    have := hk r.length d
    unfold hLine
    refine ⟨?_, ?_⟩
    · simp only [List.length_cons]; split <;> omega
    · refine Nat.or_lt_two_pow (n := 8) ih.2 ?_
      split
      · exact Nat.pow_lt_pow_right (by decide) (by omega)
      · decide
theorem hLine_nb {kv : Nat → Nat → Nat} {nb : Nat} : ∀ l : List Nat, (∀ x ∈ l, x = nb) → (hLine kv nb l).2.2 = true
  | [], _ => rfl
  | d :: r, h => by
    unfold hLine
    have := h d List.mem_cons_self
    rw [hLine_nb r (fun x hx => h x (List.mem_cons_of_mem _ hx))]
    simp [this]
theorem hRec_some {kv : Nat → Nat → Nat} {nb : Nat} : ∀ n (r : List Nat) (s : HMt), (∀ x ∈ r, x = nb) → (hRec kv nb n r s).1 ≠ none
  | 0, r, s, h => by
    unfold hRec hStp
    split
    · simp
    · rename_i c
      intro e
      exact c ⟨hLine_nb r h, Or.inl e⟩
  | n + 1, r, s, h => by
    unfold hRec
    rw [List.range_succ, List.foldl_append]
    exact hRec_some n (nb :: r) _ (fun x hx => by rcases List.mem_cons.mp hx with e | e; exact e; exact h x e)
def LRep (ln : Nat → Int32) (nb nm : Nat) (l : List Nat) : Prop := l.length = nm ∧ (∀ x ∈ l, x ≤ nb) ∧ ∀ m, m < nm → ln m = nI (l.getD (nm - 1 - m) 0)
def BRep (bl : Nat → Int32) (nb nm : Nat) (s : HMt) : Prop := (∀ v, s.1 = some v → v ≤ 40 ∧ LRep bl nb nm s.2)
theorem getD_mem {l : List Nat} {i : Nat} (h : i < l.length) : l.getD i 0 ∈ l := by
  rw [List.getD_eq_getElem?_getD, List.getElem?_eq_getElem h]
  exact List.getElem_mem h
theorem LRep.set {ln : Nat → Int32} {nb nm d x : Nat} {A r : List Nat} (h : LRep ln nb nm (A ++ d :: r)) (hx : x ≤ nb) : LRep (upd ln r.length (nI x)) nb nm (A ++ x :: r) := by
  obtain ⟨h1, h2, h3⟩ := h
  rw [List.length_append, List.length_cons] at h1
  refine ⟨by rw [List.length_append, List.length_cons]; exact h1, fun y hy => ?_, fun m hm => ?_⟩
  · rcases List.mem_append.mp hy with q | q
    · exact h2 y (List.mem_append.mpr (Or.inl q))
    · rcases List.mem_cons.mp q with q | q
      · omega
      · exact h2 y (List.mem_append.mpr (Or.inr (List.mem_cons_of_mem _ q)))
  · rw [List.getD_eq_getElem?_getD]
    by_cases c : m = r.length
    · subst c
      rw [pk_us, show nm - 1 - r.length = A.length by omega, List.getElem?_append_right (Nat.le_refl _), Nat.sub_self]
      rfl
    · rw [pk_un c, h3 m hm, List.getD_eq_getElem?_getD]
      rcases Nat.lt_or_ge (nm - 1 - m) A.length with q | q
      · rw [List.getElem?_append_left q, List.getElem?_append_left q]
      · rw [List.getElem?_append_right q, List.getElem?_append_right q]
        obtain ⟨j, hj⟩ : ∃ j, nm - 1 - m - A.length = j + 1 := ⟨nm - 1 - m - A.length - 1, by omega⟩
        rw [hj]; rfl
theorem rep_cons (z : Nat) (r : List Nat) : List.replicate z 0 ++ 0 :: r = List.replicate (z + 1) 0 ++ r := by
  rw [List.replicate_succ', List.append_assoc]; rfl
