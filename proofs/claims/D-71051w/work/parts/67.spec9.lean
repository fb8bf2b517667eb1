/-! THE BOOK, 10: a tongue's letters; where one can be -/
/-- brackets that are open, where a part begins, where a bracket ends -/
abbrev HLy : Type := List Nat × (Nat → Nat) × (Nat → Nat)
def lyStep (G : List Nat) (s : HLy) (k : Nat) : HLy :=
  let c := G.getD k 0
  if c = 40 then (k :: s.1, fUp s.2.1 k k, s.2.2)
  else if c = 41 then (s.1.tail, fUp s.2.1 k (s.1.headD 0), fUp s.2.2 (s.1.headD 0) k)
  else if c = 124 then (s.1, fUp s.2.1 k (s.1.headD 0), s.2.2)
  else if c = 42 then (s.1, fUp s.2.1 k (s.2.1 (k - 1)), s.2.2)
  else (s.1, fUp s.2.1 k k, s.2.2)
def lay (G : List Nat) : Nat → HLy
  | 0 => ([], fun _ => 0, fun _ => 0)
  | k + 1 => lyStep G (lay G k) k
/-- what must hold of letters -/
def LyOk (G : List Nat) : Prop := G.length ≤ 202 ∧ (∀ c ∈ G, c < 256) ∧ ∀ k, k < G.length → (G.getD k 0 = 40 → (lay G k).1.length ≤ 6) ∧ (G.getD k 0 = 41 → (lay G k).1 ≠ []) ∧ (G.getD k 0 = 124 → (lay G k).1 ≠ []) ∧ (G.getD k 0 = 42 → 0 < k)
def gClosed (G : List Nat) (q : Nat) : Prop := ∃ j, j < G.length ∧ G.getD j 0 = 41 ∧ (lay G j).1.headD 0 = q
theorem lay_lt (G : List Nat) : ∀ k, (∀ x ∈ (lay G k).1, x < k) ∧ (∀ j, j < k → (lay G k).2.1 j ≤ j) ∧ ∀ j, (lay G k).2.2 j ≤ k
  | 0 => ⟨fun x hx => by simp [lay] at hx, fun j hj => absurd hj (Nat.not_lt_zero _), fun j => Nat.le_refl _⟩
  | k + 1 => by
    obtain ⟨h1, h2, h3⟩ := lay_lt G k
    have hh : (lay G k).1.headD 0 ≤ k := by
      cases e : (lay G k).1 with
      | nil => exact Nat.zero_le _
      | cons a r => have := h1 a (by rw [e]; exact List.mem_cons_self); show a ≤ k; omega
    have ht : ∀ x ∈ (lay G k).1.tail, x < k + 1 := fun x hx => Nat.lt_succ_of_lt (h1 x (List.mem_of_mem_tail hx))
    have hs : ∀ x ∈ (lay G k).1, x < k + 1 := fun x hx => Nat.lt_succ_of_lt (h1 x hx)
    have hb : ∀ v, v ≤ k → ∀ j, j < k + 1 → fUp (lay G k).2.1 k v j ≤ j := by
      intro v hv j hj
      unfold fUp
      split
      · omega
      · exact h2 j (by omega)
    have he : ∀ j, (lay G k).2.2 j ≤ k + 1 := fun j => Nat.le_succ_of_le (h3 j)
    show (∀ x ∈ (lyStep G (lay G k) k).1, x < k + 1) ∧ (∀ j, j < k + 1 → (lyStep G (lay G k) k).2.1 j ≤ j) ∧ ∀ j, (lyStep G (lay G k) k).2.2 j ≤ k + 1
    unfold lyStep
    dsimp only
    split
    · refine ⟨fun x hx => ?_, hb k (Nat.le_refl _), he⟩
      rcases List.mem_cons.mp hx with q | q
      · omega
      · exact hs x q
    · split
      · refine ⟨ht, hb _ hh, fun j => ?_⟩
        show fUp (lay G k).2.2 _ k j ≤ k + 1
        unfold fUp
        split
        · omega
        · exact he j
      · split
        · exact ⟨hs, hb _ hh, he⟩
        · split
          · refine ⟨hs, hb _ ?_, he⟩
            rcases Nat.eq_zero_or_pos k with q | q
            · subst q; exact Nat.le_refl _
            · have := h2 (k - 1) (by omega); omega
          · exact ⟨hs, hb k (Nat.le_refl _), he⟩
/-- the tongue as it is laid out in the twin -/
def TGo (lt en bg iv : Nat → Int32) (G : List Nat) : Prop := iv 9 = nI G.length ∧ LyOk G ∧ (∀ k, k < G.length → lt k = nI (G.getD k 0)) ∧ (∀ k, k < G.length → bg k = nI ((lay G G.length).2.1 k)) ∧ (∀ q, gClosed G q → en q = nI ((lay G G.length).2.2 q)) ∧ (lay G G.length).1 = []
/-- from a place on without a word -/
def gEps (G : List Nat) (k j : Nat) : Prop :=
  let c := G.getD k 0
  let B := (lay G G.length).2.1
  let E := (lay G G.length).2.2
  (c = 40 ∧ (j = k + 1 ∨ ∃ b, k < b ∧ b < E k ∧ G.getD b 0 = 124 ∧ B b = k ∧ j = b + 1))
  ∨ (c = 124 ∧ j = E (B k)) ∨ ((c = 41 ∨ c = 42) ∧ j = k + 1) ∨ (c = 42 ∧ j = B k)
  ∨ (c ≠ 124 ∧ c ≠ 41 ∧ c ≠ 42 ∧ (if c = 40 then E k else k) + 1 < G.length ∧ G.getD ((if c = 40 then E k else k) + 1) 0 = 42 ∧ j = (if c = 40 then E k else k) + 2)
def gCl (G : List Nat) (s : Nat → Bool) : Prop := ∀ k j, k < G.length → s k = true → gEps G k j → s j = true
/-- all that can be come to -/
def gAll (G : List Nat) (s t : Nat → Bool) : Prop := (∀ k, s k = true → t k = true) ∧ gCl G t ∧ ∀ u : Nat → Bool, (∀ k, s k = true → u k = true) → gCl G u → ∀ k, t k = true → u k = true
theorem lay_open (G : List Nat) (hG : LyOk G) : ∀ n, n ≤ G.length → (∀ x ∈ (lay G n).1, x < n ∧ G.getD x 0 = 40) ∧ ∀ k, k < n → G.getD k 0 = 40 → k ∈ (lay G n).1 ∨ ∃ j, j < n ∧ G.getD j 0 = 41 ∧ (lay G j).1.headD 0 = k
  | 0, _ => ⟨fun x hx => by simp [lay] at hx, fun k hk => absurd hk (Nat.not_lt_zero _)⟩
  | n + 1, hn => by
    obtain ⟨h1, h2⟩ := lay_open G hG n (by omega)
    have hk := hG.2.2 n (by omega)
    have old : ∀ k, k < n → G.getD k 0 = 40 → k ∈ (lay G n).1 ∨ ∃ j, j < n + 1 ∧ G.getD j 0 = 41 ∧ (lay G j).1.headD 0 = k := fun k hk hc => by
      rcases h2 k hk hc with q | ⟨j, q1, q2, q3⟩
      · exact Or.inl q
      · exact Or.inr ⟨j, by omega, q2, q3⟩
    show (∀ x ∈ (lyStep G (lay G n) n).1, x < n + 1 ∧ G.getD x 0 = 40) ∧ ∀ k, k < n + 1 → G.getD k 0 = 40 → k ∈ (lyStep G (lay G n) n).1 ∨ _
    have same : (∀ x ∈ (lay G n).1, x < n + 1 ∧ G.getD x 0 = 40) := fun x hx => ⟨Nat.lt_succ_of_lt (h1 x hx).1, (h1 x hx).2⟩
    have keep : G.getD n 0 ≠ 40 → ∀ k, k < n + 1 → G.getD k 0 = 40 → k ∈ (lay G n).1 ∨ ∃ j, j < n + 1 ∧ G.getD j 0 = 41 ∧ (lay G j).1.headD 0 = k := fun hc k hk2 hc2 => by
      rcases Nat.eq_or_lt_of_le (Nat.le_of_lt_succ hk2) with q | q
      · subst q; exact absurd hc2 hc
      · exact old k q hc2
    unfold lyStep
    dsimp only
    by_cases c1 : G.getD n 0 = 40
    · rw [if_pos c1]
      refine ⟨fun x hx => ?_, fun k hk2 hc2 => ?_⟩
      · rcases List.mem_cons.mp hx with q | q
        · subst q; exact ⟨Nat.lt_succ_self _, c1⟩
        · exact same x q
      · rcases Nat.eq_or_lt_of_le (Nat.le_of_lt_succ hk2) with q | q
        · subst q; exact Or.inl List.mem_cons_self
        · rcases old k q hc2 with z | z
          · exact Or.inl (List.mem_cons_of_mem _ z)
          · exact Or.inr z
    rw [if_neg c1]
    by_cases c2 : G.getD n 0 = 41
    · rw [if_pos c2]
      have hne := hk.2.1 c2
      refine ⟨fun x hx => same x (List.mem_of_mem_tail hx), fun k hk2 hc2 => ?_⟩
      rcases keep c1 k hk2 hc2 with z | z
      · obtain ⟨s, st, e⟩ := List.exists_cons_of_ne_nil hne
        rw [e] at z
        rcases List.mem_cons.mp z with q | q
        · exact Or.inr ⟨n, Nat.lt_succ_self _, c2, by rw [e, q]; rfl⟩
        · exact Or.inl (by show k ∈ (lay G n).1.tail; rw [e]; exact q)
      · exact Or.inr z
    rw [if_neg c2]
    by_cases c3 : G.getD n 0 = 124
    · rw [if_pos c3]; exact ⟨same, keep c1⟩
    rw [if_neg c3]
    by_cases c4 : G.getD n 0 = 42
    · rw [if_pos c4]; exact ⟨same, keep c1⟩
    rw [if_neg c4]; exact ⟨same, keep c1⟩
/-- a bracket that begins is closed -/
theorem lay_closed {G : List Nat} (hG : LyOk G) (hb : (lay G G.length).1 = []) {k : Nat} (hk : k < G.length) (hc : G.getD k 0 = 40) : gClosed G k := by
  rcases (lay_open G hG G.length (Nat.le_refl _)).2 k hk hc with q | q
  · rw [hb] at q; cases q
  · exact q
/-- where a bar's bracket begins -/
theorem lay_B (G : List Nat) : ∀ n k, k < n → (lay G n).2.1 k = (lay G (k + 1)).2.1 k
  | n + 1, k, hk => by
    rcases Nat.eq_or_lt_of_le (Nat.le_of_lt_succ hk) with q | q
    · subst q; rfl
    · rw [← lay_B G n k q]
      show (lyStep G (lay G n) n).2.1 k = _
      have : ∀ v, fUp (lay G n).2.1 n v k = (lay G n).2.1 k := fun v => by unfold fUp; rw [if_neg (by omega)]
      unfold lyStep
      dsimp only
      repeat' split
      all_goals exact this _
theorem lay_bar {G : List Nat} (hG : LyOk G) (hb : (lay G G.length).1 = []) {k : Nat} (hk : k < G.length) (hc : G.getD k 0 = 124) : gClosed G ((lay G G.length).2.1 k) := by
  rw [lay_B G G.length k hk]
  have hne := (hG.2.2 k hk).2.2.1 hc
  obtain ⟨s, st, e⟩ := List.exists_cons_of_ne_nil hne
  have e2 : (lay G (k + 1)).2.1 k = s := by
    show (lyStep G (lay G k) k).2.1 k = s
    unfold lyStep
    dsimp only
    rw [if_neg (by omega), if_neg (by omega), if_pos hc, e]
    show fUp _ k s k = s
    unfold fUp; rw [if_pos rfl]
  rw [e2]
  have := (lay_open G hG k (by omega)).1 s (by rw [e]; exact List.mem_cons_self)
  exact lay_closed hG hb (by omega) this.2
