/-! THE BOOK, 11: a tongue's text; sets of places -/
def gA (T : List Nat) (a : Nat) : List Nat := 40 :: (T.take a).filter (fun c => decide (c ≠ 32))
def gTongue (T : List Nat) : List Nat := gA T T.length ++ [41]
def gMany (T : List Nat) (a : Nat) : Nat := ((T.take a).filter isW).length
def sTongue (T : List Nat) : Int32 × Option (List Nat) := match hTgF T with
  | some _ => (-4, none)
  | none => (nI (gMany T T.length), some (gTongue T))
theorem lay_app (A B : List Nat) : ∀ k, k ≤ A.length → lay (A ++ B) k = lay A k
  | 0, _ => rfl
  | k + 1, h => by
    show lyStep (A ++ B) (lay (A ++ B) k) k = lyStep A (lay A k) k
    rw [lay_app A B k (by omega)]
    have : (A ++ B).getD k 0 = A.getD k 0 := by
      rw [List.getD_eq_getElem?_getD, List.getD_eq_getElem?_getD, List.getElem?_append_left (by omega)]
    unfold lyStep
    rw [this]
theorem gA_len (T : List Nat) (a : Nat) : (gA T a).length ≤ (T.take a).length + 1 := by
  unfold gA
  have := List.length_filter_le (fun c => decide (c ≠ 32)) (T.take a)
  simp only [List.length_cons]; omega
theorem take_s {T : List Nat} {a c : Nat} (h : T[a]? = some c) : T.take (a + 1) = T.take a ++ [c] := by rw [List.take_add_one, h]; rfl
theorem gA_s {T : List Nat} {a c : Nat} (h : T[a]? = some c) : gA T (a + 1) = if c = 32 then gA T a else gA T a ++ [c] := by
  unfold gA
  rw [take_s h, List.filter_append]
  by_cases e : c = 32
  · rw [if_pos e]; simp [e]
  · rw [if_neg e]; simp [e]
/-- a prefix in which letters stand as they may -/
def LyC (A : List Nat) (deep : Nat) : Prop := (∀ c ∈ A, c < 256) ∧ (lay A A.length).1.length = deep + 1 ∧ 0 < A.length ∧ ∀ k, k < A.length → (A.getD k 0 = 40 → (lay A k).1.length ≤ 6) ∧ (A.getD k 0 = 41 → (lay A k).1 ≠ []) ∧ (A.getD k 0 = 124 → (lay A k).1 ≠ []) ∧ (A.getD k 0 = 42 → 0 < k)
theorem getD_last (A : List Nat) (c : Nat) : (A ++ [c]).getD A.length 0 = c := by
  rw [List.getD_eq_getElem?_getD, List.getElem?_append_right (Nat.le_refl _), Nat.sub_self]; rfl
theorem LyC.all {A : List Nat} {deep c : Nat} (h : LyC A deep) (hc : c < 256) (h40 : c = 40 → deep < 6) : (∀ x ∈ A ++ [c], x < 256) ∧ ∀ k, k < (A ++ [c]).length → ((A ++ [c]).getD k 0 = 40 → (lay (A ++ [c]) k).1.length ≤ 6) ∧ ((A ++ [c]).getD k 0 = 41 → (lay (A ++ [c]) k).1 ≠ []) ∧ ((A ++ [c]).getD k 0 = 124 → (lay (A ++ [c]) k).1 ≠ []) ∧ ((A ++ [c]).getD k 0 = 42 → 0 < k) := by
  obtain ⟨h1, h2, h3, h4⟩ := h
  refine ⟨fun x hx => ?_, fun k hk => ?_⟩
  · rcases List.mem_append.mp hx with q | q
    · exact h1 x q
    · rw [List.mem_singleton.mp q]; exact hc
  · rw [List.length_append, List.length_singleton] at hk
    rw [lay_app A [c] k (by omega)]
    rcases Nat.eq_or_lt_of_le (Nat.le_of_lt_succ hk) with q | q
    · subst q
      rw [getD_last]
      have hne : (lay A A.length).1 ≠ [] := by intro e; rw [e] at h2; cases h2
      exact ⟨fun e => by rw [h2]; have := h40 e; omega, fun _ => hne, fun _ => hne, fun _ => h3⟩
    · rw [List.getD_eq_getElem?_getD, List.getElem?_append_left q, ← List.getD_eq_getElem?_getD]
      exact h4 k q
theorem LyC.one {A : List Nat} {deep c : Nat} (h : LyC A deep) (hc : c < 256) (h40 : c = 40 → deep < 6) (h41 : c = 41 → 0 < deep) : LyC (A ++ [c]) (tgDeep c deep) := by
  have ha := h.all hc h40
  obtain ⟨h1, h2, h3, h4⟩ := h
  refine ⟨ha.1, ?_, by simp, ha.2⟩
  rw [List.length_append, List.length_singleton]
  show (lyStep (A ++ [c]) (lay (A ++ [c]) A.length) A.length).1.length = _
  rw [lay_app A [c] A.length (Nat.le_refl _)]
  unfold lyStep
  rw [getD_last]
  dsimp only
  unfold tgDeep
  by_cases c1 : c = 40
  · rw [if_pos c1, if_pos c1]; simp [h2]
  rw [if_neg c1, if_neg c1]
  by_cases c2 : c = 41
  · rw [if_pos c2, if_pos c2, List.length_tail, h2]; have := h41 c2; omega
  rw [if_neg c2, if_neg c2]
  by_cases c3 : c = 124
  · rw [if_pos c3]; exact h2
  rw [if_neg c3]
  by_cases c4 : c = 42
  · rw [if_pos c4]; exact h2
  rw [if_neg c4]; exact h2
theorem tg_lay {T : List Nat} (hT : ∀ c ∈ T, c < 256) : ∀ (n a : Nat) (needs star : Bool) (deep : Nat), a + n = T.length → LyC (gA T a) deep → tgFault T n a needs star deep = none → LyC (gA T T.length) 0
  | 0, a, needs, star, deep, ha, h, hf => by
    unfold tgFault at hf
    split at hf
    · cases hf
    · rename_i c
      obtain rfl : a = T.length := by omega
      obtain rfl : deep = 0 := by
        rcases Nat.eq_zero_or_pos deep with q | q
        · exact q
        · exact absurd (Or.inr q) c
      exact h
  | n + 1, a, needs, star, deep, ha, h, hf => by
    have hx : T[a]? = some (T[a]'(by omega)) := List.getElem?_eq_getElem (by omega)
    have hm : T[a]'(by omega) < 256 := hT _ (List.getElem_mem _)
    generalize (T[a]'(by omega)) = c at *
    unfold tgFault at hf
    rw [hx] at hf
    dsimp only at hf
    have hs := gA_s hx
    by_cases c1 : c = 32
    · rw [if_pos c1] at hf hs
      exact tg_lay hT n (a + 1) needs star deep (by omega) (by rw [hs]; exact h) hf
    · rw [if_neg c1] at hf hs
      split at hf
      · rename_i hmay
        refine tg_lay hT n (a + 1) _ _ _ (by omega) ?_ hf
        rw [hs]
        refine h.one hm (fun e => ?_) (fun e => ?_)
        · subst e; simp [tgMay, isW] at hmay; omega
        · subst e; simp [tgMay, isW] at hmay; exact hmay.2
      · cases hf
theorem tongue_ok {T : List Nat} (hT : ∀ c ∈ T, c < 256) (hl : T.length ≤ 200) (hf : hTgF T = none) : LyOk (gTongue T) ∧ (lay (gTongue T) (gTongue T).length).1 = [] := by
  have h0 : LyC (gA T 0) 0 := by
    refine ⟨fun c hc => ?_, rfl, by show 0 < 1; omega, fun k hk => ?_⟩
    · have : c = 40 := by simpa [gA] using hc
      omega
    · have : k = 0 := by have : (gA T 0).length = 1 := by simp [gA]
                         omega
      subst this
      exact ⟨fun _ => by show (0 : Nat) ≤ 6; omega, fun e => by simp [gA] at e, fun e => by simp [gA] at e, fun e => by simp [gA] at e⟩
  have h1 := tg_lay hT T.length 0 true false 0 (by omega) h0 hf
  have ha := h1.all (c := 41) (by omega) (fun e => by omega)
  have hlen := gA_len T T.length
  rw [List.length_take, Nat.min_self] at hlen
  refine ⟨⟨by unfold gTongue; rw [List.length_append, List.length_singleton]; omega, ha.1, ha.2⟩, ?_⟩
  unfold gTongue
  rw [List.length_append, List.length_singleton]
  show (lyStep (gA T T.length ++ [41]) (lay (gA T T.length ++ [41]) (gA T T.length).length) (gA T T.length).length).1 = []
  rw [lay_app _ _ _ (Nat.le_refl _)]
  unfold lyStep
  rw [getD_last]
  show (lay (gA T T.length) (gA T T.length).length).1.tail = []
  have h2 := h1.2.1
  cases e : (lay (gA T T.length) (gA T T.length).length).1 with
  | nil => rfl
  | cons x r => rw [e] at h2; simp at h2; rw [h2]; rfl
noncomputable def gT (G : List Nat) (s : Nat → Bool) : Nat → Bool := fun k => @decide (∀ u : Nat → Bool, (∀ k, s k = true → u k = true) → gCl G u → u k = true) (Classical.propDecidable _)
theorem gT_eq {G : List Nat} {s t : Nat → Bool} (h : gAll G s t) : t = gT G s := by
  funext k
  obtain ⟨h1, h2, h3⟩ := h
  unfold gT
  by_cases c : ∀ u : Nat → Bool, (∀ k, s k = true → u k = true) → gCl G u → u k = true
  · rw [@decide_eq_true _ (Classical.propDecidable _) c]
    exact c t h1 h2
  · rw [@decide_eq_false _ (Classical.propDecidable _) c]
    cases e : t k with
    | false => rfl
    | true => exact absurd (fun u hu hc => h3 u hu hc k e) c
def gStep (G : List Nat) (s : Nat → Bool) (w : Nat) : Nat → Bool := fun k => decide (0 < k ∧ k ≤ G.length) && s (k - 1) && decide (G.getD (k - 1) 0 = 46 ∨ G.getD (k - 1) 0 = 97 + w)
noncomputable def gSet (G : List Nat) (L : List Nat) : Nat → (Nat → Bool)
  | 0 => gT G (fun k => decide (k = 0))
  | i + 1 => gT G (gStep G (gSet G L i) (L.getD i 0))
noncomputable def gLong (G : List Nat) (L : List Nat) : Nat → Option Nat
  | 0 => if gSet G L 0 G.length = true then some 0 else none
  | i + 1 => if gSet G L (i + 1) G.length = true then some (i + 1) else gLong G L i
theorem gLong_le {G L : List Nat} : ∀ {n v : Nat}, gLong G L n = some v → v ≤ n
  | 0, v, h => by
    unfold gLong at h
    split at h
    · cases h; exact Nat.le_refl _
    · cases h
  | n + 1, v, h => by
    unfold gLong at h
    split at h
    · cases h; exact Nat.le_refl _
    · have := gLong_le h; omega
noncomputable def sOf (nb nm : Nat) (kd : Nat → Nat) (N : HS) (G : Option (List Nat)) (p w : Int32) : Int32 := match toR p 0 4 with
  | none => -2
  | some p => match toR w 0 2 with
    | none => -3
    | some w => match G with
      | none => -4
      | some G => if w = 1 then oI (gLong G ((hPass kd nb nm N).2 p) ((hPass kd nb nm N).2 p).length) else if gLong G ((hPass kd nb nm N).2 p) ((hPass kd nb nm N).2 p).length = some ((hPass kd nb nm N).2 p).length then 1 else 0
def ZRep (zn : Nat → Int32) (s : Nat → Bool) : Prop := ∀ k, k < 203 → zn k = bI (s k)
theorem ZRep.set {zn : Nat → Int32} {s : Nat → Bool} (h : ZRep zn s) (k : Nat) {v : Int32} (b : Bool) (hv : v = bI b) : ZRep (upd zn k v) (fUp s k b) := fun j hj => by
  unfold fUp
  by_cases q : j = k
  · rw [q, pk_us, if_pos rfl, hv]
  · rw [pk_un q, if_neg q]; exact h j hj
/-- some places more -/
def GO (G : List Nat) (k : Nat) (s s' : Nat → Bool) (b : Bool) : Prop := (∀ j, s j = true → s' j = true) ∧ (∀ j, s' j = true → s j = true ∨ gEps G k j) ∧ (b = false → ∀ j, s' j = s j) ∧ (b = true → ∃ j, j < 203 ∧ s j = false ∧ s' j = true)
theorem GO.mark {G : List Nat} {k : Nat} {s s' : Nat → Bool} {b : Bool} (h : GO G k s s' b) {j : Nat} (hj : j < 203) (he : gEps G k j) : GO G k s (fUp s' j true) (!s' j || b) := by
  obtain ⟨h1, h2, h3, h4⟩ := h
  refine ⟨fun i hi => ?_, fun i hi => ?_, fun e i => ?_, fun e => ?_⟩
  · unfold fUp; split
    · rfl
    · exact h1 i hi
  · unfold fUp at hi; split at hi
    · rename_i c; subst c; exact Or.inr he
    · exact h2 i hi
  · rw [Bool.or_eq_false_iff, Bool.not_eq_false'] at e
    unfold fUp; split
    · rename_i c; subst c; rw [← h3 e.2 i]; exact e.1.symm
    · exact h3 e.2 i
  · rw [Bool.or_eq_true, Bool.not_eq_true'] at e
    rcases e with e | e
    · refine ⟨j, hj, ?_, by unfold fUp; rw [if_pos rfl]⟩
      cases c : s j with
      | false => rfl
      | true => rw [h1 j c] at e; cases e
    · obtain ⟨i, i1, i2, i3⟩ := h4 e
      refine ⟨i, i1, i2, ?_⟩
      unfold fUp; split
      · rfl
      · exact i3
theorem GO.rf {G : List Nat} {k : Nat} {s : Nat → Bool} : GO G k s s false := ⟨fun _ h => h, fun _ h => Or.inl h, fun _ _ => rfl, fun h => by cases h⟩
def cnt (s : Nat → Bool) : Nat → Nat
  | 0 => 0
  | n + 1 => cnt s n + (if s n = true then 1 else 0)
theorem cnt_le (s : Nat → Bool) : ∀ n, cnt s n ≤ n
  | 0 => Nat.le_refl _
  | n + 1 => by have := cnt_le s n; unfold cnt; split <;> omega
theorem cnt_mono {s t : Nat → Bool} (h : ∀ j, s j = true → t j = true) : ∀ n, cnt s n ≤ cnt t n
  | 0 => Nat.le_refl _
  | n + 1 => by
    have := cnt_mono h n
    unfold cnt
    by_cases c : s n = true
    · rw [if_pos c, if_pos (h n c)]; omega
    · rw [if_neg c]; omega
theorem cnt_lt {s t : Nat → Bool} (h : ∀ j, s j = true → t j = true) {i : Nat} (h1 : s i = false) (h2 : t i = true) : ∀ n, i < n → cnt s n < cnt t n
  | n + 1, hn => by
    have hm := cnt_mono h n
    unfold cnt
    rcases Nat.eq_or_lt_of_le (Nat.le_of_lt_succ hn) with q | q
    · subst q
      rw [if_neg (by rw [h1]; simp), if_pos h2]; omega
    · have := cnt_lt h h1 h2 n q
      by_cases c : s n = true
      · rw [if_pos c, if_pos (h n c)]; omega
      · rw [if_neg c]; omega
theorem hPass_word10 {kd : Nat → Nat} {nb nm p i v : Nat} {S : HS} (h : ((hPass kd nb nm S).2 p)[i]? = some v) : v < 10 := hPers_word 4 p v (List.mem_of_getElem? h)
