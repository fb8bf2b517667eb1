/-! MY LAYER, 13: super.m(..) that comes to an interface's own method; calls by an interface -/
theorem xpig : ∀ (m n : Nat) (f : Nat → Nat), (∀ i, i < n → f i < m) → (∀ i j, i < n → j < n → f i = f j → i = j) → n ≤ m
  | 0, n, f, h, _ => by
    cases n with
    | zero => exact Nat.le_refl _
    | succ n => exact absurd (h 0 (by omega)) (Nat.not_lt_zero _)
  | m + 1, 0, f, _, _ => Nat.zero_le _
  | m + 1, n + 1, f, h, hj => by
    have ih := xpig m n (fun i => if f i = m then f n else f i) (fun i hi => by
      by_cases c : f i = m
      · rw [if_pos c]
        have h1 := h n (by omega)
        have h2 : f n ≠ m := fun e => by have := hj i n (by omega) (by omega) (c.trans e.symm); omega
        omega
      · rw [if_neg c]; have := h i (by omega); omega) (fun i j hi hj2 e => by
      by_cases c : f i = m
      · by_cases c2 : f j = m
        · exact hj i j (by omega) (by omega) (c.trans c2.symm)
        · rw [if_pos c, if_neg c2] at e
          have := hj n j (by omega) (by omega) e; omega
      · by_cases c2 : f j = m
        · rw [if_neg c, if_pos c2] at e
          have := hj i n (by omega) (by omega) e; omega
        · rw [if_neg c, if_neg c2] at e
          exact hj i j (by omega) (by omega) e)
    omega
def xch (vm : Vm) (c : ClassId) : Nat → Option ClassId
  | 0 => some c
  | i + 1 => (xch vm c i).bind fun x => vm.classes[x]?.bind (·.super)
theorem xch_shift {vm : Vm} {c p : ClassId} (h : vm.classes[c]?.bind (·.super) = some p) : ∀ i, xch vm c (i + 1) = xch vm p i
  | 0 => h
  | i + 1 => by
    show (xch vm c (i + 1)).bind _ = (xch vm p i).bind _
    rw [xch_shift h i]
theorem xch_end {vm : Vm} {c : ClassId} (h : vm.classes[c]?.bind (·.super) = none) : ∀ i, xch vm c (i + 1) = none
  | 0 => h
  | i + 1 => by
    show (xch vm c (i + 1)).bind _ = none
    rw [xch_end h i]; rfl
theorem xch_same {vm : Vm} {c : ClassId} {i j : Nat} (h : xch vm c i = xch vm c j) : ∀ k, xch vm c (i + k) = xch vm c (j + k)
  | 0 => h
  | k + 1 => by
    show (xch vm c (i + k)).bind _ = (xch vm c (j + k)).bind _
    rw [xch_same h k]
theorem xch_pre {vm : Vm} {c : ClassId} : ∀ (i : Nat) {x : ClassId}, xch vm c (i + 1) = some x → ∃ y, xch vm c i = some y ∧ vm.classes[y]?.bind (·.super) = some x
  | i, x, h => by
    have h : (xch vm c i).bind (fun x => vm.classes[x]?.bind (·.super)) = some x := h
    cases e : xch vm c i with
    | none => rw [e] at h; cases h
    | some y => rw [e] at h; exact ⟨y, rfl, h⟩
theorem xch_all {vm : Vm} {c : ClassId} : ∀ (n : Nat) {x : ClassId}, xch vm c n = some x → ∀ i, i ≤ n → ∃ y, xch vm c i = some y
  | 0, x, h, i, hi => by obtain rfl : i = 0 := by omega
                         exact ⟨x, h⟩
  | n + 1, x, h, i, hi => by
    rcases Nat.eq_or_lt_of_le hi with e | e
    · subst e; exact ⟨x, h⟩
    · obtain ⟨y, hy, -⟩ := xch_pre n h
      exact xch_all n hy i (by omega)
theorem xch_own {vm : Vm} {name desc : String} : ∀ (n : Nat) (c : ClassId), lookupInSuperclasses vm name desc n c = none → ∀ i, i < n → ∀ x, xch vm c i = some x → vm.classes[x]?.bind (·.findMethod name desc) = none
  | 0, c, _, i, hi, _, _ => absurd hi (Nat.not_lt_zero _)
  | n + 1, c, h, i, hi, x, hx => by
    unfold lookupInSuperclasses at h
    cases hk : vm.classes[c]? with
    | none =>
      cases i with
      | zero => cases hx; rw [hk]; rfl
      | succ i => rw [xch_end (by rw [hk]; rfl) i] at hx; cases hx
    | some k =>
      simp only [hk, Option.bind_eq_bind, Option.bind_some] at h
      cases hf : k.findMethod name desc with
      | some j => rw [hf] at h; cases h
      | none =>
        rw [hf] at h
        cases i with
        | zero => cases hx; rw [hk]; exact hf
        | succ i =>
          cases hs : k.super with
          | none => rw [xch_end (by rw [hk]; exact hs) i] at hx; cases hx
          | some p =>
            rw [xch_shift (by rw [hk]; exact hs) i] at hx
            rw [hs] at h
            exact xch_own n p h i (by omega) x hx
theorem xch_aux {vm : Vm} : ∀ (n : Nat) (c x : ClassId), x ∈ vm.superclassesAux n c → ∃ i, i < n ∧ xch vm c (i + 1) = some x
  | 0, c, x, h => by simp [Vm.superclassesAux] at h
  | n + 1, c, x, h => by
    unfold Vm.superclassesAux at h
    cases hs : vm.classes[c]?.bind (·.super) with
    | none => rw [hs] at h; cases h
    | some p =>
      rw [hs] at h
      rcases List.mem_cons.mp h with e | e
      · subst e; exact ⟨0, by omega, hs⟩
      · obtain ⟨i, hi, hx⟩ := xch_aux n p x e
        exact ⟨i + 1, by omega, by rw [xch_shift hs]; exact hx⟩
theorem xno_super {vm : Vm} {name desc : String} {c : ClassId} (h : lookupInSuperclasses vm name desc (vm.classes.size + 1) c = none) : superclassMethods vm c name desc = [] := by
  have h0 := xch_own _ c h
  unfold superclassMethods
  rw [List.filterMap_eq_nil_iff]
  intro x hx
  rw [Option.map_eq_none_iff]
  obtain ⟨i, hi, hx⟩ := xch_aux _ c x hx
  rcases Nat.lt_or_ge (i + 1) (vm.classes.size + 1) with c1 | c1
  · exact h0 (i + 1) c1 x hx
  · have hi2 : i = vm.classes.size := by omega
    subst hi2
    cases ho : vm.classes[x]?.bind (·.findMethod name desc) with
    | none => rfl
    | some j =>
      exfalso
      have hex := xch_all _ hx
      have hcl : ∀ k, k ≤ vm.classes.size + 1 → ∀ y, xch vm c k = some y → y < vm.classes.size := by
        intro k hk y hy
        rcases Nat.eq_or_lt_of_le hk with e | e
        · subst e
          cases hx.symm.trans hy
          cases q : vm.classes[x]? with
          | none => rw [q] at ho; cases ho
          | some z => exact (Array.getElem?_eq_some_iff.mp q).1
        · obtain ⟨z, hz⟩ := hex (k + 1) (by omega)
          obtain ⟨y2, hy2, hs⟩ := xch_pre k hz
          cases hy2.symm.trans hy
          cases q : vm.classes[y]? with
          | none => rw [q] at hs; cases hs
          | some z => exact (Array.getElem?_eq_some_iff.mp q).1
      have key := xpig vm.classes.size (vm.classes.size + 2) (fun k => (xch vm c k).getD 0) (fun k hk => by
        obtain ⟨y, hy⟩ := hex k (by omega)
        show (xch vm c k).getD 0 < _
        rw [hy]
        exact hcl k (by omega) y hy) (fun a b ha hb e => by
        obtain ⟨y, hy⟩ := hex a (by omega)
        obtain ⟨z, hz⟩ := hex b (by omega)
        have e2 : xch vm c a = xch vm c b := by
          have e : (xch vm c a).getD 0 = (xch vm c b).getD 0 := e
          rw [hy, hz] at e ⊢
          exact congrArg some e
        have no : ∀ a b, a < b → b ≤ vm.classes.size + 1 → xch vm c a = xch vm c b → False := by
          intro a b hab hb e
          have := xch_same e (vm.classes.size + 1 - b)
          rw [show b + (vm.classes.size + 1 - b) = vm.classes.size + 1 by omega, hx] at this
          have := h0 (a + (vm.classes.size + 1 - b)) (by omega) x this
          rw [ho] at this; cases this
        rcases Nat.lt_trichotomy a b with q | q | q
        · exact (no a b q (by omega) e2).elim
        · exact q
        · exact (no b a q (by omega) e2.symm).elim)
      omega
theorem xlookupD {vm : Vm} {c : ClassId} {k mk : Class} {name desc : String} {m : MethodId} {meth : Method} (hk : vm.classes[c]? = some k) (hni : k.isInterface = false) (hup : vm.lookupUp c name desc = some m) (hm : vm.method? m = some meth) (hname : meth.name = name) (hdesc : meth.desc = desc) (hst : meth.isStatic = false) (hsel : selectMethod {} vm c m = .method m) (hmk : vm.classes[m.cls]? = some mk) (hi : mk.isInterface = true) : lookupSpecial vm c name desc = .method m := by
  cases hL : lookupInSuperclasses vm name desc (vm.classes.size + 1) c with
  | some x => exact lookupSpecial_of_lookupUp hk hni hup (by rw [hL]; rfl) hm hst
  | none =>
    have hown := xch_own _ c hL 0 (by omega) c rfl
    have habv := xno_super hL
    have h2 : lookupInSuperinterfaces vm c name desc = some m := by
      unfold Vm.lookupUp at hup
      rw [hL] at hup
      simpa using hup
    have hnosel : ∀ n c', lookupInSuperclasses vm name desc n c' = none → selectInSuperclasses vm m name desc n c' = none := by
      intro n
      induction n with
      | zero => intro c' _; rfl
      | succ n ih =>
        intro c' h
        unfold lookupInSuperclasses at h
        unfold selectInSuperclasses
        cases hk' : vm.classes[c']? with
        | none => rfl
        | some k' =>
          simp only [hk', Option.bind_eq_bind, Option.bind_some] at h ⊢
          cases hf : k'.findMethod name desc with
          | some j => rw [hf] at h; cases h
          | none =>
            rw [hf] at h
            cases hs : k'.super with
            | none => rfl
            | some q =>
              rw [hs] at h
              exact ih q h
    have hdef : (maximallySpecific vm c name desc).filter (fun m => (vm.method? m).any (!·.isAbstract)) = [m] := by
      unfold lookupInSuperinterfaces at h2
      split at h2
      · rename_i z hz
        cases h2
        exact hz
      · rename_i hz
        exfalso
        have hpriv : meth.isPrivate = false := by
          obtain ⟨i, -, hf⟩ := List.exists_of_findSome?_eq_some h2
          have hmem := List.mem_of_find?_eq_some hf
          unfold superinterfaceMethods at hmem
          obtain ⟨j, -, hj⟩ := List.mem_filterMap.mp hmem
          simp only [Option.bind_eq_bind, Option.bind_eq_some_iff] at hj
          obtain ⟨a1, -, a2, -, m9, hm9, hif⟩ := hj
          split at hif
          · cases hif
          · rename_i hno
            cases hif
            cases hm.symm.trans hm9
            simpa using (by simpa using hno : _ ∧ _).1
        unfold selectMethod at hsel
        rw [hm] at hsel
        dsimp only at hsel
        rw [hpriv, hname, hdesc, hnosel _ c hL] at hsel
        simp only [Bool.false_eq_true, if_false, hmk, Option.any_some, hi, Bool.not_true, Bool.and_false] at hsel
        split at hsel
        · cases hsel
        · split at hsel
          · rename_i z hz9
            exact hz z hz9
          · cases hsel
          · cases hsel
    unfold lookupSpecial
    dsimp only
    rw [hown, habv]
    simp only [Option.map_none, Option.toList_none, List.filter_nil, List.append_nil, List.find?_nil]
    rw [hdef]
