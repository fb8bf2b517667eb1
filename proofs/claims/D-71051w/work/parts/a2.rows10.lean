/-! MY LAYER, 18: pieces another way; fresh rows of references, rows of rows -/
/-- a contract over more, its pieces cut another way -/
theorem XC.big {D : xG} {y : MethodName} {ws : List Cond} {fr lo mc ms : Nat} {args : List Value} {cin cin2 : List va_W} {Rl Rl2 : Option Value → List va_W → Prop} {Rx Rx2 : String → Nat → List va_W → Prop} (w : va_W) (h : XC D y ws fr lo mc ms args cin Rl Rx) (hp : (xf cin2).Perm (xf cin ++ w)) (h1 : ∀ v cs, Rl v cs → ∃ cs2, Rl2 v cs2 ∧ (xf cs2).Perm (xf cs ++ w)) (h2 : ∀ E q cs, Rx E q cs → ∃ cs2, Rx2 E q cs2 ∧ (xf cs2).Perm (xf cs ++ w)) : XC D y ws fr lo mc ms args cin2 Rl2 Rx2 := by
  intro l sz hl p e ha hc hk s m as below hf hap hP hK
  obtain ⟨g0, g1, g2, g3, g4⟩ := hP
  subst g1
  have hsub : ∀ q, va_A (xf cin) s.heap.size q → va_A (xf cin2) s.heap.size q := by
    intro q hq
    rcases hq with ⟨k, e, hq⟩ | hq
    · obtain ⟨k2, h2⟩ := List.getElem?_of_mem (hp.mem_iff.mpr (List.mem_append_left _ (List.mem_of_getElem? hq)))
      exact Or.inl ⟨k2, e, h2⟩
    · exact Or.inr hq
  have hP2 := va_P_iff.mp (g2.perm hp)
  obtain ⟨d1, d2⟩ := va_D_iff.mp (g4.perm hp)
  rw [List.map_append, List.nodup_append] at d1
  obtain ⟨n, o, k1, k2, k3, k4⟩ := h l s.heap.size hl p e ha hc hk s m as below hf hap ⟨g0, rfl, va_P_iff.mpr fun q hq => hP2 q (List.mem_append_left _ hq), ⟨g3.1, g3.2.narrow hsub⟩, va_D_iff.mpr ⟨d1.1, fun _ _ => trivial⟩⟩ hK
  refine ⟨n, o, k1, k2, k3, ?_⟩
  rcases k4 with ⟨⟨⟨v, cs, a1, a2, a3, a3'⟩, a4⟩, L, a5, a6⟩ | ⟨q, e1, E, ce, L, ⟨⟨cs, b1, b2, b2'⟩, b3⟩, b4, b5, b6, b7, b8, b9⟩
  · obtain ⟨cs2, r1, r2⟩ := h1 v cs a2
    obtain ⟨j1, j2⟩ := xjoin (A0 := va_A (xf cin2) s.heap.size) hp r2 g2 g4.self a4.2 hsub a3 a3'
    exact Or.inl ⟨⟨⟨v, cs2, a1, r1, j1, j2⟩, a4.1, fun q q1 q2 => a4.2 q q1 (fun z => q2 (hsub q z))⟩, L, a5, fun q hq => hsub _ (a6 q hq)⟩
  · obtain ⟨cs2, r1, r2⟩ := h2 _ _ cs b1
    obtain ⟨j1, j2⟩ := xjoin (A0 := va_A (xf cin2) s.heap.size) hp r2 g2 g4.self b3.2 hsub b2 b2'
    exact Or.inr ⟨q, e1, E, ce, L, ⟨⟨cs2, r1, j1, j2⟩, b3.1, fun q q1 q2 => b3.2 q q1 (fun z => q2 (hsub q z))⟩, b4, b5, b6, b7, b8, fun z hz => hsub _ (b9 z hz)⟩
theorem outerC_arr (c : ClassId) (N h0 : Nat) : ∀ i, Jvm.Free.Multi.outerC c N h0 i = arrV c N (fun j => va_rf (if j < i then some (h0 + 1 + j) else none))
  | 0 => by
    show ({ cls := c, slots := Array.replicate N .null, vm := .none } : Cell) = _
    rw [arrV_new]
    rfl
  | i + 1 => by
    show (Jvm.Free.Multi.outerC c N h0 i).setSlot i (.ref (h0 + 1 + i)) = _
    rw [outerC_arr c N h0 i, arrV_store]
    congr 1
    funext j
    show updV (fun j => va_rf (if j < i then some (h0 + 1 + j) else none)) i (.ref (h0 + 1 + i)) j = va_rf (if j < i + 1 then some (h0 + 1 + j) else none)
    unfold updV
    by_cases e : j = i
    · subst e
      rw [if_pos rfl, if_pos (Nat.lt_succ_self _)]; rfl
    · rw [if_neg e]
      show va_rf (if j < i then some (h0 + 1 + j) else none) = va_rf (if j < i + 1 then some (h0 + 1 + j) else none)
      by_cases h : j < i
      · rw [if_pos h, if_pos (by omega)]
      · rw [if_neg h, if_neg (by omega)]
theorem arrV_congr {c : ClassId} {N : Nat} {f g : Nat → Value} (h : ∀ j, j < N → f j = g j) : arrV c N f = arrV c N g := by
  unfold arrV
  congr 1
  exact congrArg Array.ofFn (funext fun j => h j.val j.isLt)
theorem vp_congrQ {c : ClassId} {N : Nat} {f g : Nat → Option Nat} (h : ∀ j, j < N → f j = g j) : vp_cell c (N, .inr (.inr (.inr (.inr f)))) = vp_cell c (N, .inr (.inr (.inr (.inr g)))) := by
  rw [vp_cell_q, vp_cell_q]
  exact arrV_congr fun j hj => by rw [h j hj]
theorem vp_congrI {c : ClassId} {N : Nat} {f g : Nat → Int32} (h : ∀ j, j < N → f j = g j) : vp_cell c (N, .inl f) = vp_cell c (N, .inl g) := by
  rw [vp_cell_i, vp_cell_i]
  exact arrV_congr fun j hj => by rw [h j hj]
theorem xaoA {ty : FieldType} {A : Array Value} {s : State} (h : va_Nw (.arrayOver (.array ty)) s) : (Cond.arrayOver (.array ty)).before A s = true := h
section XR10
variable {D : xG} {X : XX} {own : String} {cc : ByteArray} {ret : Option FieldType} {nm : String} {nL : Nat} {et : List ExceptionTableEntry} {fr lo mc ms : Nat} {Rl : Option Value → List va_W → Prop} {Rx : String → Nat → List va_W → Prop} {cs cs' : List va_W} {k n pc : Nat} {L : List (Option Value)} {st : List Value} {a : Nat}
/-- pieces at some places are cut another way -/
theorem x_cut {cin new : List va_W} (is : List Nat) (sel : is.map (fun i => cs[i]?) = cin.map some) (nd : va_nd is = true) (hp : (xf cin).Perm (xf new)) (h : WX D X (xput cs is new) k n pc L st) : WX D X cs k n pc L st := by
  refine x_perm ?_ h
  refine (xsel_perm is cs cin nd sel).trans ?_
  exact (hp.append_right _).trans (xput_perm is cs new nd (xsel_lt sel)).symm
/-- pieces are let go -/
theorem x_drop {w : va_W} (hp : (xf cs).Perm (w ++ xf cs')) (h : WX D X cs' k n pc L st) : WX D X cs k n pc L st := by
  obtain ⟨p, l, e0, R, s, m, args, below, meth, c, A, Q⟩ := X
  intro H locs ls hP hD hS hL
  have hP2 := va_P_iff.mp (hP.perm hp)
  obtain ⟨g1, g2⟩ := va_D_iff.mp (hD.perm hp)
  rw [List.map_append, List.nodup_append] at g1
  exact h H locs ls (va_P_iff.mpr fun q hq => hP2 q (List.mem_append_right _ hq)) (va_D_iff.mpr ⟨g1.2.1, fun q hq => g2 q (List.mem_append_right _ hq)⟩) hS hL
/-- what stands at a place is told another way -/
theorem x_alt {i b : Nat} {e1 e2 : va_E} (hi : cs[i]? = some [(b, e1)]) (he : ∀ H : Heap, va_at D.1 xCl (b, e1) H → va_at D.1 xCl (b, e2) H) (h : WX D X (cs.set i [(b, e2)]) k n pc L st) : WX D X cs k n pc L st := by
  obtain ⟨p, l, e0, R, s, m, args, below, meth, c, A, Q⟩ := X
  intro H locs ls hP hD hS hL
  have hl := (List.getElem?_eq_some_iff.mp hi).1
  have hp1 := xf_clr hi
  have hp2 := xf_put [(b, e2)] hl
  have hP1 := va_P_iff.mp (hP.perm hp1)
  obtain ⟨g1, g2⟩ := va_D_iff.mp (hD.perm hp1)
  refine h H locs ls (va_P.perm hp2.symm (va_P_iff.mpr fun q hq => ?_)) (va_D.perm hp2.symm (va_D_iff.mpr ⟨g1, fun q hq => ?_⟩)) hS hL
  · rcases List.mem_cons.mp (show q ∈ (b, e2) :: xf (cs.set i []) from hq) with e | e
    · subst e; exact he H (hP1 (b, e1) List.mem_cons_self)
    · exact hP1 q (List.mem_cons_of_mem _ e)
  · rcases List.mem_cons.mp (show q ∈ (b, e2) :: xf (cs.set i []) from hq) with e | e
    · subst e; exact g2 (b, e1) List.mem_cons_self
    · exact g2 q (List.mem_cons_of_mem _ e)
theorem x_altQ {i b : Nat} {c : ClassId} {N : Nat} {f : Nat → Option Nat} (g : Nat → Option Nat) (hi : cs[i]? = some [(b, aQ c N f)]) (he : ∀ j, j < N → f j = g j) (h : WX D X (cs.set i [(b, aQ c N g)]) k n pc L st) : WX D X cs k n pc L st :=
  x_alt hi (fun H hH => by
    have hH : H[b]? = some (vp_cell c (N, .inr (.inr (.inr (.inr f))))) := hH
    show H[b]? = some (vp_cell c (N, .inr (.inr (.inr (.inr g)))))
    rw [hH, vp_congrQ he]) h
theorem x_altI {i b : Nat} {c : ClassId} {N : Nat} {f : Nat → Int32} (g : Nat → Int32) (hi : cs[i]? = some [(b, aI c N f)]) (he : ∀ j, j < N → f j = g j) (h : WX D X (cs.set i [(b, aI c N g)]) k n pc L st) : WX D X cs k n pc L st :=
  x_alt hi (fun H hH => by
    have hH : H[b]? = some (vp_cell c (N, .inl f)) := hH
    show H[b]? = some (vp_cell c (N, .inl g))
    rw [hH, vp_congrI he]) h
/-- a fresh row of objects -/
theorem x_anew (B : XB D X own cc ret nm nL et fr lo mc ms Rl Rx) (np : Nat) {C : String} {idx t0 N : Nat} {i : Int32} (w1 : Cond.classLink own idx C ∈ lw_all) (w2 : Cond.arrayOver (.object C) ∈ lw_tbl) (ht : (xTys D.2.1)[t0]? = some (D.2.1 t0, .object C)) (hi : i = nI N) (hN : N < 100000) (hC : k + 1 ≤ mc ∧ n + N ≤ ms) (d : decode cc pc = .ok (.anewarray idx, 3)) (e : pc + 3 = np) (h : ∀ q : Nat, WX D X ([(q, aQ (D.2.1 t0) N (fun _ => none))] :: cs) (k + 1) (n + N) np L (.ref q :: st)) : WX D X cs k n pc L (.int i :: st) := by
  subst e hi
  obtain ⟨p, l, e0, R, s, m, args, below, meth, c, A, Q⟩ := X
  intro H locs ls hP hD hS hL
  obtain ⟨hx, hb, -, -, hown, hts, hKA, hA0, hRm, -⟩ := B
  subst hRm
  refine va_newq hx hb hown (hts _ w1) (hKA.1.2.1 _ w2 rfl) hKA.1.1 hP hD hS hA0 (nI_pos (by omega)) (nI_clamp (by omega)) (by omega) hC.1 hC.2 d (fun q cA H1 hK1 hP1 hD1 hS1 => ?_)
  have e1 := xrA_find (hK1.2 (xTys D.2.1).length (cA, .object C) (by simp)).2
  have e2 := xrA_find (hKA.1.1.2 t0 _ ht).2
  cases e1.symm.trans e2
  obtain ⟨hP2, hD2⟩ := xcons hP1 hD1
  exact h q H1 locs ls hP2 hD2 hS1 hL
/-- a fresh row of rows, all missing -/
theorem x_anewA (B : XB D X own cc ret nm nL et fr lo mc ms Rl Rx) (np : Nat) {ty : FieldType} {idx t0 N : Nat} {i : Int32} (w1 : Cond.classLink own idx (FieldType.array ty).toString ∈ lw_all) (w2 : Cond.arrayOver (.array ty) ∈ lw_tbl) (ht : (xTys D.2.1)[t0]? = some (D.2.1 t0, .array ty)) (hi : i = nI N) (hN : N < 100000) (hC : k + 1 ≤ mc ∧ n + N ≤ ms) (d : decode cc pc = .ok (.anewarray idx, 3)) (e : pc + 3 = np) (h : ∀ q : Nat, WX D X ([(q, aQ (D.2.1 t0) N (fun _ => none))] :: cs) (k + 1) (n + N) np L (.ref q :: st)) : WX D X cs k n pc L (.int i :: st) := by
  subst e hi
  obtain ⟨p, l, e0, R, s, m, args, below, meth, c, A, Q⟩ := X
  intro H locs ls hP hD hS hL
  obtain ⟨hx, hb, -, -, hown, hts, hKA, hA0, hRm, -⟩ := B
  subst hRm
  have hcl := nI_clamp (n := N) (by omega)
  refine W.anewA hx hb hown (hts _ w1) (xaoA (hKA.1.2.1 _ w2 rfl)) rfl d rfl (nI_pos (by omega)) (by rw [hcl]; omega) hC.1 (by rw [hcl]; exact hC.2) (fun cA kA comp f1 f2 f3 f4 => ?_)
  have e2 := xrA_find (hKA.1.1.2 t0 _ ht).2
  cases f1.symm.trans e2
  rw [hcl]
  generalize hH1 : H.push ({ cls := D.2.1 t0, slots := Array.replicate N .null, vm := .none } : Cell) = H1
  have z1 : H1.size = H.size + 1 := by rw [← hH1, Array.size_push]
  have e1 : H1[H.size]? = some (arrV (D.2.1 t0) N (fun _ => .null)) := by rw [← hH1, Array.getElem?_push_size, ← arrV_new]
  have o1 : ∀ q : Nat, q < H.size → H1[q]? = H[q]? := fun q hq => by rw [← hH1, Array.getElem?_push, if_neg (Nat.ne_of_lt hq)]
  have hk : ∀ (k : Nat) (x : Nat × va_E), (xf cs)[k]? = some x → H1[x.1]? = H[x.1]? := fun k x hx => o1 x.1 ((hP k x hx).lt)
  have hPk := hP.kept hk
  obtain ⟨hn, hA⟩ := va_D_iff.mp hD
  refine h H.size H1 locs ls (va_P_iff.mpr fun q hq => ?_) (va_D_iff.mpr ⟨?_, fun q hq => ?_⟩) ⟨Nat.le_trans hS.1 (by omega), fun x h1 h2 => (o1 x (Nat.lt_of_lt_of_le h1 hS.1)).trans (hS.2.1 x h1 h2), hS.2.2⟩ hL
  · rcases List.mem_cons.mp (show q ∈ (H.size, aQ (D.2.1 t0) N (fun _ => none)) :: xf cs from hq) with e | e
    · subst e; exact e1
    · exact va_P_iff.mp hPk q e
  · show ((H.size, aQ (D.2.1 t0) N (fun _ => none)) :: xf cs |>.map (·.1)).Nodup
    rw [List.map_cons, List.nodup_cons]
    refine ⟨fun hm => ?_, hn⟩
    obtain ⟨z, hz, e⟩ := List.mem_map.mp hm
    have := (va_P_iff.mp hP z hz).lt
    have e : z.1 = H.size := e
    omega
  · rcases List.mem_cons.mp (show q ∈ (H.size, aQ (D.2.1 t0) N (fun _ => none)) :: xf cs from hq) with e | e
    · subst e; exact hA0 _ hS.1
    · exact hA q e
/-- a fresh row of fresh rows of numbers -/
theorem x_multi (B : XB D X own cc ret nm nL et fr lo mc ms Rl Rx) (np : Nat) {ty : FieldType} {idx t0 t1 N M : Nat} {i j : Int32} (hcl : Cond.classLink own idx ("[" ++ (FieldType.array ty).toString) ∈ lw_all) (hov : Cond.arrayOver (.array ty) ∈ lw_tbl) (har : Cond.arrayClass ty ∈ lw_all) (ht0 : (xTys D.2.1)[t0]? = some (D.2.1 t0, .array ty)) (ht1 : (xTys D.2.1)[t1]? = some (D.2.1 t1, ty)) (h0 : defaultValue ty = .int 0) (hft : fits ty (.int 0) = true) (hbt : componentBytes ty ≤ 8) (hi : i = nI N) (hj : j = nI M) (hN : N < 100000 ∧ M < 100000) (hC : k + 1 + N ≤ mc ∧ n + N + N * M ≤ ms) (d : decode cc pc = .ok (.multianewarray idx 2, 4)) (e : pc + 4 = np)
    (h : ∀ q : Nat, WX D X ([(q, aQ (D.2.1 t0) N (fun b => some (q + 1 + b)))] :: ((List.range N).map (fun b => (q + 1 + b, aI (D.2.1 t1) M (fun _ => 0)))) :: cs) (k + 1 + N) (n + N + N * M) np L (.ref q :: st)) : WX D X cs k n pc L (.int j :: .int i :: st) := by
  subst e hi hj
  obtain ⟨p, l, e0, R, s, m, args, below, meth, c, A, Q⟩ := X
  intro H locs ls hP hD hS hL T hT Xs
  obtain ⟨hx, hb, -, -, hown, hts, hKA, hA0, hRm, -⟩ := B
  subst hRm
  have c1 := nI_clamp (n := N) (by omega)
  have c2 := nI_clamp (n := M) (by omega)
  have hbm : M * componentBytes ty ≤ 536870912 := by
    have := Nat.mul_le_mul (show M ≤ 100000 by omega) hbt
    omega
  obtain ⟨vm₁, cA, comp, hW, hfA, hfC, -, -, X1, step⟩ := Xs.multianewarray2F hx hown (hts _ hcl) (xaoA (hKA.1.2.1 _ hov rfl)) (hts _ har) (g := F0 m pc ls (.int (nI M) :: .int (nI N) :: st)) rfl (by rw [hb]; exact d) (n := nI N) (k := nI M) (rest := st) rfl (nI_pos (by omega)) (nI_pos (by omega)) (by rw [c1]; omega) (by rw [c2]; exact hbm) (by rw [c2]; omega) (by rw [h0]; exact hft) (by rw [h0]; rfl) (by rw [c1]; have := hC.1; show k + (1 + N) ≤ mc; omega) (by rw [c1, c2]; have := hC.2; show n + (N + N * M) ≤ ms; omega)
  rw [c1, c2, h0] at X1 step
  have e1 := xrA_find (hKA.1.1.2 t0 _ ht0).2
  cases hfA.symm.trans e1
  have e2 := xrA_find (hKA.1.1.2 t1 _ ht1).2
  cases hfC.symm.trans e2
  obtain ⟨f1, f2, -, -⟩ := Jvm.Free.Multi.fill_facts (T.setVm vm₁) (D.2.1 t0) (D.2.1 t1) N M (.int 0) N
  have f3 := fun j (hj : j < N) => Jvm.Free.Multi.fill_inner (T.setVm vm₁) (D.2.1 t0) (D.2.1 t1) N M (.int 0) N j hj
  have f4 := fun (q : Addr) (hq : q < (T.setVm vm₁).heap.size) => Jvm.Free.Multi.fill_old (T.setVm vm₁) (D.2.1 t0) (D.2.1 t1) N M (.int 0) hq N
  have hh : (T.setVm vm₁).heap = H := hT
  rw [hh] at f1 f2 f4
  rw [hh] at f3
  rw [outerC_arr, arrV_congr (g := fun j => va_rf (some (H.size + 1 + j))) (fun j hj => by rw [if_pos hj])] at f2
  rw [hT] at step
  generalize hU : Jvm.Free.Multi.fill (T.setVm vm₁) (D.2.1 t0) (D.2.1 t1) N M (.int 0) N = U at *
  have hk : ∀ (k : Nat) (x : Nat × va_E), (xf cs)[k]? = some x → U.heap[x.1]? = H[x.1]? := fun k x hx => f4 x.1 ((hP k x hx).lt)
  have hPk := hP.kept hk
  obtain ⟨hn, hA⟩ := va_D_iff.mp hD
  have hold : ∀ z ∈ xf cs, z.1 < H.size := fun z hz => (va_P_iff.mp hP z hz).lt
  have hmem : ∀ q, q ∈ xf ([(H.size, aQ (D.2.1 t0) N (fun b => some (H.size + 1 + b)))] :: ((List.range N).map (fun b => (H.size + 1 + b, aI (D.2.1 t1) M (fun _ => 0)))) :: cs) → q = (H.size, aQ (D.2.1 t0) N (fun b => some (H.size + 1 + b))) ∨ (∃ b, b < N ∧ q = (H.size + 1 + b, aI (D.2.1 t1) M (fun _ => 0))) ∨ q ∈ xf cs := by
    intro q hq
    rcases List.mem_cons.mp (show q ∈ (H.size, aQ (D.2.1 t0) N (fun b => some (H.size + 1 + b))) :: (((List.range N).map (fun b => (H.size + 1 + b, aI (D.2.1 t1) M (fun _ => 0)))) ++ xf cs) from hq) with e | e
    · exact Or.inl e
    · rcases List.mem_append.mp e with e | e
      · obtain ⟨b, hb2, e3⟩ := List.mem_map.mp e
        exact Or.inr (Or.inl ⟨b, List.mem_range.mp hb2, e3.symm⟩)
      · exact Or.inr (Or.inr e)
  have X2 : Stand p l e0 { frames := fr, cells := mc, slots := ms, locals := lo } s m args below meth c U locs (k + 1 + N) (n + N + N * M) := X1
  have kP : va_P D.1 xCl (xf ([(H.size, aQ (D.2.1 t0) N (fun b => some (H.size + 1 + b)))] :: ((List.range N).map (fun b => (H.size + 1 + b, aI (D.2.1 t1) M (fun _ => 0)))) :: cs)) U.heap := by
    refine va_P_iff.mpr fun q hq => ?_
    rcases hmem q hq with e | ⟨b, hb2, e⟩ | e
    · subst e; exact f2
    · subst e
      show U.heap[H.size + 1 + b]? = some (arrV (D.2.1 t1) M (fun _ => .int 0))
      rw [f3 b hb2, ← arrV_new]; rfl
    · exact va_P_iff.mp hPk q e
  have kN : ((xf ([(H.size, aQ (D.2.1 t0) N (fun b => some (H.size + 1 + b)))] :: ((List.range N).map (fun b => (H.size + 1 + b, aI (D.2.1 t1) M (fun _ => 0)))) :: cs)).map (·.1)).Nodup := by
    show ((H.size, aQ (D.2.1 t0) N (fun b => some (H.size + 1 + b))) :: (((List.range N).map (fun b => (H.size + 1 + b, aI (D.2.1 t1) M (fun _ => 0)))) ++ xf cs) |>.map (·.1)).Nodup
    rw [List.map_cons, List.nodup_cons, List.map_append, List.nodup_append]
    refine ⟨fun hm => ?_, ?_, hn, ?_⟩
    · rcases List.mem_append.mp hm with e | e
      · obtain ⟨z, hz, e3⟩ := List.mem_map.mp e
        obtain ⟨b, -, e4⟩ := List.mem_map.mp hz
        subst e4
        have e3 : H.size + 1 + b = H.size := e3
        omega
      · obtain ⟨z, hz, e3⟩ := List.mem_map.mp e
        have := hold z hz
        have e3 : z.1 = H.size := e3
        omega
    · rw [List.map_map]
      refine List.pairwise_iff_getElem.mpr fun a b ha hb2 hab e3 => ?_
      simp only [List.getElem_map, List.getElem_range, Function.comp] at e3
      omega
    · intro x hx y hy e3
      obtain ⟨z, hz, e4⟩ := List.mem_map.mp hx
      obtain ⟨b, -, e5⟩ := List.mem_map.mp hz
      subst e5
      obtain ⟨z2, hz2, e6⟩ := List.mem_map.mp hy
      have := hold z2 hz2
      have e4 : H.size + 1 + b = x := e4
      omega
  have kA : ∀ q ∈ xf ([(H.size, aQ (D.2.1 t0) N (fun b => some (H.size + 1 + b)))] :: ((List.range N).map (fun b => (H.size + 1 + b, aI (D.2.1 t1) M (fun _ => 0)))) :: cs), A q.1 := by
    intro q hq
    rcases hmem q hq with e | ⟨b, hb2, e⟩ | e
    · subst e; exact hA0 _ hS.1
    · subst e; exact hA0 _ (by have := hS.1; show s.heap.size ≤ H.size + 1 + b; omega)
    · exact hA q e
  obtain ⟨t, a1, b1⟩ := h H.size U.heap locs ls kP (va_D_iff.mpr ⟨kN, kA⟩) ⟨Nat.le_trans hS.1 (by rw [f1]; omega), fun x h1 h2 => (f4 x (Nat.lt_of_lt_of_le h1 hS.1)).trans (hS.2.1 x h1 h2), hS.2.2⟩ hL U rfl X2
  exact ⟨t, step t a1, b1⟩
end XR10
