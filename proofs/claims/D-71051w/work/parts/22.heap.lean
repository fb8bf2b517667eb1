/-! MY LAYER, 3: pieces of a world: reading, writing, making, calls -/
theorem va_D_iff {A : Nat → Prop} {ws : va_W} : va_D A ws ↔ (ws.map (·.1)).Nodup ∧ ∀ q ∈ ws, A q.1 := by
  constructor
  · intro h
    refine ⟨List.pairwise_iff_getElem.mpr fun i j hi hj hij e => ?_, fun q hq => ?_⟩
    · simp only [List.length_map] at hi hj
      simp only [List.getElem_map] at e
      have := h.1 i j _ _ (List.getElem?_eq_getElem hi) (List.getElem?_eq_getElem hj) e
      omega
    · obtain ⟨k, hk⟩ := List.getElem?_of_mem hq
      exact h.2 k q hk
  · intro ⟨h1, h2⟩
    refine ⟨fun i j x y hi hj e => ?_, fun k q hk => h2 q (List.mem_of_getElem? hk)⟩
    have li := (List.getElem?_eq_some_iff.mp hi)
    have lj := (List.getElem?_eq_some_iff.mp hj)
    obtain ⟨li, ei⟩ := li
    obtain ⟨lj, ej⟩ := lj
    have hp := List.pairwise_iff_getElem.mp h1
    rcases Nat.lt_trichotomy i j with h | h | h
    · exact ((hp i j (by simpa using li) (by simpa using lj) h) (by rw [List.getElem_map, List.getElem_map, ei, ej]; exact e)).elim
    · exact h
    · exact ((hp j i (by simpa using lj) (by simpa using li) h) (by rw [List.getElem_map, List.getElem_map, ei, ej]; exact e.symm)).elim
theorem va_P_iff {D : va_G} {cl : List vw_C} {ws : va_W} {H : Heap} : va_P D cl ws H ↔ ∀ q ∈ ws, va_at D cl q H :=
  ⟨fun h q hq => by obtain ⟨k, hk⟩ := List.getElem?_of_mem hq; exact h k q hk, fun h k q hk => h q (List.mem_of_getElem? hk)⟩
theorem va_P.perm {D : va_G} {cl : List vw_C} {w1 w2 : va_W} {H : Heap} (hp : w1.Perm w2) (h : va_P D cl w1 H) : va_P D cl w2 H :=
  va_P_iff.mpr fun q hq => va_P_iff.mp h q (hp.mem_iff.mpr hq)
theorem va_D.perm {A : Nat → Prop} {w1 w2 : va_W} (hp : w1.Perm w2) (h : va_D A w1) : va_D A w2 := by
  obtain ⟨h1, h2⟩ := va_D_iff.mp h
  exact va_D_iff.mpr ⟨(hp.map _).nodup_iff.mp h1, fun q hq => h2 q (hp.mem_iff.mpr hq)⟩
/-- the cell at a is known to read e: it is ours, or it is never written -/
def XRd (D : xG) (cs : List va_W) (a : Nat) (e : va_E) : Prop := (a, e) ∈ xf cs ∨ (a, e) ∈ D.2.2.1
theorem xr_h {D : xG} {a : Nat} {e : va_E} {w : va_W} {cs : List va_W} : XRd D (((a, e) :: w) :: cs) a e := Or.inl (by unfold xf; exact List.mem_flatten.mpr ⟨_, List.mem_cons_self, List.mem_cons_self⟩)
theorem xr_t {D : xG} {a : Nat} {e : va_E} {w : va_W} {cs : List va_W} (h : XRd D cs a e) : XRd D (w :: cs) a e := by
  rcases h with h | h
  · left
    obtain ⟨z, h1, h2⟩ := List.mem_flatten.mp h
    exact List.mem_flatten.mpr ⟨z, List.mem_cons_of_mem _ h1, h2⟩
  · exact Or.inr h
theorem xr_m {D : xG} {a : Nat} {e : va_E} {w : va_W} {cs : List va_W} (h : (a, e) ∈ w) : XRd D (w :: cs) a e := Or.inl (List.mem_flatten.mpr ⟨_, List.mem_cons_self, h⟩)
theorem xr_a {D : xG} {a : Nat} {e : va_E} {cs : List va_W} (h : (a, e) ∈ D.2.2.1) : XRd D cs a e := Or.inr h
/-- a cell changes within its piece -/
def XIn (w : va_W) (a : Nat) (e e' : va_E) (w' : va_W) : Prop := ∃ q0 : Nat, w[q0]? = some (a, e) ∧ w' = w.set q0 (a, e')
def XUp (cs : List va_W) (a : Nat) (e e' : va_E) (cs' : List va_W) : Prop := XIn (xf cs) a e e' (xf cs')
theorem xi_h {a : Nat} {e e' : va_E} {w : va_W} : XIn ((a, e) :: w) a e e' ((a, e') :: w) := ⟨0, rfl, rfl⟩
theorem xi_t {a : Nat} {e e' : va_E} {q : Nat × va_E} {w w' : va_W} (h : XIn w a e e' w') : XIn (q :: w) a e e' (q :: w') := by
  obtain ⟨q0, h1, h2⟩ := h
  exact ⟨q0 + 1, h1, by rw [h2]; rfl⟩
theorem xu_m {a : Nat} {e e' : va_E} {w w' : va_W} {cs : List va_W} (h : XIn w a e e' w') : XUp (w :: cs) a e e' (w' :: cs) := by
  obtain ⟨q0, h1, h2⟩ := h
  have hl := (List.getElem?_eq_some_iff.mp h1).1
  refine ⟨q0, ?_, ?_⟩
  · show (w ++ xf cs)[q0]? = _
    rw [List.getElem?_append_left hl]; exact h1
  · show w' ++ xf cs = (w ++ xf cs).set q0 _
    rw [h2, List.set_append_left _ _ hl]
theorem xu_h {a : Nat} {e e' : va_E} {cs : List va_W} : XUp ([(a, e)] :: cs) a e e' ([(a, e')] :: cs) := xu_m xi_h
theorem xu_t {a : Nat} {e e' : va_E} {w : va_W} {cs cs' : List va_W} (h : XUp cs a e e' cs') : XUp (w :: cs) a e e' (w :: cs') := by
  obtain ⟨q0, h1, h2⟩ := h
  refine ⟨w.length + q0, ?_, ?_⟩
  · show (w ++ xf cs)[w.length + q0]? = _
    rw [List.getElem?_append_right (by omega), Nat.add_sub_cancel_left]; exact h1
  · show w ++ xf cs' = (w ++ xf cs).set (w.length + q0) _
    rw [h2, List.set_append_right _ _ (by omega), Nat.add_sub_cancel_left]
theorem xrd_at {D : xG} {cs : List va_W} {a : Nat} {e : va_E} (h : XRd D cs a e) {A : Nat → Prop} {s : State} {H : Heap} {locs : List Loc} (hK : KH D A s s.heap) (hS : va_S A s.heap H locs) (hP : va_P D.1 xCl (xf cs) H) : ∃ (ws : va_W) (q0 : Nat), va_P D.1 xCl ws H ∧ ws[q0]? = some (a, e) := by
  rcases h with h | h
  · obtain ⟨k, hk⟩ := List.getElem?_of_mem h
    exact ⟨_, k, hP, hk⟩
  · obtain ⟨k, hk⟩ := List.getElem?_of_mem h
    exact ⟨_, k, (hK.kept hS.2.1).1, hk⟩
section XHEAP
variable {D : xG} {X : XX} {own : String} {cc : ByteArray} {ret : Option FieldType} {nm : String} {nL : Nat} {et : List ExceptionTableEntry} {fr lo mc ms : Nat} {Rl : Option Value → List va_W → Prop} {Rx : String → Nat → List va_W → Prop} {cs cs' : List va_W} {k n pc : Nat} {L : List (Option Value)} {st : List Value} {a : Nat}
theorem x_getf (B : XB D X own cc ret nm nL et fr lo mc ms Rl Rx) (np : Nat) {C : String} {T : u_T} {N ci i : Nat} {fs : List Value} (ha : XRd D cs a (.inr (ci, fs))) (hc : xCl[ci]? = some (C, T, N)) (hin : ∀ w ∈ u_ws C T N, w ∈ lw_all) (kf : Nat) (hk : kf < N) (hl : Cond.fieldLink own i (T kf).1 (T kf).2.1 (T kf).2.2.1 ∈ lw_all) {v : Value} (hv : fs[kf]? = some v) (d : decode cc pc = .ok (.getfield i, 3)) (e : pc + 3 = np) (h : WX D X cs k n np L (v :: st)) : WX D X cs k n pc L (.ref a :: st) := by
  subst e
  obtain ⟨p, l, e0, R, s, m, args, below, meth, c, A, Q⟩ := X
  intro H locs ls hP hD hS hL
  obtain ⟨hx, hb, -, -, hown, hts, hKA, -⟩ := B
  obtain ⟨ws, q0, hP', hq⟩ := xrd_at ha hKA.2 hS hP
  exact va_get hx hb hts hin hown hKA.1.1 hP' q0 hq hc kf hk (hts _ hl) (fun _ h9 => h9) hv d (h H locs ls hP hD hS hL)
theorem x_getfN (B : XB D X own cc ret nm nL et fr lo mc ms Rl Rx) (np : Nat) {C host : String} {T : u_T} {N ci i : Nat} {fs : List Value} (ha : XRd D cs a (.inr (ci, fs))) (hc : xCl[ci]? = some (C, T, N)) (hin : ∀ w ∈ u_ws C T N, w ∈ lw_all) (kf : Nat) (hk : kf < N) (hl : Cond.fieldLinkNest own i (T kf).1 (T kf).2.1 (T kf).2.2.1 host ∈ lw_tbl) {v : Value} (hv : fs[kf]? = some v) (d : decode cc pc = .ok (.getfield i, 3)) (e : pc + 3 = np) (h : WX D X cs k n np L (v :: st)) : WX D X cs k n pc L (.ref a :: st) := by
  subst e
  obtain ⟨p, l, e0, R, s, m, args, below, meth, c, A, Q⟩ := X
  intro H locs ls hP hD hS hL
  obtain ⟨hx, hb, -, -, hown, hts, hKA, -⟩ := B
  obtain ⟨ws, q0, hP', hq⟩ := xrd_at ha hKA.2 hS hP
  exact va_getN hx hb hts hin hown hKA.1.1 hP' q0 hq hc kf hk (va_Nw.use rfl (hKA.1.2.1 _ hl rfl)) (fun _ h9 => h9) hv d (h H locs ls hP hD hS hL)
theorem x_putf (B : XB D X own cc ret nm nL et fr lo mc ms Rl Rx) (np : Nat) {C : String} {T : u_T} {N ci i : Nat} {fs : List Value} (hc : xCl[ci]? = some (C, T, N)) (hin : ∀ w ∈ u_ws C T N, w ∈ lw_all) (ty0 : Nat → FieldType) (hty : ∀ k, k < N → parseFieldDescriptor (T k).2.2.1 = some (ty0 k)) (hnm : ∀ a, a < N → ∀ b, b < N → a ≠ b → (T a).2.1 ≠ (T b).2.1) (kf : Nat) (hk : kf < N) (hl : Cond.fieldLink own i (T kf).1 (T kf).2.1 (T kf).2.2.1 ∈ lw_all) (hfin : (T kf).2.2.2 = false) {v : Value} (hn : narrow (ty0 kf) v = v) (hfit : fits (ty0 kf) v = true) (hlen : kf < fs.length) (hu : XUp cs a (.inr (ci, fs)) (.inr (ci, fs.set kf v)) cs') (d : decode cc pc = .ok (.putfield i, 3)) (e : pc + 3 = np) (h : WX D X cs' k n np L st) : WX D X cs k n pc L (v :: .ref a :: st) := by
  subst e
  obtain ⟨p, l, e0, R, s, m, args, below, meth, c, A, Q⟩ := X
  intro H locs ls hP hD hS hL
  obtain ⟨hx, hb, -, -, hown, hts, hKA, -⟩ := B
  obtain ⟨q0, hq, hq'⟩ := hu
  exact va_put hx hb hts hin ty0 hty hnm hown hKA.1.1 hP hD hS q0 hq hc kf hk (hts _ hl) (fun _ h9 => h9) hfin (hty kf hk) hn hfit hlen d (fun H1 locs1 hP1 hD1 hS1 => h H1 locs1 ls (by rw [hq']; exact hP1) (by rw [hq']; exact hD1) hS1 hL)
theorem x_putfN (B : XB D X own cc ret nm nL et fr lo mc ms Rl Rx) (np : Nat) {C host : String} {T : u_T} {N ci i : Nat} {fs : List Value} (hc : xCl[ci]? = some (C, T, N)) (hin : ∀ w ∈ u_ws C T N, w ∈ lw_all) (ty0 : Nat → FieldType) (hty : ∀ k, k < N → parseFieldDescriptor (T k).2.2.1 = some (ty0 k)) (hnm : ∀ a, a < N → ∀ b, b < N → a ≠ b → (T a).2.1 ≠ (T b).2.1) (kf : Nat) (hk : kf < N) (hl : Cond.fieldLinkNest own i (T kf).1 (T kf).2.1 (T kf).2.2.1 host ∈ lw_tbl) (hfin : (T kf).2.2.2 = false) {v : Value} (hn : narrow (ty0 kf) v = v) (hfit : fits (ty0 kf) v = true) (hlen : kf < fs.length) (hu : XUp cs a (.inr (ci, fs)) (.inr (ci, fs.set kf v)) cs') (d : decode cc pc = .ok (.putfield i, 3)) (e : pc + 3 = np) (h : WX D X cs' k n np L st) : WX D X cs k n pc L (v :: .ref a :: st) := by
  subst e
  obtain ⟨p, l, e0, R, s, m, args, below, meth, c, A, Q⟩ := X
  intro H locs ls hP hD hS hL
  obtain ⟨hx, hb, -, -, hown, hts, hKA, -⟩ := B
  obtain ⟨q0, hq, hq'⟩ := hu
  exact va_putN hx hb hts hin ty0 hty hnm hown hKA.1.1 hP hD hS q0 hq hc kf hk (va_Nw.use rfl (hKA.1.2.1 _ hl rfl)) (fun _ h9 => h9) hfin (hty kf hk) hn hfit hlen d (fun H1 locs1 hP1 hD1 hS1 => h H1 locs1 ls (by rw [hq']; exact hP1) (by rw [hq']; exact hD1) hS1 hL)
/-- a final field, in its own class's constructor -/
theorem x_putfF (B : XB D X own cc ret nm nL et fr lo mc ms Rl Rx) (np : Nat) {C : String} {T : u_T} {N ci i : Nat} {fs : List Value} (hnm9 : nm = "<init>") (hc : xCl[ci]? = some (C, T, N)) (hin : ∀ w ∈ u_ws C T N, w ∈ lw_all) (ty0 : Nat → FieldType) (hty : ∀ k, k < N → parseFieldDescriptor (T k).2.2.1 = some (ty0 k)) (hnm : ∀ a, a < N → ∀ b, b < N → a ≠ b → (T a).2.1 ≠ (T b).2.1) (kf : Nat) (hk : kf < N) (hl : Cond.fieldLink own i (T kf).1 (T kf).2.1 (T kf).2.2.1 ∈ lw_all) (hfin : (T kf).2.2.2 = true) (hdecl : (T kf).1 = own) {v : Value} (hn : narrow (ty0 kf) v = v) (hfit : fits (ty0 kf) v = true) (hlen : kf < fs.length) (hu : XUp cs a (.inr (ci, fs)) (.inr (ci, fs.set kf v)) cs') (d : decode cc pc = .ok (.putfield i, 3)) (e : pc + 3 = np) (h : WX D X cs' k n np L st) : WX D X cs k n pc L (v :: .ref a :: st) := by
  subst e
  obtain ⟨p, l, e0, R, s, m, args, below, meth, c, A, Q⟩ := X
  intro H locs ls hP hD hS hL
  obtain ⟨hx, hb, -, -, hown, hts, hKA, -, -, -, -, -, hin2, -⟩ := B
  obtain ⟨q0, hq, hq'⟩ := hu
  exact va_putF hx hb hts hin ty0 hty hnm hown hKA.1.1 hP hD hS q0 hq hc kf hk (hts _ hl) (fun _ h9 => h9) hfin (hin2.trans hnm9) hdecl (hty kf hk) hn hfit hlen d (fun H1 locs1 hP1 hD1 hS1 => h H1 locs1 ls (by rw [hq']; exact hP1) (by rw [hq']; exact hD1) hS1 hL)
theorem xapartF {args : Array Value} {s : State} {C O f d O' f' d' : String} (h : (Cond.laysFinal C O f d).before args s = true) (h' : (Cond.laysFinal C O' f' d').before args s = true)
    {cf kf fi fd cf' kf' fi' fd'} (hi : s.fieldFound? O f d = some (cf, kf, fi, fd)) (hi' : s.fieldFound? O' f' d' = some (cf', kf', fi', fd')) (hne : O ≠ O' ∨ fd.name ≠ fd'.name) : fd.slot ≠ fd'.slot := by
  intro e
  obtain ⟨c, k, c1, k1, i1, f1, hc, -, g1, -, -, -, ho, -, x, hd, e1, e2, -⟩ := Cond.laysFinal_spec h
  obtain ⟨c2, k2, c3, k3, i3, f3, hc2, -, g3, -, -, -, ho3, -, x3, hd3, e3, e4, -⟩ := Cond.laysFinal_spec h'
  cases g1.symm.trans hi
  cases g3.symm.trans hi'
  cases hc.symm.trans hc2
  rw [e] at hd
  cases hd.symm.trans hd3
  have a1 := (State.fieldFound?_spec hi).1
  have a3 := (State.fieldFound?_spec hi').1
  obtain ⟨b1, m1, m2⟩ := Vm.findClass_spec ho
  obtain ⟨b3, m3, m4⟩ := Vm.findClass_spec ho3
  cases m1.symm.trans a1
  cases m3.symm.trans a3
  rcases hne with hne | hne
  · exact hne (by rw [← m2, ← m4, ← e1, ← e3])
  · exact hne (by rw [← e2, ← e4])
/-- a final field, in its own class's constructor; all of the class's fields are final, some bear one name -/
theorem x_putfFP (B : XB D X own cc ret nm nL et fr lo mc ms Rl Rx) (np : Nat) {C : String} {T : u_T} {N ci i : Nat} {fs : List Value} (hnm9 : nm = "<init>") (hc : xCl[ci]? = some (C, T, N)) (hin : ∀ w ∈ u_ws C T N, w ∈ lw_all) (ty0 : Nat → FieldType) (hty : ∀ k, k < N → parseFieldDescriptor (T k).2.2.1 = some (ty0 k)) (hnm : ∀ a, a < N → ∀ b, b < N → a ≠ b → (T a).1 ≠ (T b).1 ∨ (T a).2.1 ≠ (T b).2.1) (kf : Nat) (hk : kf < N) (hl : Cond.fieldLink own i (T kf).1 (T kf).2.1 (T kf).2.2.1 ∈ lw_all) (hfin : ∀ a, a < N → (T a).2.2.2 = true) (hdecl : (T kf).1 = own) {v : Value} (hn : narrow (ty0 kf) v = v) (hfit : fits (ty0 kf) v = true) (hlen : kf < fs.length) (hu : XUp cs a (.inr (ci, fs)) (.inr (ci, fs.set kf v)) cs') (d : decode cc pc = .ok (.putfield i, 3)) (e : pc + 3 = np) (h : WX D X cs' k n np L st) : WX D X cs k n pc L (v :: .ref a :: st) := by
  subst e
  obtain ⟨p, l, e0, R, s, m, args, below, meth, c, A, Q⟩ := X
  intro H locs ls hP hD hS hL
  obtain ⟨hx, hb, -, -, hown, hts, hKA, -, -, -, -, -, hin2, -⟩ := B
  obtain ⟨q0, hq, hq'⟩ := hu
  have lay : ∀ j, j < N → (Cond.laysFinal C (T j).1 (T j).2.1 (T j).2.2.1).before args s = true := by
    intro j hj
    have h9 := hts _ (hin _ (u_in_lay hj))
    unfold u_lay at h9
    rw [if_pos (hfin j hj)] at h9
    exact h9
  have hap : ∀ x y, x < N → y < N → x ≠ y → (D.1.2 ci) x ≠ (D.1.2 ci) y := by
    intro x y hx hy hne
    obtain ⟨hS9, -⟩ := hKA.1.1.1 ci _ hc
    obtain ⟨_, _, _, fa, hia, ea⟩ := hS9 x hx
    obtain ⟨_, _, _, fb, hib, eb⟩ := hS9 y hy
    rw [← ea, ← eb]
    refine xapartF (lay x hx) (lay y hy) hia hib ?_
    rw [(State.fieldFound?_type hia (hty x hx)).1, (State.fieldFound?_type hib (hty y hy)).1]
    exact hnm x hx y hy hne
  obtain ⟨r, h1, cell, q1, q2, q3, q4⟩ := hP q0 _ hq
  have hr : r = (C, T, N) := Option.some.inj (h1.symm.trans hc)
  subst hr
  obtain ⟨hS9, hfc, kC, hkC, hkind⟩ := hKA.1.1.1 ci _ hc
  obtain ⟨cf, kf9, fi, f, hi, hsl⟩ := hS9 kf hk
  have hst := (u_facts hfc hkC (u_lays hts hin hk) hi).1
  have hcf : m.cls = cf := by
    obtain ⟨_, _, c', _, _, _, -, -, hf', -, -, -, hown2, -⟩ := Cond.laysFinal_spec (lay kf hk)
    have e1 : c' = cf := by have := hi.symm.trans hf'; simp at this; exact this.1.symm
    rw [hdecl] at hown2
    rw [← e1]; exact Option.some.inj (hown.symm.trans hown2)
  have h6 := u_fits hfc hkC hkind (Or.inr (lay kf hk)) hi (hty kf hk) hn hfit
  refine W.putFinK hx hb hown (hts _ hl) hi hst hcf (hin2.trans hnm9) (by rw [q2]; exact h6) q1 q3 (by rw [hsl]; exact k2_hasslot (q4 kf hk)) rfl rfl d fun H' e1 e2 e3 => ?_
  rw [hsl] at e1 ⊢
  exact h H' _ ls (by rw [hq']; exact hP.set hD hq ⟨_, hc, t_OB.to (V := updV (vp_V fs) kf v) ⟨_, e1, q2, q3, t_set q4 hap hk v⟩ (fun j _ => vp_updV_set hlen v j)⟩ e3) (by rw [hq']; exact hD.set hq) (hS.put e2 e3 (hD.2 q0 _ hq)) hL
abbrev aI (c : ClassId) (N : Nat) (f : Nat → Int32) : va_E := .inl (c, N, .inl f)
abbrev aQ (c : ClassId) (N : Nat) (f : Nat → Option Nat) : va_E := .inl (c, N, .inr (.inr (.inr (.inr f))))
theorem x_iald (B : XB D X own cc ret nm nL et fr lo mc ms Rl Rx) (np : Nat) {N j : Nat} {f : Nat → Int32} {i : Int32} (ha : XRd D cs a (aI (D.2.1 0) N f)) (hi : i = nI j) (hj : j < N ∧ N < 2147483648) (d : decode cc pc = .ok (.iaload, 1)) (e : pc + 1 = np) (h : WX D X cs k n np L (.int (f j) :: st)) : WX D X cs k n pc L (.int i :: .ref a :: st) := by
  subst e hi
  obtain ⟨p, l, e0, R, s, m, args, below, meth, c, A, Q⟩ := X
  intro H locs ls hP hD hS hL
  obtain ⟨ws, q0, hP', hq⟩ := xrd_at ha B.2.2.2.2.2.2.1.2 hS hP
  refine va_iald B.1 B.2.1 B.2.2.2.2.2.2.1.1.1 hP' q0 0 hq rfl (vp_in_nI hj.1 hj.2) d ?_
  rw [nI_clamp (Nat.lt_trans hj.1 hj.2)]
  exact h H locs ls hP hD hS hL
theorem x_bald (B : XB D X own cc ret nm nL et fr lo mc ms Rl Rx) (np : Nat) {N j : Nat} {f : Nat → Int32} {i : Int32} (ha : XRd D cs a (aI (D.2.1 1) N f)) (hi : i = nI j) (hj : j < N ∧ N < 2147483648) (d : decode cc pc = .ok (.baload, 1)) (e : pc + 1 = np) (h : WX D X cs k n np L (.int (f j) :: st)) : WX D X cs k n pc L (.int i :: .ref a :: st) := by
  subst e hi
  obtain ⟨p, l, e0, R, s, m, args, below, meth, c, A, Q⟩ := X
  intro H locs ls hP hD hS hL
  obtain ⟨ws, q0, hP', hq⟩ := xrd_at ha B.2.2.2.2.2.2.1.2 hS hP
  refine va_bald B.1 B.2.1 B.2.2.2.2.2.2.1.1.1 hP' q0 1 hq rfl (vp_in_nI hj.1 hj.2) d ?_
  rw [nI_clamp (Nat.lt_trans hj.1 hj.2)]
  exact h H locs ls hP hD hS hL
theorem x_sald (B : XB D X own cc ret nm nL et fr lo mc ms Rl Rx) (np : Nat) {N j : Nat} {f : Nat → Int32} {i : Int32} (ha : XRd D cs a (aI (D.2.1 2) N f)) (hi : i = nI j) (hj : j < N ∧ N < 2147483648) (d : decode cc pc = .ok (.saload, 1)) (e : pc + 1 = np) (h : WX D X cs k n np L (.int (f j) :: st)) : WX D X cs k n pc L (.int i :: .ref a :: st) := by
  subst e hi
  obtain ⟨p, l, e0, R, s, m, args, below, meth, c, A, Q⟩ := X
  intro H locs ls hP hD hS hL
  obtain ⟨ws, q0, hP', hq⟩ := xrd_at ha B.2.2.2.2.2.2.1.2 hS hP
  refine va_sald B.1 B.2.1 B.2.2.2.2.2.2.1.1.1 hP' q0 2 hq rfl (vp_in_nI hj.1 hj.2) d ?_
  rw [nI_clamp (Nat.lt_trans hj.1 hj.2)]
  exact h H locs ls hP hD hS hL
theorem x_zald (B : XB D X own cc ret nm nL et fr lo mc ms Rl Rx) (np : Nat) {N j : Nat} {f : Nat → Int32} {i : Int32} (ha : XRd D cs a (aI (D.2.1 3) N f)) (hi : i = nI j) (hj : j < N ∧ N < 2147483648) (d : decode cc pc = .ok (.baload, 1)) (e : pc + 1 = np) (h : WX D X cs k n np L (.int (f j) :: st)) : WX D X cs k n pc L (.int i :: .ref a :: st) := by
  subst e hi
  obtain ⟨p, l, e0, R, s, m, args, below, meth, c, A, Q⟩ := X
  intro H locs ls hP hD hS hL
  obtain ⟨ws, q0, hP', hq⟩ := xrd_at ha B.2.2.2.2.2.2.1.2 hS hP
  refine va_zald B.1 B.2.1 B.2.2.2.2.2.2.1.1.1 hP' q0 3 hq rfl (vp_in_nI hj.1 hj.2) d ?_
  rw [nI_clamp (Nat.lt_trans hj.1 hj.2)]
  exact h H locs ls hP hD hS hL
theorem x_iast (B : XB D X own cc ret nm nL et fr lo mc ms Rl Rx) (np : Nat) {N j : Nat} {f : Nat → Int32} {i x : Int32} (hu : XUp cs a (aI (D.2.1 0) N f) (aI (D.2.1 0) N (upd f j x)) cs') (hi : i = nI j) (hj : j < N ∧ N < 2147483648) (d : decode cc pc = .ok (.iastore, 1)) (e : pc + 1 = np) (h : WX D X cs' k n np L st) : WX D X cs k n pc L (.int x :: .int i :: .ref a :: st) := by
  subst e hi
  obtain ⟨p, l, e0, R, s, m, args, below, meth, c, A, Q⟩ := X
  intro H locs ls hP hD hS hL
  obtain ⟨q0, hq, hq'⟩ := hu
  refine va_iast B.1 B.2.1 B.2.2.2.2.2.2.1.1.1 hP hD hS q0 0 hq rfl (vp_in_nI hj.1 hj.2) d (fun H1 locs1 hP1 hD1 hS1 => ?_)
  rw [nI_clamp (Nat.lt_trans hj.1 hj.2)] at hP1 hD1
  exact h H1 locs1 ls (by rw [hq']; exact hP1) (by rw [hq']; exact hD1) hS1 hL
theorem x_bast (B : XB D X own cc ret nm nL et fr lo mc ms Rl Rx) (np : Nat) {N j : Nat} {f : Nat → Int32} {i x y : Int32} (hu : XUp cs a (aI (D.2.1 1) N f) (aI (D.2.1 1) N (upd f j y)) cs') (hi : i = nI j) (hj : j < N ∧ N < 2147483648) (hy : vp_nar .byte x = y) (d : decode cc pc = .ok (.bastore, 1)) (e : pc + 1 = np) (h : WX D X cs' k n np L st) : WX D X cs k n pc L (.int x :: .int i :: .ref a :: st) := by
  subst e hi hy
  obtain ⟨p, l, e0, R, s, m, args, below, meth, c, A, Q⟩ := X
  intro H locs ls hP hD hS hL
  obtain ⟨q0, hq, hq'⟩ := hu
  refine va_bast B.1 B.2.1 B.2.2.2.2.2.2.1.1.1 hP hD hS q0 1 hq rfl (vp_in_nI hj.1 hj.2) d (fun H1 locs1 hP1 hD1 hS1 => ?_)
  rw [nI_clamp (Nat.lt_trans hj.1 hj.2)] at hP1 hD1
  exact h H1 locs1 ls (by rw [hq']; exact hP1) (by rw [hq']; exact hD1) hS1 hL
theorem x_sast (B : XB D X own cc ret nm nL et fr lo mc ms Rl Rx) (np : Nat) {N j : Nat} {f : Nat → Int32} {i x y : Int32} (hu : XUp cs a (aI (D.2.1 2) N f) (aI (D.2.1 2) N (upd f j y)) cs') (hi : i = nI j) (hj : j < N ∧ N < 2147483648) (hy : vp_nar .short x = y) (d : decode cc pc = .ok (.sastore, 1)) (e : pc + 1 = np) (h : WX D X cs' k n np L st) : WX D X cs k n pc L (.int x :: .int i :: .ref a :: st) := by
  subst e hi hy
  obtain ⟨p, l, e0, R, s, m, args, below, meth, c, A, Q⟩ := X
  intro H locs ls hP hD hS hL
  obtain ⟨q0, hq, hq'⟩ := hu
  refine va_sast B.1 B.2.1 B.2.2.2.2.2.2.1.1.1 hP hD hS q0 2 hq rfl (vp_in_nI hj.1 hj.2) d (fun H1 locs1 hP1 hD1 hS1 => ?_)
  rw [nI_clamp (Nat.lt_trans hj.1 hj.2)] at hP1 hD1
  exact h H1 locs1 ls (by rw [hq']; exact hP1) (by rw [hq']; exact hD1) hS1 hL
theorem x_zast (B : XB D X own cc ret nm nL et fr lo mc ms Rl Rx) (np : Nat) {N j : Nat} {f : Nat → Int32} {i x y : Int32} (hu : XUp cs a (aI (D.2.1 3) N f) (aI (D.2.1 3) N (upd f j y)) cs') (hi : i = nI j) (hj : j < N ∧ N < 2147483648) (hy : vp_nar .boolean x = y) (d : decode cc pc = .ok (.bastore, 1)) (e : pc + 1 = np) (h : WX D X cs' k n np L st) : WX D X cs k n pc L (.int x :: .int i :: .ref a :: st) := by
  subst e hi hy
  obtain ⟨p, l, e0, R, s, m, args, below, meth, c, A, Q⟩ := X
  intro H locs ls hP hD hS hL
  obtain ⟨q0, hq, hq'⟩ := hu
  refine va_zast B.1 B.2.1 B.2.2.2.2.2.2.1.1.1 hP hD hS q0 3 hq rfl (vp_in_nI hj.1 hj.2) d (fun H1 locs1 hP1 hD1 hS1 => ?_)
  rw [nI_clamp (Nat.lt_trans hj.1 hj.2)] at hP1 hD1
  exact h H1 locs1 ls (by rw [hq']; exact hP1) (by rw [hq']; exact hD1) hS1 hL
theorem x_alen (B : XB D X own cc ret nm nL et fr lo mc ms Rl Rx) (np : Nat) {t0 N : Nat} {ty : FieldType} {w : (Nat → Int32) ⊕ (Nat → Int64) ⊕ (Nat → UInt32) ⊕ (Nat → UInt64) ⊕ (Nat → Option Nat)} (ht : (xTys D.2.1)[t0]? = some (D.2.1 t0, ty)) (ha : XRd D cs a (.inl (D.2.1 t0, N, w))) (d : decode cc pc = .ok (.arraylength, 1)) (e : pc + 1 = np) (h : WX D X cs k n np L (.int (nI N) :: st)) : WX D X cs k n pc L (.ref a :: st) := by
  subst e
  obtain ⟨p, l, e0, R, s, m, args, below, meth, c, A, Q⟩ := X
  intro H locs ls hP hD hS hL
  obtain ⟨ws, q0, hP', hq⟩ := xrd_at ha B.2.2.2.2.2.2.1.2 hS hP
  exact va_alen (v := nI N) B.1 B.2.1 B.2.2.2.2.2.2.1.1.1 hP' q0 t0 hq ht rfl d (h H locs ls hP hD hS hL)
theorem x_aald (B : XB D X own cc ret nm nL et fr lo mc ms Rl Rx) (np : Nat) {t0 N j : Nat} {ty : FieldType} {f : Nat → Option Nat} {i : Int32} (ht : (xTys D.2.1)[t0]? = some (D.2.1 t0, ty)) (hrf : ty.isReference = true) (ha : XRd D cs a (aQ (D.2.1 t0) N f)) (hi : i = nI j) (hj : j < N ∧ N < 2147483648) (d : decode cc pc = .ok (.aaload, 1)) (e : pc + 1 = np) (h : WX D X cs k n np L (va_rf (f j) :: st)) : WX D X cs k n pc L (.int i :: .ref a :: st) := by
  subst e hi
  obtain ⟨p, l, e0, R, s, m, args, below, meth, c, A, Q⟩ := X
  intro H locs ls hP hD hS hL
  obtain ⟨ws, q0, hP', hq⟩ := xrd_at ha B.2.2.2.2.2.2.1.2 hS hP
  refine W.aald (v := va_rf (f j)) (ty := ty) B.1 B.2.1 (hP' q0 _ hq) ((B.2.2.2.2.2.2.1.1.1.2 t0 _ ht).1 N (fun j => va_rf (f j))) hrf (fun q => by cases q) (by show ¬ (nI j < 0 ∨ (arrV _ _ _).slots.size ≤ _); rw [arrV_size]; exact vp_in_nI hj.1 hj.2) (by show (arrV _ _ _).slots[_]? = _; rw [nI_clamp (Nat.lt_trans hj.1 hj.2), arrV_read _ _ hj.1]) rfl rfl d ?_
  exact h H locs ls hP hD hS hL
theorem x_aalds (B : XB D X own cc ret nm nL et fr lo mc ms Rl Rx) (np : Nat) {t0 N j q : Nat} {ty : FieldType} {f : Nat → Option Nat} {i : Int32} (ht : (xTys D.2.1)[t0]? = some (D.2.1 t0, ty)) (hrf : ty.isReference = true) (ha : XRd D cs a (aQ (D.2.1 t0) N f)) (hi : i = nI j) (hj : j < N ∧ N < 2147483648) (hr : f j = some q) (d : decode cc pc = .ok (.aaload, 1)) (e : pc + 1 = np) (h : WX D X cs k n np L (.ref q :: st)) : WX D X cs k n pc L (.int i :: .ref a :: st) :=
  x_aald B np ht hrf ha hi hj d e (by rw [hr]; exact h)
theorem x_aaldn (B : XB D X own cc ret nm nL et fr lo mc ms Rl Rx) (np : Nat) {t0 N j : Nat} {ty : FieldType} {f : Nat → Option Nat} {i : Int32} (ht : (xTys D.2.1)[t0]? = some (D.2.1 t0, ty)) (hrf : ty.isReference = true) (ha : XRd D cs a (aQ (D.2.1 t0) N f)) (hi : i = nI j) (hj : j < N ∧ N < 2147483648) (hr : f j = none) (d : decode cc pc = .ok (.aaload, 1)) (e : pc + 1 = np) (h : WX D X cs k n np L (.null :: st)) : WX D X cs k n pc L (.int i :: .ref a :: st) :=
  x_aald B np ht hrf ha hi hj d e (by rw [hr]; exact h)
/-- the object at v may lie in a row of E -/
def XAny (D : xG) (cs : List va_W) (v : Nat) (E : String) : Prop := ∃ ev : va_E, XRd D cs v ev ∧ ((∃ (ci : Nat) (fs : List Value) (q : vw_C), ev = .inr (ci, fs) ∧ xCl[ci]? = some q ∧ (q.1 = E ∨ Cond.castable q.1 E ∈ lw_tbl)) ∨ ∃ (t0 N : Nat) (ty : FieldType) (w : (Nat → Int32) ⊕ (Nat → Int64) ⊕ (Nat → UInt32) ⊕ (Nat → UInt64) ⊕ (Nat → Option Nat)), ev = .inl (D.2.1 t0, N, w) ∧ (xTys D.2.1)[t0]? = some (D.2.1 t0, ty) ∧ Cond.castable ("[" ++ ty.toString) E ∈ lw_tbl)
theorem vp_cell_vm (c : ClassId) (x : vp_A) : (vp_cell c x).vm = .none ∧ (vp_cell c x).cls = c := by
  obtain ⟨N, w⟩ := x
  rcases w with f | f | f | f | f <;> exact ⟨rfl, rfl⟩
theorem xrA_find {s : State} {c : ClassId} {ty : FieldType} (h : va_RA s c ty) : s.vm.findClass ("[" ++ ty.toString) = some c := by
  cases ty <;> first | exact h | (obtain ⟨_, _, _, _, _, h4⟩ := h; exact h4)
theorem xany {s : State} {A : Nat → Prop} {H : Heap} {locs : List Loc} {v : Nat} {E : String} (h : XAny D cs v E) (hP : va_P D.1 xCl (xf cs) H) (hS : va_S A s.heap H locs) (hK : KA D A s s.heap) : va_Any E s H v := by
  obtain ⟨ev, hr, h⟩ := h
  obtain ⟨ws, q0, hP', hq⟩ := xrd_at hr hK.2 hS hP
  rcases h with ⟨ci, fs, q, rfl, hc, h⟩ | ⟨t0, N, ty, w, rfl, ht, hcast⟩
  · refine va_rAny hK.1.1 hP' hq hc fun comp c0 h1 h2 => ?_
    rcases h with rfl | h
    · cases h1.symm.trans h2
      exact va_assign (hK.1.1.1 ci q hc).2 |> fun z => by
        have := (hK.1.1.1 ci q hc).2.1
        cases this.symm.trans h1
        exact z
    · obtain ⟨c3, t3, f1, f2, f3⟩ := Cond.castable_spec (va_Nw.use (A := #[]) rfl (hK.1.2.1 _ h rfl))
      cases f1.symm.trans h2
      cases f2.symm.trans h1
      exact f3
  · have hc : H[v]? = some (vp_cell (D.2.1 t0) (N, w)) := hP' q0 _ hq
    obtain ⟨e1, e2⟩ := vp_cell_vm (D.2.1 t0) (N, w)
    have hf := xrA_find (hK.1.1.2 t0 _ ht).2
    obtain ⟨kC, hkC, -⟩ := Vm.findClass_spec hf
    refine ⟨_, hc, by rw [e1]; rfl, ⟨kC, by rw [e2]; exact hkC⟩, fun comp h1 => ?_⟩
    obtain ⟨c3, t3, f1, f2, f3⟩ := Cond.castable_spec (va_Nw.use (A := #[]) rfl (hK.1.2.1 _ hcast rfl))
    cases f1.symm.trans hf
    cases f2.symm.trans h1
    rw [e2]
    exact f3
theorem x_aast (B : XB D X own cc ret nm nL et fr lo mc ms Rl Rx) (np : Nat) {t0 N j v : Nat} {E : String} {f : Nat → Option Nat} {i : Int32} (ht : (xTys D.2.1)[t0]? = some (D.2.1 t0, .object E)) (hv : XAny D cs v E) (hi : i = nI j) (hj : j < N ∧ N < 2147483648) (hu : XUp cs a (aQ (D.2.1 t0) N f) (aQ (D.2.1 t0) N (va_up f j (some v))) cs') (d : decode cc pc = .ok (.aastore, 1)) (e : pc + 1 = np) (h : WX D X cs' k n np L st) : WX D X cs k n pc L (.ref v :: .int i :: .ref a :: st) := by
  subst e hi
  obtain ⟨p, l, e0, R, s, m, args, below, meth, c, A, Q⟩ := X
  intro H locs ls hP hD hS hL
  obtain ⟨q0, hq, hq'⟩ := hu
  have hK := B.2.2.2.2.2.2.1
  refine va_astqM B.1 B.2.1 hK.1.1 hP hD hS q0 t0 hq ht (xany hv hP hS hK) (vp_in_nI hj.1 hj.2) d (fun H1 locs1 hP1 hD1 hS1 => ?_)
  rw [nI_clamp (Nat.lt_trans hj.1 hj.2)] at hP1 hD1
  exact h H1 locs1 ls (by rw [hq']; exact hP1) (by rw [hq']; exact hD1) hS1 hL
theorem x_aastN (B : XB D X own cc ret nm nL et fr lo mc ms Rl Rx) (np : Nat) {t0 N j : Nat} {E : String} {f : Nat → Option Nat} {i : Int32} (ht : (xTys D.2.1)[t0]? = some (D.2.1 t0, .object E)) (hi : i = nI j) (hj : j < N ∧ N < 2147483648) (hu : XUp cs a (aQ (D.2.1 t0) N f) (aQ (D.2.1 t0) N (va_up f j none)) cs') (d : decode cc pc = .ok (.aastore, 1)) (e : pc + 1 = np) (h : WX D X cs' k n np L st) : WX D X cs k n pc L (.null :: .int i :: .ref a :: st) := by
  subst e hi
  obtain ⟨p, l, e0, R, s, m, args, below, meth, c, A, Q⟩ := X
  intro H locs ls hP hD hS hL
  obtain ⟨q0, hq, hq'⟩ := hu
  have hK := B.2.2.2.2.2.2.1
  refine va_astqN B.1 B.2.1 hK.1.1 hP hD hS q0 t0 hq ht (vp_in_nI hj.1 hj.2) d (fun H1 locs1 hP1 hD1 hS1 => ?_)
  rw [nI_clamp (Nat.lt_trans hj.1 hj.2)] at hP1 hD1
  exact h H1 locs1 ls (by rw [hq']; exact hP1) (by rw [hq']; exact hD1) hS1 hL
/-- a row of ints into a row of rows of ints -/
theorem x_aastA (B : XB D X own cc ret nm nL et fr lo mc ms Rl Rx) (np : Nat) {N M j v : Nat} {f : Nat → Option Nat} {g : Nat → Int32} {i : Int32} (hv : XRd D cs v (aI (D.2.1 0) M g)) (hi : i = nI j) (hj : j < N ∧ N < 2147483648) (hu : XUp cs a (aQ (D.2.1 5) N f) (aQ (D.2.1 5) N (va_up f j (some v))) cs') (d : decode cc pc = .ok (.aastore, 1)) (e : pc + 1 = np) (h : WX D X cs' k n np L st) : WX D X cs k n pc L (.ref v :: .int i :: .ref a :: st) := by
  subst e hi
  obtain ⟨p, l, e0, R, s, m, args, below, meth, c, A, Q⟩ := X
  intro H locs ls hP hD hS hL
  obtain ⟨q0, hq, hq'⟩ := hu
  have hK := B.2.2.2.2.2.2.1
  obtain ⟨ws, q1, hP', hqv⟩ := xrd_at hv hK.2 hS hP
  have hcv : H[v]? = some (vp_cell (D.2.1 0) (M, .inl g)) := hP' q1 _ hqv
  obtain ⟨k4, k5, -, -, hk5, hkind⟩ := hK.1.2.2.2.2.2.2
  have hf := xrA_find (hK.1.1.2 0 _ rfl).2
  obtain ⟨kC, hkC, -⟩ := Vm.findClass_spec hf
  have hr : s.vm.assignable (D.2.1 0) (D.2.1 0) = true := by
    show Vm.assignableAux s.vm (255 + 1) _ _ = true
    rw [Vm.assignableAux, beq_self_eq_true, Bool.true_or]
  refine W.aast B.1 B.2.1 (hP q0 _ hq) (fun q h => by cases h) (fun h => by cases h) hk5 hkind rfl hkC ⟨nI_pos (Nat.lt_trans hj.1 hj.2), by show _ < (arrV _ _ _).slots.size; rw [arrV_size, nI_clamp (Nat.lt_trans hj.1 hj.2)]; exact hj.1⟩ hcv (fun q h => by cases h) hkC hr rfl rfl d fun H1 e z oq => ?_
  have hP1 : va_P D.1 xCl ((xf cs).set q0 (a, aQ (D.2.1 5) N (va_up f j (some v)))) H1 := by
    refine hP.set hD hq ?_ oq
    show H1[a]? = some (vp_cell _ _)
    rw [e, nI_clamp (Nat.lt_trans hj.1 hj.2)]
    show some ((vp_cell _ _).setSlot _ _) = _
    rw [vp_cell_q, vp_cell_q, arrV_store]
    congr 2
    funext q
    by_cases hq : q = j
    · subst hq
      simp [updV, va_up, va_rf]
    · simp [updV, va_up, hq]
  exact h H1 _ ls (by rw [hq']; exact hP1) (by rw [hq']; exact hD.set hq) (hS.put z oq (hD.2 q0 _ hq)) hL
theorem xcons {D : va_G} {A : Nat → Prop} {ws : va_W} {q : Nat × va_E} {H : Heap} (hP : va_P D xCl (ws ++ [q]) H) (hD : va_D A (ws ++ [q])) : va_P D xCl (q :: ws) H ∧ va_D A (q :: ws) :=
  ⟨hP.perm List.perm_append_comm, hD.perm List.perm_append_comm⟩
/-- a fresh object -/
theorem x_new (B : XB D X own cc ret nm nL et fr lo mc ms Rl Rx) (np : Nat) {C : String} {T : u_T} {N ci i : Nat} {fs : List Value} (hin : ∀ w ∈ u_ws C T N, w ∈ lw_all) (ty0 : Nat → FieldType) (hty : ∀ k, k < N → parseFieldDescriptor (T k).2.2.1 = some (ty0 k)) (w1 : Cond.classLink own i C ∈ lw_all) (w2 : Cond.instantiable C N ∈ lw_all) (w3 : Cond.initialized C ∈ lw_all) (hc : xCl[ci]? = some (C, T, N)) (hfs : ∀ j, j < N → defaultValue (ty0 j) = vp_V fs j) (hC : k + 1 ≤ mc ∧ n + N ≤ ms) (d : decode cc pc = .ok (.new i, 3)) (e : pc + 3 = np) (h : ∀ q : Nat, WX D X ([(q, .inr (ci, fs))] :: cs) (k + 1) (n + N) np L (.ref q :: st)) : WX D X cs k n pc L st := by
  subst e
  obtain ⟨p, l, e0, R, s, m, args, below, meth, c, A, Q⟩ := X
  intro H locs ls hP hD hS hL
  obtain ⟨hx, hb, -, -, hown, hts, hKA, hA0, hRm, -⟩ := B
  subst hRm
  refine va_new hx hb hts hin ty0 hty hown (hts _ w1) (hts _ w2) (hts _ w3) hKA.1.1 hP hD hS hA0 hc hfs hC.1 hC.2 d (fun q H1 hP1 hD1 hS1 => ?_)
  obtain ⟨hP2, hD2⟩ := xcons hP1 hD1
  exact h q H1 locs ls hP2 hD2 hS1 hL
/-- a fresh row of numbers -/
theorem x_newa (B : XB D X own cc ret nm nL et fr lo mc ms Rl Rx) (np : Nat) {atype : ArrayType} {t0 N : Nat} {ty : FieldType} {i : Int32} (hty : newarray.typeOf atype = ty) (w1 : Cond.arrayClass ty ∈ lw_all) (ht : (xTys D.2.1)[t0]? = some (D.2.1 t0, ty)) (h0 : defaultValue ty = .int 0) (hi : i = nI N) (hN : N < 2147483648) (hb9 : N * componentBytes ty ≤ 536870912) (hC : k + 1 ≤ mc ∧ n + N ≤ ms) (d : decode cc pc = .ok (.newarray atype, 2)) (e : pc + 2 = np) (h : ∀ q : Nat, WX D X ([(q, aI (D.2.1 t0) N (fun _ => 0))] :: cs) (k + 1) (n + N) np L (.ref q :: st)) : WX D X cs k n pc L (.int i :: st) := by
  subst e hi hty
  obtain ⟨p, l, e0, R, s, m, args, below, meth, c, A, Q⟩ := X
  intro H locs ls hP hD hS hL
  obtain ⟨hx, hb, -, -, hown, hts, hKA, hA0, hRm, -⟩ := B
  subst hRm
  refine va_newa (a0 := (N, .inl (fun _ => 0))) hx hb (hts _ w1) rfl hKA.1.1 hP hD hS hA0 (fun cA => by rw [h0]; rfl) (nI_pos hN) (nI_clamp hN) hb9 hC.1 hC.2 d (fun q cA H1 hK1 hP1 hD1 hS1 => ?_)
  have e1 := xrA_find (hK1.2 (xTys D.2.1).length (cA, newarray.typeOf atype) (by simp)).2
  have e2 := xrA_find (hKA.1.1.2 t0 _ ht).2
  cases e1.symm.trans e2
  obtain ⟨hP2, hD2⟩ := xcons hP1 hD1
  exact h q H1 locs ls hP2 hD2 hS1 hL
end XHEAP
