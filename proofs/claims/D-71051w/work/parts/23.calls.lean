/-! MY LAYER, 4: calls, returns, throws -/
theorem xf_clr : ∀ {cs : List va_W} {i : Nat} {w : va_W}, cs[i]? = some w → (xf cs).Perm (w ++ xf (cs.set i []))
  | [], i, w, h => by simp at h
  | c :: t, 0, w, h => by
    obtain rfl : c = w := by simpa using h
    exact List.Perm.refl _
  | c :: t, i + 1, w, h => by
    have ih := xf_clr (cs := t) (i := i) (w := w) (by simpa using h)
    show (c ++ xf t).Perm (w ++ (c ++ xf (t.set i [])))
    refine (ih.append_left c).trans ?_
    rw [← List.append_assoc, ← List.append_assoc]
    exact List.perm_append_comm.append_right _
theorem xf_put : ∀ {cs : List va_W} {i : Nat} (w' : va_W), i < cs.length → (xf (cs.set i w')).Perm (w' ++ xf (cs.set i []))
  | [], i, w', h => by simp at h
  | c :: t, 0, w', h => List.Perm.refl _
  | c :: t, i + 1, w', h => by
    have ih := xf_put (cs := t) (i := i) w' (by simpa using h)
    show (c ++ xf (t.set i w')).Perm (w' ++ (c ++ xf (t.set i [])))
    refine (ih.append_left c).trans ?_
    rw [← List.append_assoc, ← List.append_assoc]
    exact List.perm_append_comm.append_right _
def xclr : List va_W → List Nat → List va_W
  | cs, [] => cs
  | cs, i :: is => xclr (cs.set i []) is
def xpre : List va_W → List va_W → List va_W
  | [], cs => cs
  | w :: t, cs => w :: xpre t cs
/-- what came back, in the places of what went in; what is new stands ahead -/
def xput : List va_W → List Nat → List va_W → List va_W
  | cs, [], new => xpre new cs
  | cs, i :: is, [] => xput (cs.set i []) is []
  | cs, i :: is, w :: new => xput (cs.set i w) is new
def xst (v : Option Value) (rest : List Value) : List Value := match v with
  | none => rest
  | some v => v :: rest
theorem xst_eq (v : Option Value) (rest : List Value) : v.toList ++ rest = xst v rest := by cases v <;> rfl
theorem xf_pre : ∀ (new cs : List va_W), xf (xpre new cs) = xf new ++ xf cs
  | [], cs => rfl
  | w :: t, cs => by
    show w ++ xf (xpre t cs) = (w ++ xf t) ++ xf cs
    rw [xf_pre t cs, List.append_assoc]
theorem xclr_set : ∀ (is : List Nat) (cs : List va_W) (i : Nat) (w : va_W), i ∉ is → i < cs.length → (xf (xclr (cs.set i w) is)).Perm (w ++ xf (xclr (cs.set i []) is))
  | [], cs, i, w, _, hl => xf_put w hl
  | j :: is, cs, i, w, hn, hl => by
    have hij : i ≠ j := fun e => hn (by rw [e]; exact List.mem_cons_self)
    show (xf (xclr ((cs.set i w).set j []) is)).Perm (w ++ xf (xclr ((cs.set i []).set j []) is))
    rw [List.set_comm _ _ hij, List.set_comm _ _ hij]
    exact xclr_set is (cs.set j []) i w (fun h => hn (List.mem_cons_of_mem _ h)) (by simpa using hl)
theorem xsel_perm : ∀ (is : List Nat) (cs cin : List va_W), va_nd is = true → is.map (fun i => cs[i]?) = cin.map some → (xf cs).Perm (xf cin ++ xf (xclr cs is))
  | [], cs, cin, _, h => by
    obtain rfl : cin = [] := by simpa using h.symm
    exact List.Perm.refl _
  | i :: is, cs, [], _, h => by simp at h
  | i :: is, cs, w :: cin, hn, h => by
    simp only [List.map_cons, List.cons.injEq] at h
    simp only [va_nd, Bool.and_eq_true, decide_eq_true_eq] at hn
    have h2 : is.map (fun j => (cs.set i [])[j]?) = cin.map some := by
      rw [← h.2]
      refine List.map_congr_left fun j hj => ?_
      rw [List.getElem?_set_ne (fun (e : i = j) => hn.1 (by rw [e]; exact hj))]
    have ih := xsel_perm is (cs.set i []) cin hn.2 h2
    refine (xf_clr h.1).trans ?_
    show (w ++ xf (cs.set i [])).Perm ((w ++ xf cin) ++ xf (xclr (cs.set i []) is))
    rw [List.append_assoc]
    exact ih.append_left w
theorem xput_perm : ∀ (is : List Nat) (cs new : List va_W), va_nd is = true → (∀ i ∈ is, i < cs.length) → (xf (xput cs is new)).Perm (xf new ++ xf (xclr cs is))
  | [], cs, new, _, _ => by rw [xput, xf_pre]; exact List.Perm.refl _
  | i :: is, cs, [], hn, hl => by
    simp only [va_nd, Bool.and_eq_true, decide_eq_true_eq] at hn
    exact xput_perm is (cs.set i []) [] hn.2 (fun j hj => by rw [List.length_set]; exact hl j (List.mem_cons_of_mem _ hj))
  | i :: is, cs, w :: new, hn, hl => by
    simp only [va_nd, Bool.and_eq_true, decide_eq_true_eq] at hn
    have ih := xput_perm is (cs.set i w) new hn.2 (fun j hj => by rw [List.length_set]; exact hl j (List.mem_cons_of_mem _ hj))
    refine ih.trans ?_
    show (xf new ++ xf (xclr (cs.set i w) is)).Perm ((w ++ xf new) ++ xf (xclr (cs.set i []) is))
    refine ((xclr_set is cs i w hn.1 (hl i List.mem_cons_self)).append_left (xf new)).trans ?_
    rw [← List.append_assoc]
    exact List.perm_append_comm.append_right _
theorem xsel_lt {is : List Nat} {cs cin : List va_W} (h : is.map (fun i => cs[i]?) = cin.map some) : ∀ i ∈ is, i < cs.length := by
  intro i hi
  have h1 : cs[i]? ∈ cin.map some := by rw [← h]; exact List.mem_map.mpr ⟨i, hi, rfl⟩
  obtain ⟨w, -, hw⟩ := List.mem_map.mp h1
  exact (List.getElem?_eq_some_iff.mp hw.symm).1
theorem xA_in {A : Nat → Prop} {ws wc wr : va_W} {n : Nat} {s : Heap} (hp : ws.Perm (wc ++ wr)) (hD : va_D A ws) (hA : ∀ q, s.size ≤ q → A q) (hs : s.size ≤ n) : ∀ q, va_A wc n q → A q := by
  intro q h
  rcases h with ⟨k, e, h⟩ | h
  · exact (va_D_iff.mp hD).2 (q, e) (hp.mem_iff.mpr (List.mem_append_left _ (List.mem_of_getElem? h)))
  · exact hA q (Nat.le_trans hs h)
theorem xjoin {D : va_G} {A : Nat → Prop} {ws wc wr w1 w2 : va_W} {H H1 : Heap} {A0 : Nat → Prop} (hp : ws.Perm (wc ++ wr)) (hp2 : w2.Perm (w1 ++ wr)) (hP : va_P D xCl ws H) (hD : va_D A ws)
    (hk : ∀ q : Nat, q < H.size → ¬ va_A wc H.size q → H1[q]? = H[q]?) (hF : ∀ q, va_A wc H.size q → A q) (hP1 : va_P D xCl w1 H1) (hD1 : va_D (va_A wc H.size) w1) : va_P D xCl w2 H1 ∧ va_D A w2 := by
  have hP' := va_P_iff.mp (hP.perm hp)
  obtain ⟨hn, hA⟩ := va_D_iff.mp (hD.perm hp)
  obtain ⟨hn1, hA1⟩ := va_D_iff.mp hD1
  rw [List.map_append, List.nodup_append] at hn
  have apart : ∀ q ∈ wr, q.1 < H.size ∧ ¬ va_A wc H.size q.1 := by
    intro q hq
    have hl := (hP' q (List.mem_append_right _ hq)).lt
    refine ⟨hl, fun h => ?_⟩
    rcases h with ⟨k2, e, h⟩ | h
    · exact hn.2.2 q.1 (List.mem_map.mpr ⟨(q.1, e), List.mem_of_getElem? h, rfl⟩) q.1 (List.mem_map.mpr ⟨q, hq, rfl⟩) rfl
    · omega
  constructor
  · refine va_P_iff.mpr fun q hq => ?_
    rcases List.mem_append.mp (hp2.mem_iff.mp hq) with h | h
    · exact va_P_iff.mp hP1 q h
    · obtain ⟨g1, g2⟩ := apart q h
      exact (hP' q (List.mem_append_right _ h)).kept (hk q.1 g1 g2)
  · refine va_D.perm hp2.symm (va_D_iff.mpr ⟨?_, fun q hq => ?_⟩)
    · rw [List.map_append, List.nodup_append]
      refine ⟨hn1, hn.2.1, fun x hx y hy e => ?_⟩
      obtain ⟨q1, m1, rfl⟩ := List.mem_map.mp hx
      obtain ⟨q2, m2, rfl⟩ := List.mem_map.mp hy
      exact (apart q2 m2).2 (by rw [← e]; exact hA1 q1 m1)
    · rcases List.mem_append.mp hq with h | h
      · exact hF _ (hA1 q h)
      · exact hA q (List.mem_append_right _ h)
section XCALLS
variable {D : xG} {X : XX} {own : String} {cc : ByteArray} {ret : Option FieldType} {nm : String} {nL : Nat} {et : List ExceptionTableEntry} {fr lo mc ms : Nat} {Rl : Option Value → List va_W → Prop} {Rx : String → Nat → List va_W → Prop} {cs cs' : List va_W} {k n pc : Nat} {L : List (Option Value)} {st : List Value} {a : Nat}
/-- a call, from what the kit's row of it says -/
theorem x_core {p : Program} {l : Launch} {e0 : Env} {R : Room} {s : State} {m : MethodId} {args : Array Value} {below : List Frame} {meth : Method} {c : Code} {A : Nat → Prop} {Q : State → Prop} {H : Heap} {locs : List Loc} {ls : Array Slot} (len : Nat)
    {mc' ms' : Nat} {a' : Array Value} {rest : List Value} {cin : List va_W} {Rl' : Option Value → List va_W → Prop} {Rx' : String → Nat → List va_W → Prop} (is : List Nat) (sel : is.map (fun i => cs[i]?) = cin.map some) (nd : va_nd is = true)
    (hP : va_P D.1 xCl (xf cs) H) (hD : va_D A (xf cs)) (hS : va_S A s.heap H locs) (hL : xhas c.maxLocals ls L) (hA0 : ∀ q, s.heap.size ≤ q → A q)
    (hr : ∀ T : State, T.heap = H → Stand p l e0 R s m args below meth c T locs k n →
    (∃ (v : Option Value) (st₀ t T' : State) (L : List Loc), st₀.heap = H ∧ Stand p l e0 R s m args below meth c T' (locs ++ L) (k + mc') (n + ms') ∧ (∀ q ∈ L, va_A (xf cin) H.size q.base) ∧ T'.heap = t.heap ∧ T'.vm = t.vm ∧ xQ D Rl' (va_A (xf cin) H.size) a' st₀ (.returned v) t ∧
      Goes p e0 below T (F0 m pc ls st) T' { F0 m pc ls st with pc := pc + len, stack := v.toList ++ rest }) ∨
    (∃ (q : Addr) (st₀ t T' : State) (L : List Loc) (E : String) (ce : Cell), st₀.heap = H ∧ Stand p l e0 R s m args below meth c T' (locs ++ L) (k + mc') (n + ms') ∧ (∀ z ∈ L, va_A (xf cin) H.size z.base) ∧ T'.heap = t.heap ∧ T'.vm = t.vm ∧ xX D Rx' (va_A (xf cin) H.size) E q st₀ t ∧ t.heap[q]? = some ce ∧ ce.vm = .none ∧ s.vm.findClass E = some ce.cls ∧
      Steps p.tables e0 below (T.setTop (F0 m pc ls st)) ((T'.setTop { F0 m pc ls st with stack := rest }).pushFrame (.throwing q))))
    (kx : ∀ E q cs2, Rx' E q cs2 → WT D (p, l, e0, R, s, m, args, below, meth, c, A, Q) (xput cs is cs2) (k + mc') (n + ms') pc L E q)
    (kk : ∀ v cs2, Rl' v cs2 → WX D (p, l, e0, R, s, m, args, below, meth, c, A, Q) (xput cs is cs2) (k + mc') (n + ms') (pc + len) L (xst v rest)) :
    W p l e0 R s m args below meth c H locs k n Q (F0 m pc ls st) := by
  have hp := xsel_perm is cs cin nd sel
  have hF := xA_in hp hD hA0 hS.1
  intro T hT X
  rcases hr T hT X with ⟨v, st₀, t, T', L', h0, X', hL', e1, e2, ⟨⟨v', cs2, hv, hR, hP1, hD1⟩, hFr⟩, stp⟩ | ⟨q, st₀, t, T', L', E, ce, h0, X', hL', e1, e2, ⟨⟨cs2, hR, hP1, hD1⟩, hFr⟩, hce, hcv, hcl, stp⟩
  · cases hv
    obtain ⟨k1, k2, k3⟩ := vx_keep h0 e1 hS (fun q _ h => hF q h) hF hL' hFr
    obtain ⟨hP2, hD2⟩ := xjoin (A0 := A) hp (xput_perm is cs cs2 nd (xsel_lt sel)) hP hD k2 hF (by rw [e1]; exact hP1) hD1
    obtain ⟨t2, a1, b1⟩ := kk v cs2 hR T'.heap (locs ++ L') ls hP2 hD2 k3 hL T' rfl X'
    rw [← xst_eq] at a1
    exact ⟨t2, stp t2 a1, b1⟩
  · obtain ⟨k1, k2, k3⟩ := vx_keep h0 e1 hS (fun q _ h => hF q h) hF hL' hFr
    obtain ⟨hP2, hD2⟩ := xjoin (A0 := A) hp (xput_perm is cs cs2 nd (xsel_lt sel)) hP hD k2 hF (by rw [e1]; exact hP1) hD1
    obtain ⟨t2, a1, b1⟩ := kx E q cs2 hR T'.heap (locs ++ L') ls ce rest hP2 hD2 k3 hL (by rw [e1]; exact hce) hcv hcl T' rfl X'
    exact ⟨t2, stp.trans a1, b1⟩
/-- the callee's start holds where it is called -/
theorem xpc {s : State} {A : Nat → Prop} {H : Heap} {locs : List Loc} {cin : List va_W} (is : List Nat) (sel : is.map (fun i => cs[i]?) = cin.map some) (nd : va_nd is = true)
    (hP : va_P D.1 xCl (xf cs) H) (hD : va_D A (xf cs)) (hS : va_S A s.heap H locs) (hA0 : ∀ q, s.heap.size ≤ q → A q) (hK : KA D A s s.heap) {U : State} (hU : U.heap = H) (hW : s.WarmedH U.vm) : U.heap.size = H.size ∧ va_P D.1 xCl (xf cin) U.heap ∧ KA D (va_A (xf cin) H.size) U U.heap ∧ va_D (fun _ => True) (xf cin) := by
  have hp := xsel_perm is cs cin nd sel
  have hF := xA_in hp hD hA0 hS.1
  have hP' := va_P_iff.mp (hP.perm hp)
  obtain ⟨hn, hA⟩ := va_D_iff.mp (hD.perm hp)
  rw [List.map_append, List.nodup_append] at hn
  rw [hU]
  exact ⟨rfl, va_P_iff.mpr fun q hq => hP' q (List.mem_append_left _ hq), ⟨hK.1.warm hW, ((hK.2.kept hS.2.1).narrow hF).moved hW.alike⟩, va_D_iff.mpr ⟨hn.1, fun _ _ => trivial⟩⟩
theorem xblind {Bd : Nat} {cin : List va_W} {av : List Value} : FrameBlind (va_Pc av (fun U => U.heap.size = Bd ∧ va_P D.1 xCl (xf cin) U.heap ∧ KA D (va_A (xf cin) Bd) U U.heap ∧ va_D (fun _ => True) (xf cin))) := by
  intro v U g mk q
  obtain ⟨q0, q1, q2, q3, q4⟩ := q
  exact ⟨q0, q1, q2, ⟨q3.1.warm (U := U.calling g mk v) (State.WarmedH.refl U), q3.2.moved (U := U.calling g mk v) (Vm.Alike.refl U.vm)⟩, q4⟩
/-- the receiver is an object of class C -/
def XRc (D : xG) (cs : List va_W) (b : Nat) (C : String) : Prop := ∃ (ci : Nat) (q : vw_C) (fs : List Value), XRd D cs b (.inr (ci, fs)) ∧ xCl[ci]? = some q ∧ q.1 = C
theorem xrecv {s : State} {A : Nat → Prop} {H : Heap} {locs : List Loc} {b : Nat} {C : String} (h : XRc D cs b C) (hP : va_P D.1 xCl (xf cs) H) (hS : va_S A s.heap H locs) (hK : KA D A s s.heap) : ∃ cell : Cell, H[b]? = some cell ∧ cell.vm.isStatics = false ∧ s.vm.findClass C = some cell.cls := by
  obtain ⟨ci, q, fs, hr, hc, rfl⟩ := h
  obtain ⟨ws, q0, hP', hq⟩ := xrd_at hr hK.2 hS hP
  exact va_recv hK.1.1 hP' hc hq
theorem x_iret (B : XB D X own cc ret nm nL et fr lo mc ms Rl Rx) {v : Int32} (hr : ret = some .int) (hR : Rl (some (.int v)) cs) (d : decode cc pc = .ok (.ireturn, 1)) (hC : k ≤ mc ∧ n ≤ ms) : WX D X cs k n pc L [.int v] := by
  obtain ⟨p, l, e0, R, s, m, args, below, meth, c, A, Q⟩ := X
  intro H locs ls hP hD hS hL
  obtain ⟨hx, hb, hrt, hlk, -, -, -, -, -, -, -, -, -, hQ⟩ := B
  subst hQ
  refine vx_ret (W.widen hC.1 hC.2 ?_)
  exact W.iret hx hb (hrt.trans hr) (fun t ht hW => ⟨⟨_, cs, rfl, hR, by rw [ht]; exact hP, hD⟩, hS.F ht⟩) hS.2.2 d hlk
theorem x_zret (B : XB D X own cc ret nm nL et fr lo mc ms Rl Rx) {v : Int32} (hr : ret = some .boolean) (hR : Rl (some (.int v)) cs) (d : decode cc pc = .ok (.ireturn, 1)) (hC : k ≤ mc ∧ n ≤ ms) (hv : v = 0 ∨ v = 1 := by first | exact Or.inl rfl | exact Or.inr rfl | assumption) : WX D X cs k n pc L [.int v] := by
  obtain ⟨p, l, e0, R, s, m, args, below, meth, c, A, Q⟩ := X
  intro H locs ls hP hD hS hL
  obtain ⟨hx, hb, hrt, hlk, -, -, -, -, -, -, -, -, -, hQ⟩ := B
  subst hQ
  refine vx_ret (W.widen hC.1 hC.2 ?_)
  exact W.zret hx hb (hrt.trans hr) (by rcases hv with rfl | rfl <;> rfl) (fun t ht hW => ⟨⟨_, cs, rfl, hR, by rw [ht]; exact hP, hD⟩, hS.F ht⟩) hS.2.2 d hlk
theorem x_vret (B : XB D X own cc ret nm nL et fr lo mc ms Rl Rx) (hr : ret = none) (hR : Rl none cs) (d : decode cc pc = .ok (.return_, 1)) (hC : k ≤ mc ∧ n ≤ ms) : WX D X cs k n pc L [] := by
  obtain ⟨p, l, e0, R, s, m, args, below, meth, c, A, Q⟩ := X
  intro H locs ls hP hD hS hL
  obtain ⟨hx, hb, hrt, hlk, -, -, -, -, -, -, -, -, -, hQ⟩ := B
  subst hQ
  refine vx_ret (W.widen hC.1 hC.2 ?_)
  exact W.vret hx hb (hrt.trans hr) (fun t ht hW => ⟨⟨_, cs, rfl, hR, by rw [ht]; exact hP, hD⟩, hS.F ht⟩) hS.2.2 d hlk
def xRt : Option FieldType → Bool
  | some (.object _) => true
  | some (.array _) => true
  | _ => false
theorem x_aret (B : XB D X own cc ret nm nL et fr lo mc ms Rl Rx) {v : Value} (hr : ret = ret) (hr2 : xRt ret = true) (hv : xisR v = true) (hR : Rl (some v) cs) (d : decode cc pc = .ok (.areturn, 1)) (hC : k ≤ mc ∧ n ≤ ms) : WX D X cs k n pc L [v] := by
  obtain ⟨p, l, e0, R, s, m, args, below, meth, c, A, Q⟩ := X
  intro H locs ls hP hD hS hL
  obtain ⟨hx, hb, hrt, hlk, -, -, -, -, -, -, -, -, -, hQ⟩ := B
  subst hQ
  refine vx_ret (W.widen hC.1 hC.2 ?_)
  have hv2 : v = .null ∨ ∃ a, v = .ref a := by
    cases v with
    | ref q => exact Or.inr ⟨q, rfl⟩
    | null => exact Or.inl rfl
    | _ => cases hv
  match ret, hrt, hr2 with
  | some (.object nm2), hrt, _ => exact W.aret hx hb hrt (Or.inl ⟨_, rfl⟩) hv2 (fun t ht hW => ⟨⟨_, cs, rfl, hR, by rw [ht]; exact hP, hD⟩, hS.F ht⟩) hS.2.2 d hlk
  | some (.array t2), hrt, _ => exact W.aret hx hb hrt (Or.inr ⟨_, rfl⟩) hv2 (fun t ht hW => ⟨⟨_, cs, rfl, hR, by rw [ht]; exact hP, hD⟩, hS.F ht⟩) hS.2.2 d hlk
  | none, _, h => cases h
  | some .int, _, h => cases h
  | some .byte, _, h => cases h
  | some .char, _, h => cases h
  | some .short, _, h => cases h
  | some .boolean, _, h => cases h
  | some .long, _, h => cases h
  | some .float, _, h => cases h
  | some .double, _, h => cases h
/-- nothing catches it here -/
theorem x_out (B : XB D X own cc ret nm nL et fr lo mc ms Rl Rx) {E : String} {q : Nat} (het : ∀ x ∈ et, covers x pc = false) (hR : Rx E q cs) (hC : k ≤ mc ∧ n ≤ ms) : WT D X cs k n pc L E q := by
  obtain ⟨p, l, e0, R, s, m, args, below, meth, c, A, Q⟩ := X
  intro H locs ls ce rest hP hD hS hL hce hcv hcl
  obtain ⟨hx, hb, hrt, hlk, -, -, -, -, -, -, -, hett, -, hQ⟩ := B
  subst hQ
  refine vx_out (by rw [hett]; exact het) hlk hce hcv hcl (fun t ht hW => ⟨⟨cs, hR, by rw [ht]; exact hP, hD⟩, hS.F ht⟩) hS.2.2 hC.1 hC.2
/-- a row of the table catches it -/
theorem x_catch (B : XB D X own cc ret nm nL et fr lo mc ms Rl Rx) (tp : Nat) {E name : String} {q : Nat} (pre : List ExceptionTableEntry) (x : ExceptionTableEntry) (suf : List ExceptionTableEntry) (hsplit : et = pre ++ x :: suf) (hpass : ∀ z ∈ pre, covers z pc = false ∨ (z.catchType ≠ 0 ∧ ∃ nm : String, Cond.classLink own z.catchType nm ∈ lw_all ∧ (E, nm) ∈ xNcs)) (hcv : covers x pc = true) (h0 : x.catchType ≠ 0) (w1 : Cond.classLink own x.catchType name ∈ lw_all) (w2 : Cond.castable E name ∈ lw_tbl) (htp : x.handlerPc = tp) (h : WX D X cs k n tp L [.ref q]) : WT D X cs k n pc L E q := by
  subst htp
  obtain ⟨p, l, e0, R, s, m, args, below, meth, c, A, Q⟩ := X
  intro H locs ls ce rest hP hD hS hL hce hcv2 hcl
  obtain ⟨hx, hb, hrt, hlk, hown, hts, hKA, -, -, -, -, hett, -, -⟩ := B
  refine vx_catch hown pre x suf (hett.trans hsplit) (fun z hz => ?_) hcv h0 (hts _ w1) (va_Nw.use rfl (hKA.1.2.1 _ w2 rfl)) hce hcv2 hcl (h H locs ls hP hD hS hL)
  rcases hpass z hz with h1 | ⟨h1, nm1, h2, h3⟩
  · exact Or.inl h1
  · exact Or.inr ⟨h1, nm1, hts _ h2, hKA.1.2.2.2.1 _ h3⟩
theorem x_athrow (B : XB D X own cc ret nm nL et fr lo mc ms Rl Rx) {E : String} {q ci : Nat} {fs : List Value} {r : vw_C} (d : decode cc pc = .ok (.athrow, 1)) (hq : XRd D cs q (.inr (ci, fs))) (hc : xCl[ci]? = some r) (hE : r.1 = E) (h : WT D X cs k n pc L E q) : WX D X cs k n pc L (.ref q :: st) := by
  subst hE
  obtain ⟨p, l, e0, R, s, m, args, below, meth, c, A, Q⟩ := X
  intro H locs ls hP hD hS hL
  obtain ⟨hx, hb, hrt, hlk, hown, hts, hKA, -⟩ := B
  obtain ⟨ws, q0, hP', hq0⟩ := xrd_at hq hKA.2 hS hP
  obtain ⟨r2, h1, ce, g1, g2, g3, -⟩ := hP' q0 _ hq0
  cases h1.symm.trans hc
  exact vx_athrow hx hb d (h H locs ls ce st hP hD hS hL g1 g3 (by rw [g2]; exact (hKA.1.1.1 ci r hc).2.1))
end XCALLS
