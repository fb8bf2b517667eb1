/-! MY LAYER, 8: further rows -/
theorem xlit (n : Nat) : (@OfNat.ofNat Int32 n Int32.instOfNat) = nI n := rfl
theorem xinc (a : Nat) : nI a + Int32.ofInt 1 = nI (a + 1) := nI_1 a
/-- a long, between two -/
def x_in (v a b : Int64) : Int32 := if a ≤ v ∧ v ≤ b then 1 else 0
/-- is the bit there -/
def x_has (s k : Int32) : Int32 := if (s >>> (k &&& 31)) &&& 1 = 1 then 1 else 0
theorem x_in01 (v a b : Int64) : x_in v a b = 0 ∨ x_in v a b = 1 := by unfold x_in; split <;> simp
theorem x_has01 (s k : Int32) : x_has s k = 0 ∨ x_has s k = 1 := by unfold x_has; split <;> simp
section XIN
variable {D : xG}
theorem x_inW {p : Program} {l : Launch} {e : Env} {R : Room} {s : State} {m : MethodId} {args : Array Value} {below : List Frame} {meth : Method} {c : Code} {H : Heap} {cc : ByteArray} {ls : Array Slot} {v a b : Int64} {A : Nat → Prop}
    (d0 : decode cc 0 = .ok (.lload_n 0, 1)) (d1 : decode cc 1 = .ok (.lload_n 2, 1)) (d2 : decode cc 2 = .ok (.lcmp, 1)) (d3 : decode cc 3 = .ok (.ifCond .lt 14, 3)) (d6 : decode cc 6 = .ok (.lload_n 0, 1)) (d7 : decode cc 7 = .ok (.lload 4, 2)) (d9 : decode cc 9 = .ok (.lcmp, 1)) (d10 : decode cc 10 = .ok (.ifCond .gt 7, 3)) (d13 : decode cc 13 = .ok (.iconst 1, 1)) (d14 : decode cc 14 = .ok (.goto 4, 3)) (d17 : decode cc 17 = .ok (.iconst 0, 1)) (d18 : decode cc 18 = .ok (.ireturn, 1))
    (hx : p.tables.exec = Jvm.exec) (hb : c.code = cc) (hr : meth.sig.returnType = some .boolean) (hlk : meth.locks = false) (hl : lv_has ls 6 [(0, .long v), (2, .long a), (4, .long b)]) (Qc : Array Value → State → Outcome → State → Prop) (hQ : ∀ t : State, t.heap = H → s.WarmedH t.vm → Qc args s (.returned (some (.int (x_in v a b)))) t) :
    W p l e R s m args below meth c H [] 0 0 (MQ below Qc args s 0 0 A) (F0 m 0 ls []) := by
  refine lv_lload_n hx hb d0 rfl (lv_at hl 0 rfl) ?_
  refine lv_lload_n hx hb d1 rfl (lv_at hl 1 rfl) ?_
  refine W.lcmp hx hb d2 ?_
  refine lv_if_lt (tgt := 17) hx hb d3 (by decide) (fun hc => ?_) (fun hc => ?_)
  · refine lv_iconst (v := 0) hx hb d17 (by decide) ?_
    refine W.zret hx hb hr rfl (fun t ht hW => ?_) (fun _ h => by cases h) d18 hlk
    have := hQ t ht hW
    rw [lg_cmp_lt] at hc
    unfold x_in at this
    rwa [if_neg (fun z => by have := z.1; rw [Int64.le_iff_toInt_le] at this; rw [Int64.lt_iff_toInt_lt] at hc; omega)] at this
  · refine lv_lload_n hx hb d6 rfl (lv_at hl 0 rfl) ?_
    refine lv_lload hx hb d7 (lv_at hl 2 rfl) ?_
    refine W.lcmp hx hb d9 ?_
    refine lv_if_gt (tgt := 17) hx hb d10 (by decide) (fun hc2 => ?_) (fun hc2 => ?_)
    · refine lv_iconst (v := 0) hx hb d17 (by decide) ?_
      refine W.zret hx hb hr rfl (fun t ht hW => ?_) (fun _ h => by cases h) d18 hlk
      have := hQ t ht hW
      rw [lg_cmp_gt] at hc2
      unfold x_in at this
      rwa [if_neg (fun z => by have := z.2; rw [Int64.le_iff_toInt_le] at this; rw [Int64.lt_iff_toInt_lt] at hc2; omega)] at this
    · refine lv_iconst (v := 1) hx hb d13 (by decide) ?_
      refine lv_goto (tgt := 18) hx hb d14 (by decide) ?_
      refine W.zret hx hb hr rfl (fun t ht hW => ?_) (fun _ h => by cases h) d18 hlk
      have := hQ t ht hW
      rw [lg_cmp_lt] at hc
      rw [lg_cmp_gt] at hc2
      unfold x_in at this
      rwa [if_pos ⟨by rw [Int64.le_iff_toInt_le]; rw [Int64.lt_iff_toInt_lt] at hc; omega, by rw [Int64.le_iff_toInt_le]; rw [Int64.lt_iff_toInt_lt] at hc2; omega⟩] at this
end XIN
theorem XC.post {D : xG} {y : MethodName} {ws : List Cond} {fr lo mc ms : Nat} {args : List Value} {cin : List va_W} {Rl Rl2 : Option Value → List va_W → Prop} {Rx Rx2 : String → Nat → List va_W → Prop} (h : XC D y ws fr lo mc ms args cin Rl Rx) (h1 : ∀ v cs, Rl v cs → Rl2 v cs) (h2 : ∀ E q cs, Rx E q cs → Rx2 E q cs) : XC D y ws fr lo mc ms args cin Rl2 Rx2 := by
  intro l sz hl p e ha hc hk s m as below hf hap hP hK
  obtain ⟨n, o, k1, k2, k3, k4⟩ := h l sz hl p e ha hc hk s m as below hf hap hP hK
  refine ⟨n, o, k1, k2, k3, ?_⟩
  rcases k4 with ⟨⟨⟨v, cs, a1, a2, a3⟩, a4⟩, a5⟩ | ⟨q, e1, E, ce, L, ⟨⟨cs, b1, b2⟩, b3⟩, b4⟩
  · exact Or.inl ⟨⟨⟨v, cs, a1, h1 v cs a2, a3⟩, a4⟩, a5⟩
  · exact Or.inr ⟨q, e1, E, ce, L, ⟨⟨cs, h2 _ _ _ b1, b2⟩, b3⟩, b4⟩
/-- fewer locals known -/
def Fg (L2 L : List (Option Value)) : Prop := L2.length = L.length ∧ ∀ (i : Nat) (v : Value), L2[i]? = some (some v) → L[i]? = some (some v)
theorem xfg_nil : Fg [] [] := ⟨rfl, fun _ _ h => h⟩
theorem xfg_same {a : Option Value} {L2 L : List (Option Value)} (h : Fg L2 L) : Fg (a :: L2) (a :: L) := by
  refine ⟨by simp [h.1], fun i v e => ?_⟩
  cases i with
  | zero => exact e
  | succ i => exact h.2 i v e
theorem xfg_none {a : Option Value} {L2 L : List (Option Value)} (h : Fg L2 L) : Fg (none :: L2) (a :: L) := by
  refine ⟨by simp [h.1], fun i v e => ?_⟩
  cases i with
  | zero => simp at e
  | succ i => exact h.2 i v e
section XFG
variable {D : xG} {X : XX} {own : String} {cc : ByteArray} {ret : Option FieldType} {nm : String} {nL : Nat} {et : List ExceptionTableEntry} {fr lo mc ms : Nat} {Rl : Option Value → List va_W → Prop} {Rx : String → Nat → List va_W → Prop} {cs cs' : List va_W} {k n pc : Nat} {L : List (Option Value)} {st : List Value} {a : Nat}
theorem x_fg {L2 : List (Option Value)} (h0 : Fg L2 L) (h : WX D X cs k n pc L2 st) : WX D X cs k n pc L st := x_forget L2 h0.1 h0.2 h
theorem x_ialdv (B : XB D X own cc ret nm nL et fr lo mc ms Rl Rx) (np : Nat) {N j : Nat} {f : Nat → Int32} {i x : Int32} (ha : XRd D cs a (aI (D.2.1 0) N f)) (hi : i = nI j) (hj : j < N ∧ N < 2147483648) (hv : f j = x) (d : decode cc pc = .ok (.iaload, 1)) (e : pc + 1 = np) (h : WX D X cs k n np L (.int x :: st)) : WX D X cs k n pc L (.int i :: .ref a :: st) := x_iald B np ha hi hj d e (by rw [hv]; exact h)
theorem x_baldv (B : XB D X own cc ret nm nL et fr lo mc ms Rl Rx) (np : Nat) {N j : Nat} {f : Nat → Int32} {i x : Int32} (ha : XRd D cs a (aI (D.2.1 1) N f)) (hi : i = nI j) (hj : j < N ∧ N < 2147483648) (hv : f j = x) (d : decode cc pc = .ok (.baload, 1)) (e : pc + 1 = np) (h : WX D X cs k n np L (.int x :: st)) : WX D X cs k n pc L (.int i :: .ref a :: st) := x_bald B np ha hi hj d e (by rw [hv]; exact h)
theorem x_zaldv (B : XB D X own cc ret nm nL et fr lo mc ms Rl Rx) (np : Nat) {N j : Nat} {f : Nat → Int32} {i x : Int32} (ha : XRd D cs a (aI (D.2.1 3) N f)) (hi : i = nI j) (hj : j < N ∧ N < 2147483648) (hv : f j = x) (d : decode cc pc = .ok (.baload, 1)) (e : pc + 1 = np) (h : WX D X cs k n np L (.int x :: st)) : WX D X cs k n pc L (.int i :: .ref a :: st) := x_zald B np ha hi hj d e (by rw [hv]; exact h)
/-- the number on top, another way -/
theorem x_top {x y : Int32} (e : x = y) (h : WX D X cs k n pc L (.int y :: st)) : WX D X cs k n pc L (.int x :: st) := by rw [e]; exact h
end XFG
