/-! MY LAYER, 11: virtual calls of a method that an interface owns -/
theorem xtab {c : Cond} (hc : c.onTables = true) {A : Array Value} {s : State} (h : va_Nw c s) : c.before A s = true := va_tabs hc rfl h
theorem xlid {C : String} {x y : MethodName} {A : Array Value} {s : State} (h : va_Nw (.landsInDefault C x y) s) : (Cond.landsInDefault C x y).before A s = true := h
section XR4
variable {D : xG} {X : XX} {own : String} {cc : ByteArray} {ret : Option FieldType} {nm : String} {nL : Nat} {et : List ExceptionTableEntry} {fr lo mc ms : Nat} {Rl : Option Value → List va_W → Prop} {Rx : String → Nat → List va_W → Prop} {cs cs' : List va_W} {k n pc : Nat} {L : List (Option Value)} {st : List Value} {a : Nat}
/-- an overriding class' method is called by its interface's name -/
theorem x_callU (B : XB D X own cc ret nm nL et fr lo mc ms Rl Rx) (np : Nat) {x y : MethodName} {owner C : String} {bytes : ByteArray} {maxL idx f9 l9 c9 s9 b : Nat} {rt : Option FieldType} {As rest : List Value} {cin : List va_W} {R9 : Option Value → List va_W → Prop} {Z9 : String → Nat → List va_W → Prop}
    (hM : XC D y (ws_ y bytes maxL rt) f9 l9 c9 s9 (.ref b :: As) cin R9 Z9) (is : List Nat) (sel : is.map (fun i => cs[i]?) = cin.map some) (hrc : XRc D cs b C)
    (w1 : Cond.methodLink own idx x ∈ xNar) (w2 : Cond.sameMethod x.cls owner x.name x.desc ∈ xNar) (w3 : Cond.declares ⟨owner, x.name, x.desc⟩ ∈ lw_tbl) (w4 : Cond.selects C ⟨owner, x.name, x.desc⟩ y ∈ lw_all) (w5 : Cond.instanceMethod y ∈ lw_all) (w6 : Cond.initialized y.cls ∈ lw_all) (w7 : Cond.code y bytes maxL rt ∈ lw_all)
    (hd : owner ≠ "java/lang/invoke/MethodHandle" ∧ owner ≠ "java/lang/invoke/VarHandle" ∧ (parseMethodDescriptor x.desc).map (fun d => d.parameters.length) = some As.length) (nd : va_nd is = true) (hR : f9 + 1 ≤ fr ∧ 8 + (maxL + 11) + l9 ≤ lo) (hC : k + c9 ≤ mc ∧ n + s9 ≤ ms) (hs : st = As.reverse ++ .ref b :: rest) (hw : (rest.map fun v => v.category).sum ≤ 8)
    (d : decode cc pc = .ok (.invokevirtual idx, 3)) (e : pc + 3 = np) (kx : ∀ E q cs2, Z9 E q cs2 → WT D X (xput cs is cs2) (k + c9) (n + s9) pc L E q) (kk : ∀ v cs2, R9 v cs2 → WX D X (xput cs is cs2) (k + c9) (n + s9) np L (xst v rest)) : WX D X cs k n pc L st := by
  subst e hs
  obtain ⟨p, l, e0, R, s, m, args, below, meth, c, A, Q⟩ := X
  intro H locs ls hP hD hS hL
  obtain ⟨hx, hb, -, -, hown, hts, hKA, hA0, hRm, hst, -⟩ := B
  subst hRm
  have len : ∀ sig, parseMethodDescriptor x.desc = some sig → As.length = sig.parameters.length := by
    intro sig h
    have h2 := hd.2.2
    rw [h] at h2
    exact (Option.some.inj h2).symm
  exact x_core 3 is sel nd hP hD hS hL hA0 (xv_runU (As := As) (rest := rest) (owner := owner) (x := x) ⟨hx, hb, rfl, hown, hts⟩ (hM l H.size hst) ⟨⟨rfl, rfl, hR.1, hR.2, pay_in hts (lw_meth w7), List.mem_cons_self⟩, hts _ w7, hts _ w6, ⟨hd.1, hd.2.1⟩, len, xtab rfl (hKA.1.2.2.1 _ w1), xtab rfl (hKA.1.2.2.1 _ w2), va_Decl.abs (hKA.1.2.1 _ w3 rfl), hts _ w4, hts _ w5⟩ ⟨xblind, xrecv hrc hP hS hKA, fun U hU hW => ⟨rfl, xpc is sel nd hP hD hS hA0 hKA hU hW⟩⟩ rfl rfl hL.1.1 rfl (lv_room hw) d hC) kx kk
/-- an interface's own method is come to -/
theorem x_callD (B : XB D X own cc ret nm nL et fr lo mc ms Rl Rx) (np : Nat) {x y : MethodName} {owner C : String} {bytes : ByteArray} {maxL idx f9 l9 c9 s9 b : Nat} {rt : Option FieldType} {As rest : List Value} {cin : List va_W} {R9 : Option Value → List va_W → Prop} {Z9 : String → Nat → List va_W → Prop}
    (hM : XC D y (ws_ y bytes maxL rt) f9 l9 c9 s9 (.ref b :: As) cin R9 Z9) (is : List Nat) (sel : is.map (fun i => cs[i]?) = cin.map some) (hrc : XRc D cs b C)
    (w1 : Cond.methodLink own idx x ∈ xNar) (w2 : Cond.sameMethod x.cls owner x.name x.desc ∈ xNar) (w3 : Cond.declares ⟨owner, x.name, x.desc⟩ ∈ lw_tbl) (w4 : Cond.landsInDefault C x y ∈ xNar) (w5 : Cond.instanceMethod y ∈ lw_all) (w6 : Cond.initialized y.cls ∈ lw_all) (w7 : Cond.code y bytes maxL rt ∈ lw_all)
    (hd : owner ≠ "java/lang/invoke/MethodHandle" ∧ owner ≠ "java/lang/invoke/VarHandle" ∧ (parseMethodDescriptor x.desc).map (fun d => d.parameters.length) = some As.length) (nd : va_nd is = true) (hR : f9 + 1 ≤ fr ∧ 8 + (maxL + 11) + l9 ≤ lo) (hC : k + c9 ≤ mc ∧ n + s9 ≤ ms) (hs : st = As.reverse ++ .ref b :: rest) (hw : (rest.map fun v => v.category).sum ≤ 8)
    (d : decode cc pc = .ok (.invokevirtual idx, 3)) (e : pc + 3 = np) (kx : ∀ E q cs2, Z9 E q cs2 → WT D X (xput cs is cs2) (k + c9) (n + s9) pc L E q) (kk : ∀ v cs2, R9 v cs2 → WX D X (xput cs is cs2) (k + c9) (n + s9) np L (xst v rest)) : WX D X cs k n pc L st := by
  subst e hs
  obtain ⟨p, l, e0, R, s, m, args, below, meth, c, A, Q⟩ := X
  intro H locs ls hP hD hS hL
  obtain ⟨hx, hb, -, -, hown, hts, hKA, hA0, hRm, hst, -⟩ := B
  subst hRm
  have len : ∀ sig, parseMethodDescriptor x.desc = some sig → As.length = sig.parameters.length := by
    intro sig h
    have h2 := hd.2.2
    rw [h] at h2
    exact (Option.some.inj h2).symm
  exact x_core 3 is sel nd hP hD hS hL hA0 (xd_runU (As := As) (rest := rest) (owner := owner) (x := x) ⟨hx, hb, rfl, hown, hts⟩ (hM l H.size hst) ⟨⟨rfl, rfl, hR.1, hR.2, pay_in hts (lw_meth w7), List.mem_cons_self⟩, hts _ w7, hts _ w6, ⟨hd.1, hd.2.1⟩, len, xtab rfl (hKA.1.2.2.1 _ w1), xtab rfl (hKA.1.2.2.1 _ w2), va_Decl.abs (hKA.1.2.1 _ w3 rfl), xlid (hKA.1.2.2.1 _ w4), hts _ w5⟩ ⟨xblind, xrecv hrc hP hS hKA, fun U hU hW => ⟨rfl, xpc is sel nd hP hD hS hA0 hKA hU hW⟩⟩ rfl rfl hL.1.1 rfl (lv_room hw) d hC) kx kk
end XR4
