/-! MY LAYER, 14: calls by an interface; super calls that come to an interface; pieces put another way -/
section XR7
variable {D : xG} {X : XX} {own : String} {cc : ByteArray} {ret : Option FieldType} {nm : String} {nL : Nat} {et : List ExceptionTableEntry} {fr lo mc ms : Nat} {Rl : Option Value → List va_W → Prop} {Rx : String → Nat → List va_W → Prop} {cs cs' : List va_W} {k n pc : Nat} {L : List (Option Value)} {st : List Value} {a : Nat}
theorem x_perm (hp : (xf cs).Perm (xf cs')) (h : WX D X cs' k n pc L st) : WX D X cs k n pc L st := by
  obtain ⟨p, l, e0, R, s, m, args, below, meth, c, A, Q⟩ := X
  intro H locs ls hP hD hS hL
  exact h H locs ls (hP.perm hp) (hD.perm hp) hS hL
theorem x_permT {E : String} {q : Nat} (hp : (xf cs).Perm (xf cs')) (h : WT D X cs' k n pc L E q) : WT D X cs k n pc L E q := by
  obtain ⟨p, l, e0, R, s, m, args, below, meth, c, A, Q⟩ := X
  intro H locs ls ce rest hP hD hS hL
  exact h H locs ls ce rest (hP.perm hp) (hD.perm hp) hS hL
theorem x_callF (B : XB D X own cc ret nm nL et fr lo mc ms Rl Rx) (np : Nat) {x y : MethodName} {C : String} {bytes : ByteArray} {maxL idx cnt f9 l9 c9 s9 b : Nat} {rt : Option FieldType} {As rest : List Value} {cin : List va_W} {R9 : Option Value → List va_W → Prop} {Z9 : String → Nat → List va_W → Prop}
    (hM : XC D y (ws_ y bytes maxL rt) f9 l9 c9 s9 (.ref b :: As) cin R9 Z9) (is : List Nat) (sel : is.map (fun i => cs[i]?) = cin.map some) (hrc : XRc D cs b C)
    (w1 : Cond.methodLink own idx x ∈ lw_all) (w2 : (C, x, y) ∈ xFws) (w3 : Cond.selects C x y ∈ lw_all) (w4 : Cond.instanceMethod y ∈ lw_all) (w5 : Cond.initialized y.cls ∈ lw_all) (w6 : Cond.code y bytes maxL rt ∈ lw_all)
    (hd : x.cls ≠ "java/lang/invoke/MethodHandle" ∧ x.cls ≠ "java/lang/invoke/VarHandle" ∧ (parseMethodDescriptor x.desc).map (fun d => d.parameters.length) = some As.length) (nd : va_nd is = true) (hR : f9 + 1 ≤ fr ∧ 8 + (maxL + 11) + l9 ≤ lo) (hC : k + c9 ≤ mc ∧ n + s9 ≤ ms) (hs : st = As.reverse ++ .ref b :: rest) (hw : (rest.map fun v => v.category).sum ≤ 8)
    (d : decode cc pc = .ok (.invokeinterface idx cnt, 5)) (e : pc + 5 = np) (kx : ∀ E q cs2, Z9 E q cs2 → WT D X (xput cs is cs2) (k + c9) (n + s9) pc L E q) (kk : ∀ v cs2, R9 v cs2 → WX D X (xput cs is cs2) (k + c9) (n + s9) np L (xst v rest)) : WX D X cs k n pc L st := by
  subst e hs
  obtain ⟨p, l, e0, R, s, m, args, below, meth, c, A, Q⟩ := X
  intro H locs ls hP hD hS hL
  obtain ⟨hx, hb, -, -, hown, hts, hKA, hA0, hRm, hst, -⟩ := B
  subst hRm
  have len : ∀ sig, parseMethodDescriptor x.desc = some sig → As.length = sig.parameters.length := by
    intro sig h
    have h2 := hd.2.2
    rw [h] at h2
    exact (Option.some.inj h2).symm
  have hF := hKA.1.2.2.2.2.1 _ w2
  have hat : ∃ cC, ClassAt s C cC := by
    obtain ⟨ci, q, fs, -, hci, rfl⟩ := hrc
    exact ⟨_, (hKA.1.1.1 ci q hci).2⟩
  obtain ⟨cC, hat⟩ := hat
  exact x_core 5 is sel nd hP hD hS hL hA0 (vx_runF (As := As) (rest := rest) (x := x) hat ⟨hx, hb, rfl, hown, hts⟩ (hM l H.size hst) ⟨⟨rfl, rfl, hR.1, hR.2, pay_in hts (lw_meth w6), List.mem_cons_self⟩, hts _ w1, va_any rfl hF.1, va_any rfl hF.2.1, hts _ w3, hts _ w4, va_any rfl hF.2.2.1, va_any rfl hF.2.2.2.1, va_any rfl hF.2.2.2.2, hts _ w5, hts _ w6, ⟨hd.1, hd.2.1⟩, len⟩ ⟨xblind, xrecv hrc hP hS hKA, fun U hU hW => ⟨rfl, xpc is sel nd hP hD hS hA0 hKA hU hW⟩⟩ rfl rfl hL.1.1 rfl (lv_room hw) d hC) kx kk
theorem x_callFD (B : XB D X own cc ret nm nL et fr lo mc ms Rl Rx) (np : Nat) {x y y0 : MethodName} {C C0 : String} {bytes : ByteArray} {maxL idx cnt f9 l9 c9 s9 b : Nat} {rt : Option FieldType} {As rest : List Value} {cin : List va_W} {R9 : Option Value → List va_W → Prop} {Z9 : String → Nat → List va_W → Prop}
    (hM : XC D y (ws_ y bytes maxL rt) f9 l9 c9 s9 (.ref b :: As) cin R9 Z9) (is : List Nat) (sel : is.map (fun i => cs[i]?) = cin.map some) (hrc : XRc D cs b C)
    (w1 : Cond.methodLink own idx x ∈ lw_all) (w2 : (C0, x, y0) ∈ xFws) (w3 : Cond.landsInDefault C x y ∈ xNar) (w4 : Cond.instanceMethod y ∈ lw_all) (w5 : Cond.initialized y.cls ∈ lw_all) (w6 : Cond.code y bytes maxL rt ∈ lw_all) (w7 : Cond.publicMethod y ∈ lw_tbl) (w8 : Cond.castable C x.cls ∈ lw_tbl)
    (hd : x.cls ≠ "java/lang/invoke/MethodHandle" ∧ x.cls ≠ "java/lang/invoke/VarHandle" ∧ (parseMethodDescriptor x.desc).map (fun d => d.parameters.length) = some As.length) (nd : va_nd is = true) (hR : f9 + 1 ≤ fr ∧ 8 + (maxL + 11) + l9 ≤ lo) (hC : k + c9 ≤ mc ∧ n + s9 ≤ ms) (hs : st = As.reverse ++ .ref b :: rest) (hw : (rest.map fun v => v.category).sum ≤ 8)
    (d : decode cc pc = .ok (.invokeinterface idx cnt, 5)) (e : pc + 5 = np) (kx : ∀ E q cs2, Z9 E q cs2 → WT D X (xput cs is cs2) (k + c9) (n + s9) pc L E q) (kk : ∀ v cs2, R9 v cs2 → WX D X (xput cs is cs2) (k + c9) (n + s9) np L (xst v rest)) : WX D X cs k n pc L st := by
  subst e hs
  obtain ⟨p, l, e0, R, s, m, args, below, meth, c, A, Q⟩ := X
  intro H locs ls hP hD hS hL
  obtain ⟨hx, hb, -, -, hown, hts, hKA, hA0, hRm, hst, -⟩ := B
  subst hRm
  have len : ∀ sig, parseMethodDescriptor x.desc = some sig → As.length = sig.parameters.length := by
    intro sig h
    have h2 := hd.2.2
    rw [h] at h2
    exact (Option.some.inj h2).symm
  have hF := hKA.1.2.2.2.2.1 _ w2
  have hat : ∃ cC, ClassAt s C cC := by
    obtain ⟨ci, q, fs, -, hci, rfl⟩ := hrc
    exact ⟨_, (hKA.1.1.1 ci q hci).2⟩
  obtain ⟨cC, hat⟩ := hat
  exact x_core 5 is sel nd hP hD hS hL hA0 (xd_runF (As := As) (rest := rest) (x := x) hat ⟨hx, hb, rfl, hown, hts⟩ (hM l H.size hst) ⟨⟨rfl, rfl, hR.1, hR.2, pay_in hts (lw_meth w6), List.mem_cons_self⟩, hts _ w1, va_any rfl hF.1, va_any rfl hF.2.1, xlid (hKA.1.2.2.1 _ w3), hts _ w4, va_any rfl (va_Nw.use (A := args) rfl (hKA.1.2.1 _ w7 rfl)), va_any rfl (va_Nw.use (A := args) rfl (hKA.1.2.1 _ w8 rfl)), hts _ w5, hts _ w6, ⟨hd.1, hd.2.1⟩, len⟩ ⟨xblind, xrecv hrc hP hS hKA, fun U hU hW => ⟨rfl, xpc is sel nd hP hD hS hA0 hKA hU hW⟩⟩ rfl rfl hL.1.1 rfl (lv_room hw) d hC) kx kk
theorem x_callSupD (B : XB D X own cc ret nm nL et fr lo mc ms Rl Rx) (np : Nat) {x y : MethodName} {C : String} {bytes : ByteArray} {maxL idx f9 l9 c9 s9 b : Nat} {rt : Option FieldType} {As rest : List Value} {cin : List va_W} {R9 : Option Value → List va_W → Prop} {Z9 : String → Nat → List va_W → Prop}
    (hM : XC D y (ws_ y bytes maxL rt) f9 l9 c9 s9 (.ref b :: As) cin R9 Z9) (is : List Nat) (sel : is.map (fun i => cs[i]?) = cin.map some) (hrc : XRc D cs b C)
    (w1 : Cond.methodLink own idx x ∈ xNar) (w2 : Cond.sameMethod x.cls y.cls x.name x.desc ∈ xNar) (w3 : Cond.superclass own x.cls ∈ lw_all) (w9 : Cond.landsInDefault x.cls x y ∈ xNar) (hyn : y.name = x.name) (hyd : y.desc = x.desc) (w5 : Cond.instanceMethod y ∈ lw_all) (w6 : Cond.initialized y.cls ∈ lw_all) (w7 : Cond.code y bytes maxL rt ∈ lw_all)
    (hd : x.name ≠ "<init>" ∧ (parseMethodDescriptor x.desc).map (fun d => d.parameters.length) = some As.length) (nd : va_nd is = true) (hR : f9 + 1 ≤ fr ∧ 8 + (maxL + 11) + l9 ≤ lo) (hC : k + c9 ≤ mc ∧ n + s9 ≤ ms) (hs : st = As.reverse ++ .ref b :: rest) (hw : (rest.map fun v => v.category).sum ≤ 8)
    (d : decode cc pc = .ok (.invokespecial idx, 3)) (e : pc + 3 = np) (kx : ∀ E q cs2, Z9 E q cs2 → WT D X (xput cs is cs2) (k + c9) (n + s9) pc L E q) (kk : ∀ v cs2, R9 v cs2 → WX D X (xput cs is cs2) (k + c9) (n + s9) np L (xst v rest)) : WX D X cs k n pc L st := by
  subst e hs
  obtain ⟨p, l, e0, R, s, m, args, below, meth, c, A, Q⟩ := X
  intro H locs ls hP hD hS hL
  obtain ⟨hx, hb, -, -, hown, hts, hKA, hA0, hRm, hst, -⟩ := B
  subst hRm
  have len : ∀ sig, parseMethodDescriptor x.desc = some sig → As.length = sig.parameters.length := by
    intro sig h
    have h2 := hd.2
    rw [h] at h2
    exact (Option.some.inj h2).symm
  have hat : ∃ cC, ClassAt s C cC := by
    obtain ⟨ci, q, fs, -, hci, rfl⟩ := hrc
    exact ⟨_, (hKA.1.1.1 ci q hci).2⟩
  obtain ⟨cC, hat⟩ := hat
  exact x_core 3 is sel nd hP hD hS hL hA0 (xd_runSU (As := As) (rest := rest) (x := x) hat ⟨hx, hb, rfl, hown, hts⟩ (hM l H.size hst) ⟨⟨rfl, rfl, hR.1, hR.2, pay_in hts (lw_meth w7), List.mem_cons_self⟩, xtab rfl (hKA.1.2.2.1 _ w1), xtab rfl (hKA.1.2.2.1 _ w2), hts _ w3, xlid (hKA.1.2.2.1 _ w9), hyn, hyd, hts _ w5, hts _ w6, hts _ w7, hd.1, len⟩ ⟨xblind, xrecv hrc hP hS hKA, fun U hU hW => ⟨rfl, xpc is sel nd hP hD hS hA0 hKA hU hW⟩⟩ rfl rfl hL.1.1 rfl (lv_room hw) d hC) kx kk
end XR7
