/-! MY LAYER, 12: super.m(..) -/
section XR5
variable {D : xG} {X : XX} {own : String} {cc : ByteArray} {ret : Option FieldType} {nm : String} {nL : Nat} {et : List ExceptionTableEntry} {fr lo mc ms : Nat} {Rl : Option Value → List va_W → Prop} {Rx : String → Nat → List va_W → Prop} {cs cs' : List va_W} {k n pc : Nat} {L : List (Option Value)} {st : List Value} {a : Nat}
theorem x_callSup (B : XB D X own cc ret nm nL et fr lo mc ms Rl Rx) (np : Nat) {y : MethodName} {C : String} {bytes : ByteArray} {maxL idx f9 l9 c9 s9 b ci : Nat} {q : vw_C} {rt : Option FieldType} {As rest : List Value} {cin : List va_W} {R9 : Option Value → List va_W → Prop} {Z9 : String → Nat → List va_W → Prop}
    (hM : XC D y (ws_ y bytes maxL rt) f9 l9 c9 s9 (.ref b :: As) cin R9 Z9) (is : List Nat) (sel : is.map (fun i => cs[i]?) = cin.map some) (hrc : XRc D cs b C) (hci : xCl[ci]? = some q) (hq : q.1 = C)
    (w1 : Cond.methodLink own idx y ∈ lw_all) (w2 : Cond.sameMethod y.cls y.cls y.name y.desc ∈ lw_all) (w3 : Cond.superclass own y.cls ∈ lw_all) (w5 : Cond.instanceMethod y ∈ lw_all) (w6 : Cond.initialized y.cls ∈ lw_all) (w7 : Cond.code y bytes maxL rt ∈ lw_all)
    (hd : y.name ≠ "<init>" ∧ (parseMethodDescriptor y.desc).map (fun d => d.parameters.length) = some As.length) (nd : va_nd is = true) (hR : f9 + 1 ≤ fr ∧ 8 + (maxL + 11) + l9 ≤ lo) (hC : k + c9 ≤ mc ∧ n + s9 ≤ ms) (hs : st = As.reverse ++ .ref b :: rest) (hw : (rest.map fun v => v.category).sum ≤ 8)
    (d : decode cc pc = .ok (.invokespecial idx, 3)) (e : pc + 3 = np) (kx : ∀ E q cs2, Z9 E q cs2 → WT D X (xput cs is cs2) (k + c9) (n + s9) pc L E q) (kk : ∀ v cs2, R9 v cs2 → WX D X (xput cs is cs2) (k + c9) (n + s9) np L (xst v rest)) : WX D X cs k n pc L st := by
  subst e hs
  obtain ⟨p, l, e0, R, s, m, args, below, meth, c, A, Q⟩ := X
  intro H locs ls hP hD hS hL
  obtain ⟨hx, hb, -, -, hown, hts, hKA, hA0, hRm, hst, -⟩ := B
  subst hRm
  have len : ∀ sig, parseMethodDescriptor y.desc = some sig → As.length = sig.parameters.length := by
    intro sig h
    have h2 := hd.2
    rw [h] at h2
    exact (Option.some.inj h2).symm
  have hat : ∃ cC, ClassAt s C cC := by
    have := hKA.1.1.1 ci q hci
    unfold u_Kn at this
    rw [hq] at this
    exact ⟨_, by first | exact this.2.1 | exact this.2.2.1 | exact this.2.2.2.1 | exact this.2.2 | exact this.2⟩
  obtain ⟨cC, hat⟩ := hat
  exact x_core 3 is sel nd hP hD hS hL hA0 (vx_runSU (As := As) (rest := rest) hat ⟨hx, hb, rfl, hown, hts⟩ (hM l H.size hst) ⟨⟨rfl, rfl, hR.1, hR.2, pay_in hts (lw_meth w7), List.mem_cons_self⟩, hts _ w1, hts _ w2, hts _ w3, hts _ w5, hts _ w6, hts _ w7, hd.1, len⟩ ⟨xblind, xrecv hrc hP hS hKA, fun U hU hW => ⟨rfl, xpc is sel nd hP hD hS hA0 hKA hU hW⟩⟩ rfl rfl hL.1.1 rfl (lv_room hw) d hC) kx kk
end XR5
