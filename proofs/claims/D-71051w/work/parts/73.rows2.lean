/-! MY LAYER, 9: rows again -/
section XR2
variable {D : xG} {X : XX} {own : String} {cc : ByteArray} {ret : Option FieldType} {nm : String} {nL : Nat} {et : List ExceptionTableEntry} {fr lo mc ms : Nat} {Rl : Option Value → List va_W → Prop} {Rx : String → Nat → List va_W → Prop} {cs cs' : List va_W} {k n pc : Nat} {L : List (Option Value)} {st : List Value} {a : Nat}
/-- the first call of a constructor, that of Object's -/
theorem x_objInit (B : XB D X own cc ret nm nL et fr lo mc ms Rl Rx) (np : Nat) {idx : Nat} (w : Cond.methodLink own idx ⟨"java/lang/Object", "<init>", "()V"⟩ ∈ lw_all) (hfr : 1 ≤ fr) (hlo : 12 ≤ lo) (d : decode cc pc = .ok (.invokespecial idx, 3)) (e : pc + 3 = np) (h : WX D X cs k n np L []) : WX D X cs k n pc L [.ref a] := by
  subst e
  obtain ⟨p, l, e0, R, s, m, args, below, meth, c, A, Q⟩ := X
  intro H locs ls hP hD hS hL
  obtain ⟨hx, hb, -, hlk, hown, hts, hKA, hA0, hRm, -⟩ := B
  subst hRm
  refine W.objInit hx hb hown (hts _ w) (hts _ q138) (hts _ q139) rfl hL.1.1 rfl d hfr ?_ ?_
  · show 2 * 0 + 0 + 12 ≤ lo
    omega
  · exact h H locs ls hP hD hS hL
end XR2
