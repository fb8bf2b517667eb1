/-! MY LAYER, 17: casts -/
section XR9
variable {D : xG} {X : XX} {own : String} {cc : ByteArray} {ret : Option FieldType} {nm : String} {nL : Nat} {et : List ExceptionTableEntry} {fr lo mc ms : Nat} {Rl : Option Value → List va_W → Prop} {Rx : String → Nat → List va_W → Prop} {cs cs' : List va_W} {k n pc : Nat} {L : List (Option Value)} {st : List Value} {a : Nat}
/-- an object of a class that may be taken as another -/
theorem x_cast (B : XB D X own cc ret nm nL et fr lo mc ms Rl Rx) (np : Nat) {C E : String} {idx : Nat} (hrc : XRc D cs a C) (w1 : Cond.classLink own idx E ∈ lw_all) (w2 : Cond.castable C E ∈ lw_tbl) (d : decode cc pc = .ok (.checkcast idx, 3)) (e : pc + 3 = np) (h : WX D X cs k n np L (.ref a :: st)) : WX D X cs k n pc L (.ref a :: st) := by
  subst e
  obtain ⟨p, l, e0, R, s, m, args, below, meth, c, A, Q⟩ := X
  intro H locs ls hP hD hS hL
  obtain ⟨hx, hb, -, -, hown, hts, hKA, -⟩ := B
  exact va_castY hx hb hown (hts _ w1) (hKA.1.2.1 _ w2 rfl) (xrecv hrc hP hS hKA) d (h H locs ls hP hD hS hL)
/-- an object of that class itself -/
theorem x_castS (B : XB D X own cc ret nm nL et fr lo mc ms Rl Rx) (np : Nat) {E : String} {idx : Nat} (hrc : XRc D cs a E) (w1 : Cond.classLink own idx E ∈ lw_all) (d : decode cc pc = .ok (.checkcast idx, 3)) (e : pc + 3 = np) (h : WX D X cs k n np L (.ref a :: st)) : WX D X cs k n pc L (.ref a :: st) := by
  subst e
  obtain ⟨p, l, e0, R, s, m, args, below, meth, c, A, Q⟩ := X
  intro H locs ls hP hD hS hL
  obtain ⟨hx, hb, -, -, hown, hts, hKA, -⟩ := B
  have hat : ∃ cC, ClassAt s E cC := by
    obtain ⟨ci, q, fs, -, hci, rfl⟩ := hrc
    exact ⟨_, (hKA.1.1.1 ci q hci).2⟩
  obtain ⟨cC, hat⟩ := hat
  exact va_castS hx hb hown (hts _ w1) hat (xrecv hrc hP hS hKA) d (h H locs ls hP hD hS hL)
/-- a row of that very class -/
theorem x_castA (B : XB D X own cc ret nm nL et fr lo mc ms Rl Rx) (np : Nat) {E : String} {idx t0 N : Nat} {ty : FieldType} {w : (Nat → Int32) ⊕ (Nat → Int64) ⊕ (Nat → UInt32) ⊕ (Nat → UInt64) ⊕ (Nat → Option Nat)} (ht : (xTys D.2.1)[t0]? = some (D.2.1 t0, ty)) (ha : XRd D cs a (.inl (D.2.1 t0, N, w))) (hE : "[" ++ ty.toString = E) (w1 : Cond.classLink own idx E ∈ lw_all) (d : decode cc pc = .ok (.checkcast idx, 3)) (e : pc + 3 = np) (h : WX D X cs k n np L (.ref a :: st)) : WX D X cs k n pc L (.ref a :: st) := by
  subst e
  obtain ⟨p, l, e0, R, s, m, args, below, meth, c, A, Q⟩ := X
  intro H locs ls hP hD hS hL
  obtain ⟨hx, hb, -, -, hown, hts, hKA, -⟩ := B
  obtain ⟨ws, q0, hP', hq⟩ := xrd_at ha hKA.2 hS hP
  have hf := xrA_find (hKA.1.1.2 t0 _ ht).2
  exact va_castA hx hb hown (hts _ w1) hP' q0 hq (by rw [← hE]; exact hf) d (h H locs ls hP hD hS hL)
/-- a bird as a bird -/
theorem x_castB (B : XB D X own cc ret nm nL et fr lo mc ms Rl Rx) (np : Nat) {kk v idx : Nat} (hq : XRd D cs a (oB kk v)) (hk : kk ≤ 4) (w1 : Cond.classLink own idx "ParrotSpeech$Bird" ∈ lw_all) (d : decode cc pc = .ok (.checkcast idx, 3)) (e : pc + 3 = np) (h : WX D X cs k n np L (.ref a :: st)) : WX D X cs k n pc L (.ref a :: st) := by
  have hk : kk = 0 ∨ kk = 1 ∨ kk = 2 ∨ kk = 3 ∨ kk = 4 := by omega
  rcases hk with rfl | rfl | rfl | rfl | rfl
  · exact x_cast B np (C := "ParrotSpeech$Parrot") ⟨9, _, _, hq, rfl, rfl⟩ w1 q2262 d e h
  · exact x_cast B np (C := "ParrotSpeech$Grey") ⟨10, _, _, hq, rfl, rfl⟩ w1 q2260 d e h
  · exact x_cast B np (C := "ParrotSpeech$Cockatoo") ⟨11, _, _, hq, rfl, rfl⟩ w1 q2258 d e h
  · exact x_cast B np (C := "ParrotSpeech$Hawk") ⟨12, _, _, hq, rfl, rfl⟩ w1 q2261 d e h
  · exact x_cast B np (C := "ParrotSpeech$Green") ⟨13, _, _, hq, rfl, rfl⟩ w1 q2259 d e h
end XR9
