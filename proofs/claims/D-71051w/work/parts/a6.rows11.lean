/-! MY LAYER, 19: rows of states copied; a fresh state put together -/
section XR11
variable {D : xG} {X : XX} {own : String} {cc : ByteArray} {ret : Option FieldType} {nm : String} {nL : Nat} {et : List ExceptionTableEntry} {fr lo mc ms : Nat} {Rl : Option Value → List va_W → Prop} {Rx : String → Nat → List va_W → Prop} {cs cs' : List va_W} {k n pc : Nat} {L : List (Option Value)} {st : List Value} {a : Nat}
theorem x_acopyQ (B : XB D X own cc ret nm nL et fr lo mc ms Rl Rx) (np : Nat) {t ci n0 n1 i j m0 a0 idx : Nat} {r9 : vw_C} {f g : Nat → Option Nat} {sp dp nn : Int32} (hci : xCl[ci]? = some r9) (ht : (xTys D.2.1)[t]? = some (D.2.1 t, .object r9.1)) (hm : XM cs a0 (aQ (D.2.1 t) n0 f)) (hu : XUp cs a (aQ (D.2.1 t) n1 g) (aQ (D.2.1 t) n1 (va_cpy f g i j m0)) cs') (e1 : sp = nI i) (e2 : dp = nI j) (e3 : nn = nI m0) (h4 : i + m0 ≤ n0 ∧ j + m0 ≤ n1 ∧ n0 < 1073741824 ∧ n1 < 1073741824) (hel : ∀ x y, x < m0 → f (i + x) = some y → XRc D cs y r9.1)
    (w : Cond.methodLink own idx ⟨"java/lang/System", "arraycopy", "(Ljava/lang/Object;ILjava/lang/Object;II)V"⟩ ∈ lw_all) (hfr : 1 ≤ fr) (hlo : (st.map fun v => v.category).sum + (nativeFrameWords "java/lang/System" "arraycopy" 5 + 11) ≤ lo) (d : decode cc pc = .ok (.invokestatic idx, 3)) (e : pc + 3 = np) (h : WX D X cs' k n np L st) : WX D X cs k n pc L (.int nn :: .int dp :: .ref a :: .int sp :: .ref a0 :: st) := by
  subst e e1 e2 e3
  obtain ⟨p, l, e0, R, s, m, args, below, meth, c, A, Q⟩ := X
  intro H locs ls hP hD hS hL
  obtain ⟨hx, hb, -, hlk, hown, hts, hKA, hA0, hRm, -⟩ := B
  subst hRm
  obtain ⟨p1, p2, p3, p4⟩ := h4
  obtain ⟨q0, hq0⟩ := List.getElem?_of_mem hm
  obtain ⟨q1, hq1, hset⟩ := hu
  have c1 : (nI i).toNatClampNeg = i := nI_clamp (by omega)
  have c2 : (nI j).toNatClampNeg = j := nI_clamp (by omega)
  have c3 : (nI m0).toNatClampNeg = m0 := nI_clamp (by omega)
  refine va_copyq hx hb hL.1.1.symm hown (hts _ w) (hts _ q202) (hts _ q201) (hts _ q91) hKA.1.1 hP hD hS q0 q1 t t (C := r9.1) hq0 hq1 ht ht (nI_pos (by omega)) (nI_pos (by omega)) (nI_pos (by omega)) (by rw [c1, c3]; exact p1) (by rw [c2, c3]; exact p2) (fun x hx2 y hy => ?_) (fun comp c0 f1 f2 => ?_) hfr hlo d (fun H1 locs1 hP1 hD1 hS1 => ?_)
  · rw [c3] at hx2
    rw [c1] at hy
    exact xrecv (hel x y hx2 hy) hP hS hKA
  · cases f1.symm.trans f2
    have h9 := hKA.1.1.1 ci r9 hci
    have := h9.2.1
    cases this.symm.trans f1
    exact va_assign h9.2
  · rw [c1, c2, c3, ← hset] at hP1 hD1
    exact h H1 locs1 ls hP1 hD1 hS1 hL
/-- the pieces of a fresh state are one -/
theorem x_mkT {h : Nat} {sa : Nat → Nat} {kn : Nat → Nat → Int32} {pf hf yf : Nat → Int32} {cov ev : Int32} (hw : WX D X (cT D h (sa, kn, pf, hf, yf, cov, ev) :: cs) k n pc L st) : WX D X (cSI D sa 3 4 hf :: cSI D sa 2 8 pf :: cS1 D sa :: cK D sa kn :: cS0 h sa cov ev :: cSI D sa 4 4 yf :: cs) k n pc L st := by
  refine x_perm ?_ hw
  have h1 := xsel_perm [4, 2, 3, 1, 0, 5] (cSI D sa 3 4 hf :: cSI D sa 2 8 pf :: cS1 D sa :: cK D sa kn :: cS0 h sa cov ev :: cSI D sa 4 4 yf :: cs) (cL D h (sa, kn, pf, hf, yf, cov, ev)) (by decide) rfl
  refine h1.trans (List.Perm.of_eq ?_)
  rw [cT_xf]
  show xf (cL D h (sa, kn, pf, hf, yf, cov, ev)) ++ xf cs = xf (cL D h (sa, kn, pf, hf, yf, cov, ev) ++ cs)
  unfold xf
  rw [List.flatten_append]
end XR11
theorem cTs_add (D : xG) (h : Nat) (s t : List (Option SR)) (r : SR) : (xf [cTs D h (s ++ t), cT D h r]).Perm (xf [cTs D h (s ++ some r :: t)]) := (cTs_at D h s t (some r)).symm
theorem cTs_put (D : xG) (h : Nat) (s t : List (Option SR)) (r : SR) : (xf [cTs D h (s ++ none :: t), cT D h r]).Perm (xf [cTs D h (s ++ some r :: t)]) := by
  refine List.Perm.trans (List.Perm.of_eq ?_) (cTs_add D h s t r)
  unfold cTs xf
  simp only [List.map_append, List.map_cons, List.flatten_append, List.flatten_cons]
  rfl
theorem cTs_cut (D : xG) (h : Nat) (s t : List (Option SR)) (r : SR) : (xf [cTs D h (s ++ some r :: t)]).Perm (xf [cTs D h (s ++ t), cT D h r]) := cTs_at D h s t (some r)
