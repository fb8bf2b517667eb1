/-! MY LAYER, 10: rows of the component: least of two, rows copied -/
def XM (cs : List va_W) (a : Nat) (e : va_E) : Prop := (a, e) ∈ xf cs
theorem xm_h {a : Nat} {e : va_E} {w : va_W} {cs : List va_W} : XM (((a, e) :: w) :: cs) a e := List.mem_flatten.mpr ⟨_, List.mem_cons_self, List.mem_cons_self⟩
theorem xm_t {a : Nat} {e : va_E} {w : va_W} {cs : List va_W} (h : XM cs a e) : XM (w :: cs) a e := by
  obtain ⟨z, h1, h2⟩ := List.mem_flatten.mp h
  exact List.mem_flatten.mpr ⟨z, List.mem_cons_of_mem _ h1, h2⟩
theorem xm_m {a : Nat} {e : va_E} {w : va_W} {cs : List va_W} (h : (a, e) ∈ w) : XM (w :: cs) a e := List.mem_flatten.mpr ⟨_, List.mem_cons_self, h⟩
section XR3
variable {D : xG} {X : XX} {own : String} {cc : ByteArray} {ret : Option FieldType} {nm : String} {nL : Nat} {et : List ExceptionTableEntry} {fr lo mc ms : Nat} {Rl : Option Value → List va_W → Prop} {Rx : String → Nat → List va_W → Prop} {cs cs' : List va_W} {k n pc : Nat} {L : List (Option Value)} {st : List Value} {a : Nat}
theorem x_mmin (B : XB D X own cc ret nm nL et fr lo mc ms Rl Rx) (np : Nat) {idx : Nat} {x y : Int32} (w : Cond.methodLink own idx ⟨"java/lang/Math", "min", "(II)I"⟩ ∈ lw_all) (hfr : 1 ≤ fr) (hlo : (st.map fun v => v.category).sum + 13 ≤ lo) (hC : k ≤ mc ∧ n ≤ ms) (d : decode cc pc = .ok (.invokestatic idx, 3)) (e : pc + 3 = np) (h : WX D X cs k n np L (.int (if y < x then y else x) :: st)) : WX D X cs k n pc L (.int y :: .int x :: st) := by
  subst e
  obtain ⟨p, l, e0, R, s, m, args, below, meth, c, A, Q⟩ := X
  intro H locs ls hP hD hS hL
  obtain ⟨hx, hb, -, hlk, hown, hts, hKA, hA0, hRm, -⟩ := B
  subst hRm
  exact va_mmin hx hb hL.1.1.symm hown (hts _ w) (hts _ q524) (hts _ q103) (hts _ q525) hfr hlo hC.1 hC.2 d (h H locs ls hP hD hS hL)
theorem x_acopy (B : XB D X own cc ret nm nL et fr lo mc ms Rl Rx) (np : Nat) {t n0 n1 i j m0 a0 idx : Nat} {ty : FieldType} {f g : Nat → Int32} {sp dp nn : Int32} (ht : (xTys D.2.1)[t]? = some (D.2.1 t, ty)) (hp : refKind ty = false) (hm : XM cs a0 (aI (D.2.1 t) n0 f)) (hu : XUp cs a (aI (D.2.1 t) n1 g) (aI (D.2.1 t) n1 (va_cpy f g i j m0)) cs') (e1 : sp = nI i) (e2 : dp = nI j) (e3 : nn = nI m0) (h4 : i + m0 ≤ n0 ∧ j + m0 ≤ n1 ∧ n0 < 1073741824 ∧ n1 < 1073741824) (hfit : ∀ x, x < m0 → fits ty (.int (f (i + x))) = true)
    (w : Cond.methodLink own idx ⟨"java/lang/System", "arraycopy", "(Ljava/lang/Object;ILjava/lang/Object;II)V"⟩ ∈ lw_all) (hfr : 1 ≤ fr) (hlo : (st.map fun v => v.category).sum + (nativeFrameWords "java/lang/System" "arraycopy" 5 + 11) ≤ lo) (d : decode cc pc = .ok (.invokestatic idx, 3)) (e : pc + 3 = np) (h : WX D X cs' k n np L st) : WX D X cs k n pc L (.int nn :: .int dp :: .ref a :: .int sp :: .ref a0 :: st) := by
  subst e e1 e2 e3
  obtain ⟨p, l, e0, R, s, m, args, below, meth, c, A, Q⟩ := X
  intro H locs ls hP hD hS hL
  obtain ⟨hx, hb, -, hlk, hown, hts, hKA, hA0, hRm, -⟩ := B
  subst hRm
  obtain ⟨p1, p2, p3, p4⟩ := h4
  obtain ⟨q0, hq0⟩ := List.getElem?_of_mem hm
  obtain ⟨q1, hq1, hset⟩ := hu
  have c1 : (nI i).toNatClampNeg = i := nI_clamp (by omega)
  have c2 : (nI j).toNatClampNeg = j := nI_clamp (by omega)
  have c3 : (nI m0).toNatClampNeg = m0 := nI_clamp (by omega)
  refine va_copyi hx hb hL.1.1.symm hown (hts _ w) (hts _ q202) (hts _ q201) (hts _ q91) hKA.1.1 hP hD hS q0 q1 t t hq0 hq1 ht ht hp (nI_pos (by omega)) (nI_pos (by omega)) (nI_pos (by omega)) (by rw [c1, c3]; exact p1) (by rw [c2, c3]; exact p2) (by rw [c1, c3]; exact hfit) hfr hlo d (fun H1 locs1 hP1 hD1 hS1 => ?_)
  rw [c1, c2, c3, ← hset] at hP1 hD1
  exact h H1 locs1 ls hP1 hD1 hS1 hL
end XR3
