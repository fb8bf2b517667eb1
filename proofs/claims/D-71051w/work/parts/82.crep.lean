/-! THE COMPONENT, 2: a state on the heap -/
/-- what each bird knows: eight rows of bytes -/
def cK (D : xG) (sa : Nat → Nat) (kn : Nat → Nat → Int32) : va_W := (List.range 8).map (fun b => (sa (5 + b), aI (D.2.1 1) 10 (kn b)))
abbrev cS0 (h : Nat) (sa : Nat → Nat) (cov ev : Int32) : va_W := [(sa 0, .inr (1, [.ref (sa 1), .ref (sa 2), .ref (sa 3), .ref (sa 4), .int cov, .int ev, .ref h]))]
abbrev cS1 (D : xG) (sa : Nat → Nat) : va_W := [(sa 1, aQ (D.2.1 4) 8 (fun b => some (sa (5 + b))))]
abbrev cSI (D : xG) (sa : Nat → Nat) (i N : Nat) (f : Nat → Int32) : va_W := [(sa i, aI (D.2.1 0) N f)]
theorem cK_get {D : xG} {sa : Nat → Nat} {kn : Nat → Nat → Int32} {b : Nat} (hb : b < 8) : (sa (5 + b), aI (D.2.1 1) 10 (kn b)) ∈ cK D sa kn := List.mem_map.mpr ⟨b, List.mem_range.mpr hb, rfl⟩
theorem cK_set {D : xG} {sa : Nat → Nat} {kn : Nat → Nat → Int32} {b : Nat} (hb : b < 8) (f : Nat → Int32) : XIn (cK D sa kn) (sa (5 + b)) (aI (D.2.1 1) 10 (kn b)) (aI (D.2.1 1) 10 f) (cK D sa (fUp kn b f)) := by
  refine ⟨b, ?_, ?_⟩
  · have : b = 0 ∨ b = 1 ∨ b = 2 ∨ b = 3 ∨ b = 4 ∨ b = 5 ∨ b = 6 ∨ b = 7 := by omega
    rcases this with rfl | rfl | rfl | rfl | rfl | rfl | rfl | rfl <;> rfl
  · have : b = 0 ∨ b = 1 ∨ b = 2 ∨ b = 3 ∨ b = 4 ∨ b = 5 ∨ b = 6 ∨ b = 7 := by omega
    rcases this with rfl | rfl | rfl | rfl | rfl | rfl | rfl | rfl <;> rfl
def CRep (kn : Nat → Nat → Int32) (pf hf yf : Nat → Int32) (cov ev : Int32) (nb nm : Nat) (S : HS) : Prop := cov = nI S.2.2.2.2.1 ∧ ev = nI S.2.2.2.2.2 ∧ (∀ b, b < nb → pf b = nI (S.2.1 b)) ∧ (∀ b w, b < nb → w < 10 → kn b w = nI (S.1 b w)) ∧ (∀ m, m < nm → hf m = nI (S.2.2.1 m)) ∧ (∀ m, m < nm → yf m = oI (S.2.2.2.1 m))
def CFit (kn : Nat → Nat → Int32) : Prop := ∀ b w, b < 8 → w < 10 → ∃ v, v ≤ 9 ∧ kn b w = nI v
theorem fit9 : ∀ v, v ≤ 9 → fits .byte (.int (nI v)) = true := by decide
theorem cut9 : ∀ v, v ≤ 9 → (nI v).toInt8.toInt32 = nI v := by decide
theorem nar9 : ∀ v, v ≤ 9 → vp_nar .byte (nI v) = nI v := by decide
