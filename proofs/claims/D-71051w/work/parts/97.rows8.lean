/-! MY LAYER, 16: birds in a pool; what they are asked -/
/-- a bird: its kind, its number -/
abbrev oB (k v : Nat) : va_E := .inr (9 + k, [.int (nI v)])
section XR8
variable {D : xG} {X : XX} {own : String} {cc : ByteArray} {ret : Option FieldType} {nm : String} {nL : Nat} {et : List ExceptionTableEntry} {fr lo mc ms : Nat} {Rl : Option Value → List va_W → Prop} {Rx : String → Nat → List va_W → Prop} {cs cs' : List va_W} {k n pc : Nat} {L : List (Option Value)} {st : List Value} {a : Nat}
/-- an overriding class' method is called by an abstract class's name -/
theorem x_callO (B : XB D X own cc ret nm nL et fr lo mc ms Rl Rx) (np : Nat) {x y : MethodName} {owner C : String} {bytes : ByteArray} {maxL idx f9 l9 c9 s9 b : Nat} {rt : Option FieldType} {As rest : List Value} {cin : List va_W} {R9 : Option Value → List va_W → Prop} {Z9 : String → Nat → List va_W → Prop}
    (hM : XC D y (ws_ y bytes maxL rt) f9 l9 c9 s9 (.ref b :: As) cin R9 Z9) (is : List Nat) (sel : is.map (fun i => cs[i]?) = cin.map some) (hrc : XRc D cs b C)
    (w1 : Cond.methodLink own idx x ∈ lw_all) (w2 : Cond.sameMethod x.cls owner x.name x.desc ∈ lw_all) (w3 : Cond.declares ⟨owner, x.name, x.desc⟩ ∈ lw_tbl) (w4 : Cond.selects C ⟨owner, x.name, x.desc⟩ y ∈ lw_all) (w5 : Cond.instanceMethod y ∈ lw_all) (w6 : Cond.initialized y.cls ∈ lw_all) (w7 : Cond.code y bytes maxL rt ∈ lw_all)
    (hd : owner ≠ "java/lang/invoke/MethodHandle" ∧ owner ≠ "java/lang/invoke/VarHandle" ∧ (parseMethodDescriptor x.desc).map (fun d => d.parameters.length) = some As.length) (nd : va_nd is = true) (hR : f9 + 1 ≤ fr ∧ 8 + (maxL + 11) + l9 ≤ lo) (hC : k + c9 ≤ mc ∧ n + s9 ≤ ms) (hs : st = As.reverse ++ .ref b :: rest) (hw : (rest.map fun v => v.category).sum ≤ 8)
    (d : decode cc pc = .ok (.invokevirtual idx, 3)) (e : pc + 3 = np) (kx : ∀ E q cs2, Z9 E q cs2 → WT D X (xput cs is cs2) (k + c9) (n + s9) pc L E q) (kk : ∀ v cs2, R9 v cs2 → WX D X (xput cs is cs2) (k + c9) (n + s9) np L (xst v rest)) : WX D X cs k n pc L st := by
  subst e hs
  obtain ⟨p, l, e0, R, s, m, args, below, meth, c, A, Q⟩ := X
  intro H locs ls hP hD hS hL
  obtain ⟨hx, hb, -, -, hown, hts, hKA, hA0, hRm, hst, -⟩ := B
  subst hRm
  have len : ∀ sig, parseMethodDescriptor x.desc = some sig → As.length = sig.parameters.length := by
    intro sig h
    have h2 := hd.2.2
    rw [h] at h2
    exact (Option.some.inj h2).symm
  exact x_core 3 is sel nd hP hD hS hL hA0 (xv_runU (As := As) (rest := rest) (owner := owner) (x := x) ⟨hx, hb, rfl, hown, hts⟩ (hM l H.size hst) ⟨⟨rfl, rfl, hR.1, hR.2, pay_in hts (lw_meth w7), List.mem_cons_self⟩, hts _ w7, hts _ w6, ⟨hd.1, hd.2.1⟩, len, hts _ w1, hts _ w2, va_Decl.abs (hKA.1.2.1 _ w3 rfl), hts _ w4, hts _ w5⟩ ⟨xblind, xrecv hrc hP hS hKA, fun U hU hW => ⟨rfl, xpc is sel nd hP hD hS hA0 hKA hU hW⟩⟩ rfl rfl hL.1.1 rfl (lv_room hw) d hC) kx kk
theorem x_pull {i : Nat} {s t : va_W} {q : Nat × va_E} (hi : cs[i]? = some (s ++ q :: t)) (h : WX D X ([q] :: cs.set i (s ++ t)) k n pc L st) : WX D X cs k n pc L st := by
  refine x_perm ?_ h
  have hl := (List.getElem?_eq_some_iff.mp hi).1
  refine (xf_clr hi).trans ?_
  show _root_.List.Perm _ ([q] ++ xf (cs.set i (s ++ t)))
  refine List.Perm.trans ?_ ((xf_put (s ++ t) hl).symm.append_left [q])
  rw [← List.append_assoc]
  exact (List.perm_middle).append_right _
theorem x_push {i : Nat} {s t : va_W} {q : Nat × va_E} (hi : cs[i]? = some (s ++ q :: t)) (h : WX D X cs k n pc L st) : WX D X ([q] :: cs.set i (s ++ t)) k n pc L st := by
  refine x_perm ?_ h
  have hl := (List.getElem?_eq_some_iff.mp hi).1
  refine List.Perm.symm ?_
  refine (xf_clr hi).trans ?_
  show _root_.List.Perm _ ([q] ++ xf (cs.set i (s ++ t)))
  refine List.Perm.trans ?_ ((xf_put (s ++ t) hl).symm.append_left [q])
  rw [← List.append_assoc]
  exact (List.perm_middle).append_right _
theorem x_bGets_X1 (B : XB D X RX1 cc ret nm nL et fr lo mc ms Rl Rx) (np : Nat) {i kk v q : Nat} {bp : va_W} {rest : List Value} (hi : cs[i]? = some bp) (hq : (q, oB kk v) ∈ bp) (hk : kk ≤ 4) (hfr : 4 ≤ fr ∧ 160 ≤ lo) (hC : k ≤ mc ∧ n ≤ ms) (hw : (rest.map fun v => v.category).sum ≤ 8) (d : decode cc pc = .ok (.invokevirtual 59, 3)) (e : pc + 3 = np) (h : WX D X cs k n np L (.int (nI (hGets kk)) :: rest)) : WX D X cs k n pc L (.ref q :: rest) := by
  obtain ⟨s, t, rfl⟩ := List.append_of_mem hq
  refine x_pull hi ?_
  have hk : kk = 0 ∨ kk = 1 ∨ kk = 2 ∨ kk = 3 ∨ kk = 4 := by omega
  rcases hk with rfl | rfl | rfl | rfl | rfl
  · refine x_callD B np (C := "ParrotSpeech$Parrot") (m_X16_gets_9) [0] rfl ⟨9, _, _, xr_h, rfl, rfl⟩ xw_0 xw_1 q1264 xl_6 q1275 q2256 q1276 (by decide +kernel) (by decide) ⟨by omega, by omega⟩ ⟨by omega, by omega⟩ rfl hw d e (fun _ _ _ h => h.elim) ?_
    rintro _ _ ⟨rfl, rfl⟩
    exact x_push hi h
  · refine x_callU B np (C := "ParrotSpeech$Grey") (m_X12_gets) [0] rfl ⟨10, _, _, xr_h, rfl, rfl⟩ xw_0 xw_1 q1264 q1272 q1273 q123 q1274 (by decide +kernel) (by decide) ⟨by omega, by omega⟩ ⟨by omega, by omega⟩ rfl hw d e (fun _ _ _ h => h.elim) ?_
    rintro _ _ ⟨rfl, rfl⟩
    exact x_push hi h
  · refine x_callD B np (C := "ParrotSpeech$Cockatoo") (m_X16_gets_11) [0] rfl ⟨11, _, _, xr_h, rfl, rfl⟩ xw_0 xw_1 q1264 xl_0 q1275 q2256 q1276 (by decide +kernel) (by decide) ⟨by omega, by omega⟩ ⟨by omega, by omega⟩ rfl hw d e (fun _ _ _ h => h.elim) ?_
    rintro _ _ ⟨rfl, rfl⟩
    exact x_push hi h
  · refine x_callD B np (C := "ParrotSpeech$Hawk") (m_X16_gets_12) [0] rfl ⟨12, _, _, xr_h, rfl, rfl⟩ xw_0 xw_1 q1264 xl_5 q1275 q2256 q1276 (by decide +kernel) (by decide) ⟨by omega, by omega⟩ ⟨by omega, by omega⟩ rfl hw d e (fun _ _ _ h => h.elim) ?_
    rintro _ _ ⟨rfl, rfl⟩
    exact x_push hi h
  · refine x_callU B np (C := "ParrotSpeech$Green") (m_X15_gets) [0] rfl ⟨13, _, _, xr_h, rfl, rfl⟩ xw_0 xw_1 q1264 q1266 q1267 q126 q1268 (by decide +kernel) (by decide) ⟨by omega, by omega⟩ ⟨by omega, by omega⟩ rfl hw d e (fun _ _ _ h => h.elim) ?_
    rintro _ _ ⟨rfl, rfl⟩
    exact x_push hi h
theorem x_bSilences_X1 (B : XB D X RX1 cc ret nm nL et fr lo mc ms Rl Rx) (np : Nat) {i kk v q : Nat} {bp : va_W} {rest : List Value} (hi : cs[i]? = some bp) (hq : (q, oB kk v) ∈ bp) (hk : kk ≤ 4) (hfr : 4 ≤ fr ∧ 160 ≤ lo) (hC : k ≤ mc ∧ n ≤ ms) (hw : (rest.map fun v => v.category).sum ≤ 8) (d : decode cc pc = .ok (.invokevirtual 81, 3)) (e : pc + 3 = np) (h : WX D X cs k n np L (.int (bI (decide (kk = 3))) :: rest)) : WX D X cs k n pc L (.ref q :: rest) := by
  obtain ⟨s, t, rfl⟩ := List.append_of_mem hq
  refine x_pull hi ?_
  have hk : kk = 0 ∨ kk = 1 ∨ kk = 2 ∨ kk = 3 ∨ kk = 4 := by omega
  rcases hk with rfl | rfl | rfl | rfl | rfl
  · refine x_callD B np (C := "ParrotSpeech$Parrot") (m_X16_silences_9) [0] rfl ⟨9, _, _, xr_h, rfl, rfl⟩ xw_5 xw_6 q1317 xl_11 q1322 q2256 q1323 (by decide +kernel) (by decide) ⟨by omega, by omega⟩ ⟨by omega, by omega⟩ rfl hw d e (fun _ _ _ h => h.elim) ?_
    rintro _ _ ⟨rfl, rfl⟩
    exact x_push hi h
  · refine x_callD B np (C := "ParrotSpeech$Grey") (m_X16_silences_10) [0] rfl ⟨10, _, _, xr_h, rfl, rfl⟩ xw_5 xw_6 q1317 xl_9 q1322 q2256 q1323 (by decide +kernel) (by decide) ⟨by omega, by omega⟩ ⟨by omega, by omega⟩ rfl hw d e (fun _ _ _ h => h.elim) ?_
    rintro _ _ ⟨rfl, rfl⟩
    exact x_push hi h
  · refine x_callD B np (C := "ParrotSpeech$Cockatoo") (m_X16_silences_11) [0] rfl ⟨11, _, _, xr_h, rfl, rfl⟩ xw_5 xw_6 q1317 xl_7 q1322 q2256 q1323 (by decide +kernel) (by decide) ⟨by omega, by omega⟩ ⟨by omega, by omega⟩ rfl hw d e (fun _ _ _ h => h.elim) ?_
    rintro _ _ ⟨rfl, rfl⟩
    exact x_push hi h
  · refine x_callD B np (C := "ParrotSpeech$Hawk") (m_X16_silences_12) [0] rfl ⟨12, _, _, xr_h, rfl, rfl⟩ xw_5 xw_6 q1317 xl_10 q1322 q2256 q1323 (by decide +kernel) (by decide) ⟨by omega, by omega⟩ ⟨by omega, by omega⟩ rfl hw d e (fun _ _ _ h => h.elim) ?_
    rintro _ _ ⟨rfl, rfl⟩
    exact x_push hi h
  · refine x_callU B np (C := "ParrotSpeech$Green") (m_X15_silences) [0] rfl ⟨13, _, _, xr_h, rfl, rfl⟩ xw_5 xw_6 q1317 q1319 q1320 q126 q1321 (by decide +kernel) (by decide) ⟨by omega, by omega⟩ ⟨by omega, by omega⟩ rfl hw d e (fun _ _ _ h => h.elim) ?_
    rintro _ _ ⟨rfl, rfl⟩
    exact x_push hi h
theorem x_bHears_X1 (B : XB D X RX1 cc ret nm nL et fr lo mc ms Rl Rx) (np : Nat) {i kk v q : Nat} {bp : va_W} {rest : List Value} (hi : cs[i]? = some bp) (hq : (q, oB kk v) ∈ bp) (hk : kk ≤ 4) (hfr : 4 ≤ fr ∧ 160 ≤ lo) (hC : k ≤ mc ∧ n ≤ ms) (hw : (rest.map fun v => v.category).sum ≤ 8) (d : decode cc pc = .ok (.invokevirtual 94, 3)) (e : pc + 3 = np) (h : WX D X cs k n np L (.int (nI (hHears kk)) :: rest)) : WX D X cs k n pc L (.ref q :: rest) := by
  obtain ⟨s, t, rfl⟩ := List.append_of_mem hq
  refine x_pull hi ?_
  have hk : kk = 0 ∨ kk = 1 ∨ kk = 2 ∨ kk = 3 ∨ kk = 4 := by omega
  rcases hk with rfl | rfl | rfl | rfl | rfl
  · refine x_callD B np (C := "ParrotSpeech$Parrot") (m_X16_hears) [0] rfl ⟨9, _, _, xr_h, rfl, rfl⟩ xw_11 xw_12 q1280 xl_14 q1283 q2256 q1285 (by decide +kernel) (by decide) ⟨by omega, by omega⟩ ⟨by omega, by omega⟩ rfl hw d e (fun _ _ _ h => h.elim) ?_
    rintro _ _ ⟨rfl, rfl⟩
    exact x_push hi h
  · refine x_callD B np (C := "ParrotSpeech$Grey") (m_X16_hears) [0] rfl ⟨10, _, _, xr_h, rfl, rfl⟩ xw_11 xw_12 q1280 xl_13 q1283 q2256 q1285 (by decide +kernel) (by decide) ⟨by omega, by omega⟩ ⟨by omega, by omega⟩ rfl hw d e (fun _ _ _ h => h.elim) ?_
    rintro _ _ ⟨rfl, rfl⟩
    exact x_push hi h
  · refine x_callD B np (C := "ParrotSpeech$Cockatoo") (m_X16_hears) [0] rfl ⟨11, _, _, xr_h, rfl, rfl⟩ xw_11 xw_12 q1280 xl_12 q1283 q2256 q1285 (by decide +kernel) (by decide) ⟨by omega, by omega⟩ ⟨by omega, by omega⟩ rfl hw d e (fun _ _ _ h => h.elim) ?_
    rintro _ _ ⟨rfl, rfl⟩
    exact x_push hi h
  · refine x_callU B np (C := "ParrotSpeech$Hawk") (m_X14_hears) [0] rfl ⟨12, _, _, xr_h, rfl, rfl⟩ xw_11 xw_12 q1280 q1295 q1270 q125 q1271 (by decide +kernel) (by decide) ⟨by omega, by omega⟩ ⟨by omega, by omega⟩ rfl hw d e (fun _ _ _ h => h.elim) ?_
    rintro _ _ ⟨rfl, rfl⟩
    exact x_push hi h
  · refine x_callU B np (C := "ParrotSpeech$Green") (m_X15_hears) [0] rfl ⟨13, _, _, xr_h, rfl, rfl⟩ xw_11 xw_12 q1280 q1287 q1289 q126 q1291 (by decide +kernel) (by decide) ⟨by omega, by omega⟩ ⟨by omega, by omega⟩ rfl hw d e (fun _ _ _ h => h.elim) ?_
    rintro _ _ ⟨rfl, rfl⟩
    exact x_push hi h
theorem x_bSays_X1 (B : XB D X RX1 cc ret nm nL et fr lo mc ms Rl Rx) (np : Nat) {i kk v q : Nat} {bp : va_W} {rest : List Value} (hi : cs[i]? = some bp) (hq : (q, oB kk v) ∈ bp) (hk : kk ≤ 4) (hfr : 4 ≤ fr ∧ 160 ≤ lo) (hC : k ≤ mc ∧ n ≤ ms) (hw : (rest.map fun v => v.category).sum ≤ 8) (d : decode cc pc = .ok (.invokevirtual 97, 3)) (e : pc + 3 = np) (h : WX D X cs k n np L (.int (nI (hSays kk)) :: rest)) : WX D X cs k n pc L (.ref q :: rest) := by
  obtain ⟨s, t, rfl⟩ := List.append_of_mem hq
  refine x_pull hi ?_
  have hk : kk = 0 ∨ kk = 1 ∨ kk = 2 ∨ kk = 3 ∨ kk = 4 := by omega
  rcases hk with rfl | rfl | rfl | rfl | rfl
  · refine x_callU B np (C := "ParrotSpeech$Parrot") (m_X11_says) [0] rfl ⟨9, _, _, xr_h, rfl, rfl⟩ xw_9 xw_10 q1327 q1346 q1334 q122 q1335 (by decide +kernel) (by decide) ⟨by omega, by omega⟩ ⟨by omega, by omega⟩ rfl hw d e (fun _ _ _ h => h.elim) ?_
    rintro _ _ ⟨rfl, rfl⟩
    exact x_push hi h
  · refine x_callU B np (C := "ParrotSpeech$Grey") (m_X11_says) [0] rfl ⟨10, _, _, xr_h, rfl, rfl⟩ xw_9 xw_10 q1327 q1341 q1334 q122 q1335 (by decide +kernel) (by decide) ⟨by omega, by omega⟩ ⟨by omega, by omega⟩ rfl hw d e (fun _ _ _ h => h.elim) ?_
    rintro _ _ ⟨rfl, rfl⟩
    exact x_push hi h
  · refine x_callU B np (C := "ParrotSpeech$Cockatoo") (m_X13_says) [0] rfl ⟨11, _, _, xr_h, rfl, rfl⟩ xw_9 xw_10 q1327 q1328 q1330 q124 q1332 (by decide +kernel) (by decide) ⟨by omega, by omega⟩ ⟨by omega, by omega⟩ rfl hw d e (fun _ _ _ h => h.elim) ?_
    rintro _ _ ⟨rfl, rfl⟩
    exact x_push hi h
  · refine x_callU B np (C := "ParrotSpeech$Hawk") (m_X14_says) [0] rfl ⟨12, _, _, xr_h, rfl, rfl⟩ xw_9 xw_10 q1327 q1344 q1338 q125 q1340 (by decide +kernel) (by decide) ⟨by omega, by omega⟩ ⟨by omega, by omega⟩ rfl hw d e (fun _ _ _ h => h.elim) ?_
    rintro _ _ ⟨rfl, rfl⟩
    exact x_push hi h
  · refine x_callU B np (C := "ParrotSpeech$Green") (m_X14_says) [0] rfl ⟨13, _, _, xr_h, rfl, rfl⟩ xw_9 xw_10 q1327 q1336 q1338 q125 q1340 (by decide +kernel) (by decide) ⟨by omega, by omega⟩ ⟨by omega, by omega⟩ rfl hw d e (fun _ _ _ h => h.elim) ?_
    rintro _ _ ⟨rfl, rfl⟩
    exact x_push hi h
theorem x_bLoses_X1 (B : XB D X RX1 cc ret nm nL et fr lo mc ms Rl Rx) (np : Nat) {i kk v q : Nat} {bp : va_W} {rest : List Value} (hi : cs[i]? = some bp) (hq : (q, oB kk v) ∈ bp) (hk : kk ≤ 4) (hfr : 4 ≤ fr ∧ 160 ≤ lo) (hC : k ≤ mc ∧ n ≤ ms) (hw : (rest.map fun v => v.category).sum ≤ 8) (d : decode cc pc = .ok (.invokevirtual 107, 3)) (e : pc + 3 = np) (h : WX D X cs k n np L (.int (nI (hLoses kk)) :: rest)) : WX D X cs k n pc L (.ref q :: rest) := by
  obtain ⟨s, t, rfl⟩ := List.append_of_mem hq
  refine x_pull hi ?_
  have hk : kk = 0 ∨ kk = 1 ∨ kk = 2 ∨ kk = 3 ∨ kk = 4 := by omega
  rcases hk with rfl | rfl | rfl | rfl | rfl
  · refine x_callD B np (C := "ParrotSpeech$Parrot") (m_X16_loses_9) [0] rfl ⟨9, _, _, xr_h, rfl, rfl⟩ xw_13 xw_14 q1368 xl_18 q1376 q2256 q1377 (by decide +kernel) (by decide) ⟨by omega, by omega⟩ ⟨by omega, by omega⟩ rfl hw d e (fun _ _ _ h => h.elim) ?_
    rintro _ _ ⟨rfl, rfl⟩
    exact x_push hi h
  · refine x_callU B np (C := "ParrotSpeech$Grey") (m_X12_loses) [0] rfl ⟨10, _, _, xr_h, rfl, rfl⟩ xw_13 xw_14 q1368 q1373 q1374 q123 q1375 (by decide +kernel) (by decide) ⟨by omega, by omega⟩ ⟨by omega, by omega⟩ rfl hw d e (fun _ _ _ h => h.elim) ?_
    rintro _ _ ⟨rfl, rfl⟩
    exact x_push hi h
  · refine x_callD B np (C := "ParrotSpeech$Cockatoo") (m_X16_loses_11) [0] rfl ⟨11, _, _, xr_h, rfl, rfl⟩ xw_13 xw_14 q1368 xl_15 q1376 q2256 q1377 (by decide +kernel) (by decide) ⟨by omega, by omega⟩ ⟨by omega, by omega⟩ rfl hw d e (fun _ _ _ h => h.elim) ?_
    rintro _ _ ⟨rfl, rfl⟩
    exact x_push hi h
  · refine x_callD B np (C := "ParrotSpeech$Hawk") (m_X16_loses_12) [0] rfl ⟨12, _, _, xr_h, rfl, rfl⟩ xw_13 xw_14 q1368 xl_17 q1376 q2256 q1377 (by decide +kernel) (by decide) ⟨by omega, by omega⟩ ⟨by omega, by omega⟩ rfl hw d e (fun _ _ _ h => h.elim) ?_
    rintro _ _ ⟨rfl, rfl⟩
    exact x_push hi h
  · refine x_callU B np (C := "ParrotSpeech$Green") (m_X15_loses) [0] rfl ⟨13, _, _, xr_h, rfl, rfl⟩ xw_13 xw_14 q1368 q1370 q1371 q126 q1372 (by decide +kernel) (by decide) ⟨by omega, by omega⟩ ⟨by omega, by omega⟩ rfl hw d e (fun _ _ _ h => h.elim) ?_
    rintro _ _ ⟨rfl, rfl⟩
    exact x_push hi h
theorem x_bGets_X0 (B : XB D X RX0 cc ret nm nL et fr lo mc ms Rl Rx) (np : Nat) {i kk v q : Nat} {bp : va_W} {rest : List Value} (hi : cs[i]? = some bp) (hq : (q, oB kk v) ∈ bp) (hk : kk ≤ 4) (hfr : 4 ≤ fr ∧ 160 ≤ lo) (hC : k ≤ mc ∧ n ≤ ms) (hw : (rest.map fun v => v.category).sum ≤ 8) (d : decode cc pc = .ok (.invokevirtual 231, 3)) (e : pc + 3 = np) (h : WX D X cs k n np L (.int (nI (hGets kk)) :: rest)) : WX D X cs k n pc L (.ref q :: rest) := by
  obtain ⟨s, t, rfl⟩ := List.append_of_mem hq
  refine x_pull hi ?_
  have hk : kk = 0 ∨ kk = 1 ∨ kk = 2 ∨ kk = 3 ∨ kk = 4 := by omega
  rcases hk with rfl | rfl | rfl | rfl | rfl
  · refine x_callD B np (C := "ParrotSpeech$Parrot") (m_X16_gets_9) [0] rfl ⟨9, _, _, xr_h, rfl, rfl⟩ xw_17 xw_1 q1264 xl_6 q1275 q2256 q1276 (by decide +kernel) (by decide) ⟨by omega, by omega⟩ ⟨by omega, by omega⟩ rfl hw d e (fun _ _ _ h => h.elim) ?_
    rintro _ _ ⟨rfl, rfl⟩
    exact x_push hi h
  · refine x_callU B np (C := "ParrotSpeech$Grey") (m_X12_gets) [0] rfl ⟨10, _, _, xr_h, rfl, rfl⟩ xw_17 xw_1 q1264 q1272 q1273 q123 q1274 (by decide +kernel) (by decide) ⟨by omega, by omega⟩ ⟨by omega, by omega⟩ rfl hw d e (fun _ _ _ h => h.elim) ?_
    rintro _ _ ⟨rfl, rfl⟩
    exact x_push hi h
  · refine x_callD B np (C := "ParrotSpeech$Cockatoo") (m_X16_gets_11) [0] rfl ⟨11, _, _, xr_h, rfl, rfl⟩ xw_17 xw_1 q1264 xl_0 q1275 q2256 q1276 (by decide +kernel) (by decide) ⟨by omega, by omega⟩ ⟨by omega, by omega⟩ rfl hw d e (fun _ _ _ h => h.elim) ?_
    rintro _ _ ⟨rfl, rfl⟩
    exact x_push hi h
  · refine x_callD B np (C := "ParrotSpeech$Hawk") (m_X16_gets_12) [0] rfl ⟨12, _, _, xr_h, rfl, rfl⟩ xw_17 xw_1 q1264 xl_5 q1275 q2256 q1276 (by decide +kernel) (by decide) ⟨by omega, by omega⟩ ⟨by omega, by omega⟩ rfl hw d e (fun _ _ _ h => h.elim) ?_
    rintro _ _ ⟨rfl, rfl⟩
    exact x_push hi h
  · refine x_callU B np (C := "ParrotSpeech$Green") (m_X15_gets) [0] rfl ⟨13, _, _, xr_h, rfl, rfl⟩ xw_17 xw_1 q1264 q1266 q1267 q126 q1268 (by decide +kernel) (by decide) ⟨by omega, by omega⟩ ⟨by omega, by omega⟩ rfl hw d e (fun _ _ _ h => h.elim) ?_
    rintro _ _ ⟨rfl, rfl⟩
    exact x_push hi h
theorem x_bKind_X0 (B : XB D X RX0 cc ret nm nL et fr lo mc ms Rl Rx) (np : Nat) {i kk v q : Nat} {bp : va_W} {rest : List Value} (hi : cs[i]? = some bp) (hq : (q, oB kk v) ∈ bp) (hk : kk ≤ 4) (hfr : 4 ≤ fr ∧ 160 ≤ lo) (hC : k ≤ mc ∧ n ≤ ms) (hw : (rest.map fun v => v.category).sum ≤ 8) (d : decode cc pc = .ok (.invokevirtual 202, 3)) (e : pc + 3 = np) (h : WX D X cs k n np L (.int (nI (kk)) :: rest)) : WX D X cs k n pc L (.ref q :: rest) := by
  obtain ⟨s, t, rfl⟩ := List.append_of_mem hq
  refine x_pull hi ?_
  have hk : kk = 0 ∨ kk = 1 ∨ kk = 2 ∨ kk = 3 ∨ kk = 4 := by omega
  rcases hk with rfl | rfl | rfl | rfl | rfl
  · refine x_callO B np (C := "ParrotSpeech$Parrot") (m_X11_kind) [0] rfl ⟨9, _, _, xr_h, rfl, rfl⟩ q1201 q1203 q1202 q1221 q1208 q122 q1209 (by decide +kernel) (by decide) ⟨by omega, by omega⟩ ⟨by omega, by omega⟩ rfl hw d e (fun _ _ _ h => h.elim) ?_
    rintro _ _ ⟨rfl, rfl⟩
    exact x_push hi h
  · refine x_callO B np (C := "ParrotSpeech$Grey") (m_X12_kind) [0] rfl ⟨10, _, _, xr_h, rfl, rfl⟩ q1201 q1203 q1202 q1216 q1217 q123 q1218 (by decide +kernel) (by decide) ⟨by omega, by omega⟩ ⟨by omega, by omega⟩ rfl hw d e (fun _ _ _ h => h.elim) ?_
    rintro _ _ ⟨rfl, rfl⟩
    exact x_push hi h
  · refine x_callO B np (C := "ParrotSpeech$Cockatoo") (m_X13_kind) [0] rfl ⟨11, _, _, xr_h, rfl, rfl⟩ q1201 q1203 q1202 q1204 q1205 q124 q1206 (by decide +kernel) (by decide) ⟨by omega, by omega⟩ ⟨by omega, by omega⟩ rfl hw d e (fun _ _ _ h => h.elim) ?_
    rintro _ _ ⟨rfl, rfl⟩
    exact x_push hi h
  · refine x_callO B np (C := "ParrotSpeech$Hawk") (m_X14_kind) [0] rfl ⟨12, _, _, xr_h, rfl, rfl⟩ q1201 q1203 q1202 q1220 q1214 q125 q1215 (by decide +kernel) (by decide) ⟨by omega, by omega⟩ ⟨by omega, by omega⟩ rfl hw d e (fun _ _ _ h => h.elim) ?_
    rintro _ _ ⟨rfl, rfl⟩
    exact x_push hi h
  · refine x_callO B np (C := "ParrotSpeech$Green") (m_X15_kind) [0] rfl ⟨13, _, _, xr_h, rfl, rfl⟩ q1201 q1203 q1202 q1210 q1211 q126 q1212 (by decide +kernel) (by decide) ⟨by omega, by omega⟩ ⟨by omega, by omega⟩ rfl hw d e (fun _ _ _ h => h.elim) ?_
    rintro _ _ ⟨rfl, rfl⟩
    exact x_push hi h
end XR8
