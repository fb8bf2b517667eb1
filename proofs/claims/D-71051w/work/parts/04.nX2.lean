/-! ParrotSpeechModel -/
set_option maxRecDepth 100000
def RX2 : String := "ParrotSpeechModel"
def TX2 : u_T := fun k => match k with
  | 0 => ("ParrotSpeechModel", "row", "[I", true)
  | 1 => ("ParrotSpeechModel", "undos", "I", false)
  | 2 => ("ParrotSpeechModel", "isKept", "[Z", true)
  | 3 => ("ParrotSpeechModel", "text", "[I", true)
  | 4 => ("ParrotSpeechModel", "length", "I", false)
  | 5 => ("ParrotSpeechModel", "seenMany", "I", false)
  | 6 => ("ParrotSpeechModel", "seenPerch", "[I", true)
  | 7 => ("ParrotSpeechModel", "seenPlace", "[I", true)
  | 8 => ("ParrotSpeechModel", "seenWord", "[I", true)
  | 9 => ("ParrotSpeechModel", "tongueSize", "I", false)
  | 10 => ("ParrotSpeechModel", "letters", "[I", true)
  | 11 => ("ParrotSpeechModel", "ends", "[I", true)
  | 12 => ("ParrotSpeechModel", "begins", "[I", true)
  | 13 => ("ParrotSpeechModel", "sizes", "[I", true)
  | 14 => ("ParrotSpeechModel", "sorts", "[I", true)
  | 15 => ("ParrotSpeechModel", "places", "[I", true)
  | 16 => ("ParrotSpeechModel", "first", "I", false)
  | 17 => ("ParrotSpeechModel", "behind", "I", false)
  | 18 => ("ParrotSpeechModel", "readBirds", "I", false)
  | 19 => ("ParrotSpeechModel", "readMen", "I", false)
  | 20 => ("ParrotSpeechModel", "readBy", "[I", true)
  | 21 => ("ParrotSpeechModel", "clauses", "I", false)
  | 22 => ("ParrotSpeechModel", "doing", "Z", false)
  | 23 => ("ParrotSpeechModel", "harbourWord", "[I", true)
  | 24 => ("ParrotSpeechModel", "parrotWord", "[I", true)
  | 25 => ("ParrotSpeechModel", "greyWord", "[I", true)
  | 26 => ("ParrotSpeechModel", "cockatooWord", "[I", true)
  | 27 => ("ParrotSpeechModel", "hawkWord", "[I", true)
  | 28 => ("ParrotSpeechModel", "greenWord", "[I", true)
  | 29 => ("ParrotSpeechModel", "manWord", "[I", true)
  | 30 => ("ParrotSpeechModel", "knowsWord", "[I", true)
  | 31 => ("ParrotSpeechModel", "sitsWord", "[I", true)
  | 32 => ("ParrotSpeechModel", "coverWord", "[I", true)
  | 33 => ("ParrotSpeechModel", "open", "[I", true)
  | 34 => ("ParrotSpeechModel", "isNow", "[Z", true)
  | 35 => ("ParrotSpeechModel", "isThen", "[Z", true)
  | 36 => ("ParrotSpeechModel", "saidWords", "[I", true)
  | 37 => ("ParrotSpeechModel", "saidMany", "[I", true)
  | 38 => ("ParrotSpeechModel", "keepsBy", "[I", true)
  | 39 => ("ParrotSpeechModel", "line", "[I", true)
  | 40 => ("ParrotSpeechModel", "bestLine", "[I", true)
  | _ => ("ParrotSpeechModel", "moved", "[I", true)
def tyX2 : Nat → FieldType := fun k => match k with
  | 0 => .array .int
  | 1 => .int
  | 2 => .array .boolean
  | 3 => .array .int
  | 4 => .int
  | 5 => .int
  | 6 => .array .int
  | 7 => .array .int
  | 8 => .array .int
  | 9 => .int
  | 10 => .array .int
  | 11 => .array .int
  | 12 => .array .int
  | 13 => .array .int
  | 14 => .array .int
  | 15 => .array .int
  | 16 => .int
  | 17 => .int
  | 18 => .int
  | 19 => .int
  | 20 => .array .int
  | 21 => .int
  | 22 => .boolean
  | 23 => .array .int
  | 24 => .array .int
  | 25 => .array .int
  | 26 => .array .int
  | 27 => .array .int
  | 28 => .array .int
  | 29 => .array .int
  | 30 => .array .int
  | 31 => .array .int
  | 32 => .array .int
  | 33 => .array .int
  | 34 => .array .boolean
  | 35 => .array .boolean
  | 36 => .array .int
  | 37 => .array .int
  | 38 => .array .int
  | 39 => .array .int
  | 40 => .array .int
  | _ => .array .int
abbrev wsX20 : List Cond := u_ws RX2 TX2 42
set_option maxRecDepth 100000 in
theorem nmX2 : ∀ a, a < 42 → ∀ b, b < 42 → a ≠ b → (TX2 a).2.1 ≠ (TX2 b).2.1 := by decide +kernel
set_option maxRecDepth 100000 in
theorem tyX2_ok : ∀ k, k < 42 → parseFieldDescriptor (TX2 k).2.2.1 = some (tyX2 k) := by decide +kernel
abbrev cX2_init : ByteArray := prog_18_method_1_code
def yX2_init : MethodName := ⟨RX2, "<init>", "()V"⟩
def dkwX2_init_22 : List UInt8 := [181, 0, 104, 177]
abbrev dktX2_init_22 : List UInt8 := dkwX2_init_22 ++ []
def dkwX2_init_21 : List UInt8 := [181, 0, 95, 42, 7, 188, 10, 181, 0, 98, 42, 7, 188, 10, 181, 0, 101, 42, 16, 12, 188, 10]
abbrev dktX2_init_21 : List UInt8 := dkwX2_init_21 ++ dktX2_init_22
def dkwX2_init_20 : List UInt8 := [181, 0, 86, 42, 16, 64, 188, 10, 181, 0, 89, 42, 7, 188, 10, 181, 0, 92, 42, 16, 32, 188, 10]
abbrev dktX2_init_20 : List UInt8 := dkwX2_init_20 ++ dktX2_init_21
def dkwX2_init_19 : List UInt8 := [42, 16, 8, 188, 10, 181, 0, 80, 42, 17, 0, 203, 188, 4, 181, 0, 83, 42, 17, 0, 203, 188, 4]
abbrev dktX2_init_19 : List UInt8 := dkwX2_init_19 ++ dktX2_init_20
def dkwX2_init_18 : List UInt8 := [79, 89, 4, 16, 111, 79, 89, 5, 16, 118, 79, 89, 6, 16, 101, 79, 89, 7, 16, 114, 79, 181, 0, 77]
abbrev dktX2_init_18 : List UInt8 := dkwX2_init_18 ++ dktX2_init_19
def dkwX2_init_17 : List UInt8 := [16, 105, 79, 89, 5, 16, 116, 79, 89, 6, 16, 115, 79, 181, 0, 74, 42, 8, 188, 10, 89, 3, 16, 99]
abbrev dktX2_init_17 : List UInt8 := dkwX2_init_17 ++ dktX2_init_18
def dkwX2_init_16 : List UInt8 := [6, 16, 119, 79, 89, 7, 16, 115, 79, 181, 0, 71, 42, 7, 188, 10, 89, 3, 16, 115, 79, 89, 4]
abbrev dktX2_init_16 : List UInt8 := dkwX2_init_16 ++ dktX2_init_17
def dkwX2_init_15 : List UInt8 := [79, 181, 0, 68, 42, 8, 188, 10, 89, 3, 16, 107, 79, 89, 4, 16, 110, 79, 89, 5, 16, 111, 79, 89]
abbrev dktX2_init_15 : List UInt8 := dkwX2_init_15 ++ dktX2_init_16
def dkwX2_init_14 : List UInt8 := [16, 110, 79, 181, 0, 65, 42, 6, 188, 10, 89, 3, 16, 109, 79, 89, 4, 16, 97, 79, 89, 5, 16, 110]
abbrev dktX2_init_14 : List UInt8 := dkwX2_init_14 ++ dktX2_init_15
def dkwX2_init_13 : List UInt8 := [188, 10, 89, 3, 16, 103, 79, 89, 4, 16, 114, 79, 89, 5, 16, 101, 79, 89, 6, 16, 101, 79, 89, 7]
abbrev dktX2_init_13 : List UInt8 := dkwX2_init_13 ++ dktX2_init_14
def dkwX2_init_12 : List UInt8 := [3, 16, 104, 79, 89, 4, 16, 97, 79, 89, 5, 16, 119, 79, 89, 6, 16, 107, 79, 181, 0, 62, 42, 8]
abbrev dktX2_init_12 : List UInt8 := dkwX2_init_12 ++ dktX2_init_13
def dkwX2_init_11 : List UInt8 := [8, 16, 116, 79, 89, 16, 6, 16, 111, 79, 89, 16, 7, 16, 111, 79, 181, 0, 59, 42, 7, 188, 10, 89]
abbrev dktX2_init_11 : List UInt8 := dkwX2_init_11 ++ dktX2_init_12
def dkwX2_init_10 : List UInt8 := [16, 99, 79, 89, 4, 16, 111, 79, 89, 5, 16, 99, 79, 89, 6, 16, 107, 79, 89, 7, 16, 97, 79, 89]
abbrev dktX2_init_10 : List UInt8 := dkwX2_init_10 ++ dktX2_init_11
def dkwX2_init_9 : List UInt8 := [16, 114, 79, 89, 5, 16, 101, 79, 89, 6, 16, 121, 79, 181, 0, 56, 42, 16, 8, 188, 10, 89, 3]
abbrev dktX2_init_9 : List UInt8 := dkwX2_init_9 ++ dktX2_init_10
def dkwX2_init_8 : List UInt8 := [89, 7, 16, 111, 79, 89, 8, 16, 116, 79, 181, 0, 53, 42, 7, 188, 10, 89, 3, 16, 103, 79, 89, 4]
abbrev dktX2_init_8 : List UInt8 := dkwX2_init_8 ++ dktX2_init_9
def dkwX2_init_7 : List UInt8 := [16, 6, 188, 10, 89, 3, 16, 112, 79, 89, 4, 16, 97, 79, 89, 5, 16, 114, 79, 89, 6, 16, 114, 79]
abbrev dktX2_init_7 : List UInt8 := dkwX2_init_7 ++ dktX2_init_8
def dkwX2_init_6 : List UInt8 := [6, 16, 98, 79, 89, 7, 16, 111, 79, 89, 8, 16, 117, 79, 89, 16, 6, 16, 114, 79, 181, 0, 50, 42]
abbrev dktX2_init_6 : List UInt8 := dkwX2_init_6 ++ dktX2_init_7
def dkwX2_init_5 : List UInt8 := [181, 0, 47, 42, 16, 7, 188, 10, 89, 3, 16, 104, 79, 89, 4, 16, 97, 79, 89, 5, 16, 114, 79, 89]
abbrev dktX2_init_5 : List UInt8 := dkwX2_init_5 ++ dktX2_init_6
def dkwX2_init_4 : List UInt8 := [181, 0, 38, 42, 6, 188, 10, 181, 0, 41, 42, 16, 36, 188, 10, 181, 0, 44, 42, 7, 188, 10]
abbrev dktX2_init_4 : List UInt8 := dkwX2_init_4 ++ dktX2_init_5
def dkwX2_init_3 : List UInt8 := [17, 0, 202, 188, 10, 181, 0, 35, 42, 6, 188, 10, 89, 3, 2, 79, 89, 4, 2, 79, 89, 5, 2, 79]
abbrev dktX2_init_3 : List UInt8 := dkwX2_init_3 ++ dktX2_init_4
def dkwX2_init_2 : List UInt8 := [188, 10, 181, 0, 26, 42, 17, 0, 202, 188, 10, 181, 0, 29, 42, 17, 0, 202, 188, 10, 181, 0, 32, 42]
abbrev dktX2_init_2 : List UInt8 := dkwX2_init_2 ++ dktX2_init_3
def dkwX2_init_1 : List UInt8 := [188, 10, 181, 0, 17, 42, 16, 6, 188, 10, 181, 0, 20, 42, 16, 6, 188, 10, 181, 0, 23, 42, 16, 6]
abbrev dktX2_init_1 : List UInt8 := dkwX2_init_1 ++ dktX2_init_2
def dkwX2_init_0 : List UInt8 := [42, 183, 0, 1, 42, 17, 5, 124, 188, 10, 181, 0, 7, 42, 5, 188, 4, 181, 0, 13, 42, 17, 0, 200]
abbrev dktX2_init_0 : List UInt8 := dkwX2_init_0 ++ dktX2_init_1
theorem dksX2_init_0 : cX2_init.data.toList.drop 0 = dktX2_init_0 := by decide +kernel
theorem dksX2_init_1 : cX2_init.data.toList.drop 24 = dktX2_init_1 := dk_seg dksX2_init_0 24 rfl rfl
theorem dksX2_init_2 : cX2_init.data.toList.drop 48 = dktX2_init_2 := dk_seg dksX2_init_1 24 rfl rfl
theorem dksX2_init_3 : cX2_init.data.toList.drop 72 = dktX2_init_3 := dk_seg dksX2_init_2 24 rfl rfl
theorem dksX2_init_4 : cX2_init.data.toList.drop 96 = dktX2_init_4 := dk_seg dksX2_init_3 24 rfl rfl
theorem dksX2_init_5 : cX2_init.data.toList.drop 118 = dktX2_init_5 := dk_seg dksX2_init_4 22 rfl rfl
theorem dksX2_init_6 : cX2_init.data.toList.drop 142 = dktX2_init_6 := dk_seg dksX2_init_5 24 rfl rfl
theorem dksX2_init_7 : cX2_init.data.toList.drop 166 = dktX2_init_7 := dk_seg dksX2_init_6 24 rfl rfl
theorem dksX2_init_8 : cX2_init.data.toList.drop 190 = dktX2_init_8 := dk_seg dksX2_init_7 24 rfl rfl
theorem dksX2_init_9 : cX2_init.data.toList.drop 214 = dktX2_init_9 := dk_seg dksX2_init_8 24 rfl rfl
theorem dksX2_init_10 : cX2_init.data.toList.drop 237 = dktX2_init_10 := dk_seg dksX2_init_9 23 rfl rfl
theorem dksX2_init_11 : cX2_init.data.toList.drop 261 = dktX2_init_11 := dk_seg dksX2_init_10 24 rfl rfl
theorem dksX2_init_12 : cX2_init.data.toList.drop 285 = dktX2_init_12 := dk_seg dksX2_init_11 24 rfl rfl
theorem dksX2_init_13 : cX2_init.data.toList.drop 309 = dktX2_init_13 := dk_seg dksX2_init_12 24 rfl rfl
theorem dksX2_init_14 : cX2_init.data.toList.drop 333 = dktX2_init_14 := dk_seg dksX2_init_13 24 rfl rfl
theorem dksX2_init_15 : cX2_init.data.toList.drop 357 = dktX2_init_15 := dk_seg dksX2_init_14 24 rfl rfl
theorem dksX2_init_16 : cX2_init.data.toList.drop 381 = dktX2_init_16 := dk_seg dksX2_init_15 24 rfl rfl
theorem dksX2_init_17 : cX2_init.data.toList.drop 404 = dktX2_init_17 := dk_seg dksX2_init_16 23 rfl rfl
theorem dksX2_init_18 : cX2_init.data.toList.drop 428 = dktX2_init_18 := dk_seg dksX2_init_17 24 rfl rfl
theorem dksX2_init_19 : cX2_init.data.toList.drop 452 = dktX2_init_19 := dk_seg dksX2_init_18 24 rfl rfl
theorem dksX2_init_20 : cX2_init.data.toList.drop 475 = dktX2_init_20 := dk_seg dksX2_init_19 23 rfl rfl
theorem dksX2_init_21 : cX2_init.data.toList.drop 498 = dktX2_init_21 := dk_seg dksX2_init_20 23 rfl rfl
theorem dksX2_init_22 : cX2_init.data.toList.drop 520 = dktX2_init_22 := dk_seg dksX2_init_21 22 rfl rfl
theorem dX2_init_0 : decode cX2_init 0 = .ok (.aload_n 0, 1) := dk_42 (dk_at dksX2_init_0 0 rfl rfl)
theorem dX2_init_1 : decode cX2_init 1 = .ok (.invokespecial 1, 3) := dk_183 0 1 (dk_at dksX2_init_0 1 rfl rfl)
theorem dX2_init_4 : decode cX2_init 4 = .ok (.aload_n 0, 1) := dk_42 (dk_at dksX2_init_0 4 rfl rfl)
theorem dX2_init_5 : decode cX2_init 5 = .ok (.sipush 1404, 3) := dk_17 5 124 (dk_at dksX2_init_0 5 rfl rfl)
theorem dX2_init_8 : decode cX2_init 8 = .ok (.newarray .int, 2) := dk_188_10 (dk_at dksX2_init_0 8 rfl rfl)
theorem dX2_init_10 : decode cX2_init 10 = .ok (.putfield 7, 3) := dk_181 0 7 (dk_at dksX2_init_0 10 rfl rfl)
theorem dX2_init_13 : decode cX2_init 13 = .ok (.aload_n 0, 1) := dk_42 (dk_at dksX2_init_0 13 rfl rfl)
theorem dX2_init_14 : decode cX2_init 14 = .ok (.iconst 2, 1) := dk_5 (dk_at dksX2_init_0 14 rfl rfl)
theorem dX2_init_15 : decode cX2_init 15 = .ok (.newarray .boolean, 2) := dk_188_4 (dk_at dksX2_init_0 15 rfl rfl)
theorem dX2_init_17 : decode cX2_init 17 = .ok (.putfield 13, 3) := dk_181 0 13 (dk_at dksX2_init_0 17 rfl rfl)
theorem dX2_init_20 : decode cX2_init 20 = .ok (.aload_n 0, 1) := dk_42 (dk_at dksX2_init_0 20 rfl rfl)
theorem dX2_init_21 : decode cX2_init 21 = .ok (.sipush 200, 3) := dk_17 0 200 (dk_at dksX2_init_0 21 rfl rfl)
theorem dX2_init_24 : decode cX2_init 24 = .ok (.newarray .int, 2) := dk_188_10 (dk_at dksX2_init_1 0 rfl rfl)
theorem dX2_init_26 : decode cX2_init 26 = .ok (.putfield 17, 3) := dk_181 0 17 (dk_at dksX2_init_1 2 rfl rfl)
theorem dX2_init_29 : decode cX2_init 29 = .ok (.aload_n 0, 1) := dk_42 (dk_at dksX2_init_1 5 rfl rfl)
theorem dX2_init_30 : decode cX2_init 30 = .ok (.bipush 6, 2) := dk_16 6 (dk_at dksX2_init_1 6 rfl rfl)
theorem dX2_init_32 : decode cX2_init 32 = .ok (.newarray .int, 2) := dk_188_10 (dk_at dksX2_init_1 8 rfl rfl)
theorem dX2_init_34 : decode cX2_init 34 = .ok (.putfield 20, 3) := dk_181 0 20 (dk_at dksX2_init_1 10 rfl rfl)
theorem dX2_init_37 : decode cX2_init 37 = .ok (.aload_n 0, 1) := dk_42 (dk_at dksX2_init_1 13 rfl rfl)
theorem dX2_init_38 : decode cX2_init 38 = .ok (.bipush 6, 2) := dk_16 6 (dk_at dksX2_init_1 14 rfl rfl)
theorem dX2_init_40 : decode cX2_init 40 = .ok (.newarray .int, 2) := dk_188_10 (dk_at dksX2_init_1 16 rfl rfl)
theorem dX2_init_42 : decode cX2_init 42 = .ok (.putfield 23, 3) := dk_181 0 23 (dk_at dksX2_init_1 18 rfl rfl)
theorem dX2_init_45 : decode cX2_init 45 = .ok (.aload_n 0, 1) := dk_42 (dk_at dksX2_init_1 21 rfl rfl)
theorem dX2_init_46 : decode cX2_init 46 = .ok (.bipush 6, 2) := dk_16 6 (dk_at dksX2_init_1 22 rfl rfl)
theorem dX2_init_48 : decode cX2_init 48 = .ok (.newarray .int, 2) := dk_188_10 (dk_at dksX2_init_2 0 rfl rfl)
theorem dX2_init_50 : decode cX2_init 50 = .ok (.putfield 26, 3) := dk_181 0 26 (dk_at dksX2_init_2 2 rfl rfl)
theorem dX2_init_53 : decode cX2_init 53 = .ok (.aload_n 0, 1) := dk_42 (dk_at dksX2_init_2 5 rfl rfl)
theorem dX2_init_54 : decode cX2_init 54 = .ok (.sipush 202, 3) := dk_17 0 202 (dk_at dksX2_init_2 6 rfl rfl)
theorem dX2_init_57 : decode cX2_init 57 = .ok (.newarray .int, 2) := dk_188_10 (dk_at dksX2_init_2 9 rfl rfl)
theorem dX2_init_59 : decode cX2_init 59 = .ok (.putfield 29, 3) := dk_181 0 29 (dk_at dksX2_init_2 11 rfl rfl)
theorem dX2_init_62 : decode cX2_init 62 = .ok (.aload_n 0, 1) := dk_42 (dk_at dksX2_init_2 14 rfl rfl)
theorem dX2_init_63 : decode cX2_init 63 = .ok (.sipush 202, 3) := dk_17 0 202 (dk_at dksX2_init_2 15 rfl rfl)
theorem dX2_init_66 : decode cX2_init 66 = .ok (.newarray .int, 2) := dk_188_10 (dk_at dksX2_init_2 18 rfl rfl)
theorem dX2_init_68 : decode cX2_init 68 = .ok (.putfield 32, 3) := dk_181 0 32 (dk_at dksX2_init_2 20 rfl rfl)
theorem dX2_init_71 : decode cX2_init 71 = .ok (.aload_n 0, 1) := dk_42 (dk_at dksX2_init_2 23 rfl rfl)
theorem dX2_init_72 : decode cX2_init 72 = .ok (.sipush 202, 3) := dk_17 0 202 (dk_at dksX2_init_3 0 rfl rfl)
theorem dX2_init_75 : decode cX2_init 75 = .ok (.newarray .int, 2) := dk_188_10 (dk_at dksX2_init_3 3 rfl rfl)
theorem dX2_init_77 : decode cX2_init 77 = .ok (.putfield 35, 3) := dk_181 0 35 (dk_at dksX2_init_3 5 rfl rfl)
theorem dX2_init_80 : decode cX2_init 80 = .ok (.aload_n 0, 1) := dk_42 (dk_at dksX2_init_3 8 rfl rfl)
theorem dX2_init_81 : decode cX2_init 81 = .ok (.iconst 3, 1) := dk_6 (dk_at dksX2_init_3 9 rfl rfl)
theorem dX2_init_82 : decode cX2_init 82 = .ok (.newarray .int, 2) := dk_188_10 (dk_at dksX2_init_3 10 rfl rfl)
theorem dX2_init_84 : decode cX2_init 84 = .ok (.dup, 1) := dk_89 (dk_at dksX2_init_3 12 rfl rfl)
theorem dX2_init_85 : decode cX2_init 85 = .ok (.iconst 0, 1) := dk_3 (dk_at dksX2_init_3 13 rfl rfl)
theorem dX2_init_86 : decode cX2_init 86 = .ok (.iconst (-1), 1) := dk_2 (dk_at dksX2_init_3 14 rfl rfl)
theorem dX2_init_87 : decode cX2_init 87 = .ok (.iastore, 1) := dk_79 (dk_at dksX2_init_3 15 rfl rfl)
theorem dX2_init_88 : decode cX2_init 88 = .ok (.dup, 1) := dk_89 (dk_at dksX2_init_3 16 rfl rfl)
theorem dX2_init_89 : decode cX2_init 89 = .ok (.iconst 1, 1) := dk_4 (dk_at dksX2_init_3 17 rfl rfl)
theorem dX2_init_90 : decode cX2_init 90 = .ok (.iconst (-1), 1) := dk_2 (dk_at dksX2_init_3 18 rfl rfl)
theorem dX2_init_91 : decode cX2_init 91 = .ok (.iastore, 1) := dk_79 (dk_at dksX2_init_3 19 rfl rfl)
theorem dX2_init_92 : decode cX2_init 92 = .ok (.dup, 1) := dk_89 (dk_at dksX2_init_3 20 rfl rfl)
theorem dX2_init_93 : decode cX2_init 93 = .ok (.iconst 2, 1) := dk_5 (dk_at dksX2_init_3 21 rfl rfl)
theorem dX2_init_94 : decode cX2_init 94 = .ok (.iconst (-1), 1) := dk_2 (dk_at dksX2_init_3 22 rfl rfl)
theorem dX2_init_95 : decode cX2_init 95 = .ok (.iastore, 1) := dk_79 (dk_at dksX2_init_3 23 rfl rfl)
theorem dX2_init_96 : decode cX2_init 96 = .ok (.putfield 38, 3) := dk_181 0 38 (dk_at dksX2_init_4 0 rfl rfl)
theorem dX2_init_99 : decode cX2_init 99 = .ok (.aload_n 0, 1) := dk_42 (dk_at dksX2_init_4 3 rfl rfl)
theorem dX2_init_100 : decode cX2_init 100 = .ok (.iconst 3, 1) := dk_6 (dk_at dksX2_init_4 4 rfl rfl)
theorem dX2_init_101 : decode cX2_init 101 = .ok (.newarray .int, 2) := dk_188_10 (dk_at dksX2_init_4 5 rfl rfl)
theorem dX2_init_103 : decode cX2_init 103 = .ok (.putfield 41, 3) := dk_181 0 41 (dk_at dksX2_init_4 7 rfl rfl)
theorem dX2_init_106 : decode cX2_init 106 = .ok (.aload_n 0, 1) := dk_42 (dk_at dksX2_init_4 10 rfl rfl)
theorem dX2_init_107 : decode cX2_init 107 = .ok (.bipush 36, 2) := dk_16 36 (dk_at dksX2_init_4 11 rfl rfl)
theorem dX2_init_109 : decode cX2_init 109 = .ok (.newarray .int, 2) := dk_188_10 (dk_at dksX2_init_4 13 rfl rfl)
theorem dX2_init_111 : decode cX2_init 111 = .ok (.putfield 44, 3) := dk_181 0 44 (dk_at dksX2_init_4 15 rfl rfl)
theorem dX2_init_114 : decode cX2_init 114 = .ok (.aload_n 0, 1) := dk_42 (dk_at dksX2_init_4 18 rfl rfl)
theorem dX2_init_115 : decode cX2_init 115 = .ok (.iconst 4, 1) := dk_7 (dk_at dksX2_init_4 19 rfl rfl)
theorem dX2_init_116 : decode cX2_init 116 = .ok (.newarray .int, 2) := dk_188_10 (dk_at dksX2_init_4 20 rfl rfl)
theorem dX2_init_118 : decode cX2_init 118 = .ok (.putfield 47, 3) := dk_181 0 47 (dk_at dksX2_init_5 0 rfl rfl)
theorem dX2_init_121 : decode cX2_init 121 = .ok (.aload_n 0, 1) := dk_42 (dk_at dksX2_init_5 3 rfl rfl)
theorem dX2_init_122 : decode cX2_init 122 = .ok (.bipush 7, 2) := dk_16 7 (dk_at dksX2_init_5 4 rfl rfl)
theorem dX2_init_124 : decode cX2_init 124 = .ok (.newarray .int, 2) := dk_188_10 (dk_at dksX2_init_5 6 rfl rfl)
theorem dX2_init_126 : decode cX2_init 126 = .ok (.dup, 1) := dk_89 (dk_at dksX2_init_5 8 rfl rfl)
theorem dX2_init_127 : decode cX2_init 127 = .ok (.iconst 0, 1) := dk_3 (dk_at dksX2_init_5 9 rfl rfl)
theorem dX2_init_128 : decode cX2_init 128 = .ok (.bipush 104, 2) := dk_16 104 (dk_at dksX2_init_5 10 rfl rfl)
theorem dX2_init_130 : decode cX2_init 130 = .ok (.iastore, 1) := dk_79 (dk_at dksX2_init_5 12 rfl rfl)
theorem dX2_init_131 : decode cX2_init 131 = .ok (.dup, 1) := dk_89 (dk_at dksX2_init_5 13 rfl rfl)
theorem dX2_init_132 : decode cX2_init 132 = .ok (.iconst 1, 1) := dk_4 (dk_at dksX2_init_5 14 rfl rfl)
theorem dX2_init_133 : decode cX2_init 133 = .ok (.bipush 97, 2) := dk_16 97 (dk_at dksX2_init_5 15 rfl rfl)
theorem dX2_init_135 : decode cX2_init 135 = .ok (.iastore, 1) := dk_79 (dk_at dksX2_init_5 17 rfl rfl)
theorem dX2_init_136 : decode cX2_init 136 = .ok (.dup, 1) := dk_89 (dk_at dksX2_init_5 18 rfl rfl)
theorem dX2_init_137 : decode cX2_init 137 = .ok (.iconst 2, 1) := dk_5 (dk_at dksX2_init_5 19 rfl rfl)
theorem dX2_init_138 : decode cX2_init 138 = .ok (.bipush 114, 2) := dk_16 114 (dk_at dksX2_init_5 20 rfl rfl)
theorem dX2_init_140 : decode cX2_init 140 = .ok (.iastore, 1) := dk_79 (dk_at dksX2_init_5 22 rfl rfl)
theorem dX2_init_141 : decode cX2_init 141 = .ok (.dup, 1) := dk_89 (dk_at dksX2_init_5 23 rfl rfl)
theorem dX2_init_142 : decode cX2_init 142 = .ok (.iconst 3, 1) := dk_6 (dk_at dksX2_init_6 0 rfl rfl)
theorem dX2_init_143 : decode cX2_init 143 = .ok (.bipush 98, 2) := dk_16 98 (dk_at dksX2_init_6 1 rfl rfl)
theorem dX2_init_145 : decode cX2_init 145 = .ok (.iastore, 1) := dk_79 (dk_at dksX2_init_6 3 rfl rfl)
theorem dX2_init_146 : decode cX2_init 146 = .ok (.dup, 1) := dk_89 (dk_at dksX2_init_6 4 rfl rfl)
theorem dX2_init_147 : decode cX2_init 147 = .ok (.iconst 4, 1) := dk_7 (dk_at dksX2_init_6 5 rfl rfl)
theorem dX2_init_148 : decode cX2_init 148 = .ok (.bipush 111, 2) := dk_16 111 (dk_at dksX2_init_6 6 rfl rfl)
theorem dX2_init_150 : decode cX2_init 150 = .ok (.iastore, 1) := dk_79 (dk_at dksX2_init_6 8 rfl rfl)
theorem dX2_init_151 : decode cX2_init 151 = .ok (.dup, 1) := dk_89 (dk_at dksX2_init_6 9 rfl rfl)
theorem dX2_init_152 : decode cX2_init 152 = .ok (.iconst 5, 1) := dk_8 (dk_at dksX2_init_6 10 rfl rfl)
theorem dX2_init_153 : decode cX2_init 153 = .ok (.bipush 117, 2) := dk_16 117 (dk_at dksX2_init_6 11 rfl rfl)
theorem dX2_init_155 : decode cX2_init 155 = .ok (.iastore, 1) := dk_79 (dk_at dksX2_init_6 13 rfl rfl)
theorem dX2_init_156 : decode cX2_init 156 = .ok (.dup, 1) := dk_89 (dk_at dksX2_init_6 14 rfl rfl)
theorem dX2_init_157 : decode cX2_init 157 = .ok (.bipush 6, 2) := dk_16 6 (dk_at dksX2_init_6 15 rfl rfl)
theorem dX2_init_159 : decode cX2_init 159 = .ok (.bipush 114, 2) := dk_16 114 (dk_at dksX2_init_6 17 rfl rfl)
theorem dX2_init_161 : decode cX2_init 161 = .ok (.iastore, 1) := dk_79 (dk_at dksX2_init_6 19 rfl rfl)
theorem dX2_init_162 : decode cX2_init 162 = .ok (.putfield 50, 3) := dk_181 0 50 (dk_at dksX2_init_6 20 rfl rfl)
theorem dX2_init_165 : decode cX2_init 165 = .ok (.aload_n 0, 1) := dk_42 (dk_at dksX2_init_6 23 rfl rfl)
theorem dX2_init_166 : decode cX2_init 166 = .ok (.bipush 6, 2) := dk_16 6 (dk_at dksX2_init_7 0 rfl rfl)
theorem dX2_init_168 : decode cX2_init 168 = .ok (.newarray .int, 2) := dk_188_10 (dk_at dksX2_init_7 2 rfl rfl)
theorem dX2_init_170 : decode cX2_init 170 = .ok (.dup, 1) := dk_89 (dk_at dksX2_init_7 4 rfl rfl)
theorem dX2_init_171 : decode cX2_init 171 = .ok (.iconst 0, 1) := dk_3 (dk_at dksX2_init_7 5 rfl rfl)
theorem dX2_init_172 : decode cX2_init 172 = .ok (.bipush 112, 2) := dk_16 112 (dk_at dksX2_init_7 6 rfl rfl)
theorem dX2_init_174 : decode cX2_init 174 = .ok (.iastore, 1) := dk_79 (dk_at dksX2_init_7 8 rfl rfl)
theorem dX2_init_175 : decode cX2_init 175 = .ok (.dup, 1) := dk_89 (dk_at dksX2_init_7 9 rfl rfl)
theorem dX2_init_176 : decode cX2_init 176 = .ok (.iconst 1, 1) := dk_4 (dk_at dksX2_init_7 10 rfl rfl)
theorem dX2_init_177 : decode cX2_init 177 = .ok (.bipush 97, 2) := dk_16 97 (dk_at dksX2_init_7 11 rfl rfl)
theorem dX2_init_179 : decode cX2_init 179 = .ok (.iastore, 1) := dk_79 (dk_at dksX2_init_7 13 rfl rfl)
theorem dX2_init_180 : decode cX2_init 180 = .ok (.dup, 1) := dk_89 (dk_at dksX2_init_7 14 rfl rfl)
theorem dX2_init_181 : decode cX2_init 181 = .ok (.iconst 2, 1) := dk_5 (dk_at dksX2_init_7 15 rfl rfl)
theorem dX2_init_182 : decode cX2_init 182 = .ok (.bipush 114, 2) := dk_16 114 (dk_at dksX2_init_7 16 rfl rfl)
theorem dX2_init_184 : decode cX2_init 184 = .ok (.iastore, 1) := dk_79 (dk_at dksX2_init_7 18 rfl rfl)
theorem dX2_init_185 : decode cX2_init 185 = .ok (.dup, 1) := dk_89 (dk_at dksX2_init_7 19 rfl rfl)
theorem dX2_init_186 : decode cX2_init 186 = .ok (.iconst 3, 1) := dk_6 (dk_at dksX2_init_7 20 rfl rfl)
theorem dX2_init_187 : decode cX2_init 187 = .ok (.bipush 114, 2) := dk_16 114 (dk_at dksX2_init_7 21 rfl rfl)
theorem dX2_init_189 : decode cX2_init 189 = .ok (.iastore, 1) := dk_79 (dk_at dksX2_init_7 23 rfl rfl)
theorem dX2_init_190 : decode cX2_init 190 = .ok (.dup, 1) := dk_89 (dk_at dksX2_init_8 0 rfl rfl)
theorem dX2_init_191 : decode cX2_init 191 = .ok (.iconst 4, 1) := dk_7 (dk_at dksX2_init_8 1 rfl rfl)
theorem dX2_init_192 : decode cX2_init 192 = .ok (.bipush 111, 2) := dk_16 111 (dk_at dksX2_init_8 2 rfl rfl)
theorem dX2_init_194 : decode cX2_init 194 = .ok (.iastore, 1) := dk_79 (dk_at dksX2_init_8 4 rfl rfl)
theorem dX2_init_195 : decode cX2_init 195 = .ok (.dup, 1) := dk_89 (dk_at dksX2_init_8 5 rfl rfl)
theorem dX2_init_196 : decode cX2_init 196 = .ok (.iconst 5, 1) := dk_8 (dk_at dksX2_init_8 6 rfl rfl)
theorem dX2_init_197 : decode cX2_init 197 = .ok (.bipush 116, 2) := dk_16 116 (dk_at dksX2_init_8 7 rfl rfl)
theorem dX2_init_199 : decode cX2_init 199 = .ok (.iastore, 1) := dk_79 (dk_at dksX2_init_8 9 rfl rfl)
theorem dX2_init_200 : decode cX2_init 200 = .ok (.putfield 53, 3) := dk_181 0 53 (dk_at dksX2_init_8 10 rfl rfl)
theorem dX2_init_203 : decode cX2_init 203 = .ok (.aload_n 0, 1) := dk_42 (dk_at dksX2_init_8 13 rfl rfl)
theorem dX2_init_204 : decode cX2_init 204 = .ok (.iconst 4, 1) := dk_7 (dk_at dksX2_init_8 14 rfl rfl)
theorem dX2_init_205 : decode cX2_init 205 = .ok (.newarray .int, 2) := dk_188_10 (dk_at dksX2_init_8 15 rfl rfl)
theorem dX2_init_207 : decode cX2_init 207 = .ok (.dup, 1) := dk_89 (dk_at dksX2_init_8 17 rfl rfl)
theorem dX2_init_208 : decode cX2_init 208 = .ok (.iconst 0, 1) := dk_3 (dk_at dksX2_init_8 18 rfl rfl)
theorem dX2_init_209 : decode cX2_init 209 = .ok (.bipush 103, 2) := dk_16 103 (dk_at dksX2_init_8 19 rfl rfl)
theorem dX2_init_211 : decode cX2_init 211 = .ok (.iastore, 1) := dk_79 (dk_at dksX2_init_8 21 rfl rfl)
theorem dX2_init_212 : decode cX2_init 212 = .ok (.dup, 1) := dk_89 (dk_at dksX2_init_8 22 rfl rfl)
theorem dX2_init_213 : decode cX2_init 213 = .ok (.iconst 1, 1) := dk_4 (dk_at dksX2_init_8 23 rfl rfl)
theorem dX2_init_214 : decode cX2_init 214 = .ok (.bipush 114, 2) := dk_16 114 (dk_at dksX2_init_9 0 rfl rfl)
theorem dX2_init_216 : decode cX2_init 216 = .ok (.iastore, 1) := dk_79 (dk_at dksX2_init_9 2 rfl rfl)
theorem dX2_init_217 : decode cX2_init 217 = .ok (.dup, 1) := dk_89 (dk_at dksX2_init_9 3 rfl rfl)
theorem dX2_init_218 : decode cX2_init 218 = .ok (.iconst 2, 1) := dk_5 (dk_at dksX2_init_9 4 rfl rfl)
theorem dX2_init_219 : decode cX2_init 219 = .ok (.bipush 101, 2) := dk_16 101 (dk_at dksX2_init_9 5 rfl rfl)
theorem dX2_init_221 : decode cX2_init 221 = .ok (.iastore, 1) := dk_79 (dk_at dksX2_init_9 7 rfl rfl)
theorem dX2_init_222 : decode cX2_init 222 = .ok (.dup, 1) := dk_89 (dk_at dksX2_init_9 8 rfl rfl)
theorem dX2_init_223 : decode cX2_init 223 = .ok (.iconst 3, 1) := dk_6 (dk_at dksX2_init_9 9 rfl rfl)
theorem dX2_init_224 : decode cX2_init 224 = .ok (.bipush 121, 2) := dk_16 121 (dk_at dksX2_init_9 10 rfl rfl)
theorem dX2_init_226 : decode cX2_init 226 = .ok (.iastore, 1) := dk_79 (dk_at dksX2_init_9 12 rfl rfl)
theorem dX2_init_227 : decode cX2_init 227 = .ok (.putfield 56, 3) := dk_181 0 56 (dk_at dksX2_init_9 13 rfl rfl)
theorem dX2_init_230 : decode cX2_init 230 = .ok (.aload_n 0, 1) := dk_42 (dk_at dksX2_init_9 16 rfl rfl)
theorem dX2_init_231 : decode cX2_init 231 = .ok (.bipush 8, 2) := dk_16 8 (dk_at dksX2_init_9 17 rfl rfl)
theorem dX2_init_233 : decode cX2_init 233 = .ok (.newarray .int, 2) := dk_188_10 (dk_at dksX2_init_9 19 rfl rfl)
theorem dX2_init_235 : decode cX2_init 235 = .ok (.dup, 1) := dk_89 (dk_at dksX2_init_9 21 rfl rfl)
theorem dX2_init_236 : decode cX2_init 236 = .ok (.iconst 0, 1) := dk_3 (dk_at dksX2_init_9 22 rfl rfl)
theorem dX2_init_237 : decode cX2_init 237 = .ok (.bipush 99, 2) := dk_16 99 (dk_at dksX2_init_10 0 rfl rfl)
theorem dX2_init_239 : decode cX2_init 239 = .ok (.iastore, 1) := dk_79 (dk_at dksX2_init_10 2 rfl rfl)
theorem dX2_init_240 : decode cX2_init 240 = .ok (.dup, 1) := dk_89 (dk_at dksX2_init_10 3 rfl rfl)
theorem dX2_init_241 : decode cX2_init 241 = .ok (.iconst 1, 1) := dk_4 (dk_at dksX2_init_10 4 rfl rfl)
theorem dX2_init_242 : decode cX2_init 242 = .ok (.bipush 111, 2) := dk_16 111 (dk_at dksX2_init_10 5 rfl rfl)
theorem dX2_init_244 : decode cX2_init 244 = .ok (.iastore, 1) := dk_79 (dk_at dksX2_init_10 7 rfl rfl)
theorem dX2_init_245 : decode cX2_init 245 = .ok (.dup, 1) := dk_89 (dk_at dksX2_init_10 8 rfl rfl)
theorem dX2_init_246 : decode cX2_init 246 = .ok (.iconst 2, 1) := dk_5 (dk_at dksX2_init_10 9 rfl rfl)
theorem dX2_init_247 : decode cX2_init 247 = .ok (.bipush 99, 2) := dk_16 99 (dk_at dksX2_init_10 10 rfl rfl)
theorem dX2_init_249 : decode cX2_init 249 = .ok (.iastore, 1) := dk_79 (dk_at dksX2_init_10 12 rfl rfl)
theorem dX2_init_250 : decode cX2_init 250 = .ok (.dup, 1) := dk_89 (dk_at dksX2_init_10 13 rfl rfl)
theorem dX2_init_251 : decode cX2_init 251 = .ok (.iconst 3, 1) := dk_6 (dk_at dksX2_init_10 14 rfl rfl)
theorem dX2_init_252 : decode cX2_init 252 = .ok (.bipush 107, 2) := dk_16 107 (dk_at dksX2_init_10 15 rfl rfl)
theorem dX2_init_254 : decode cX2_init 254 = .ok (.iastore, 1) := dk_79 (dk_at dksX2_init_10 17 rfl rfl)
theorem dX2_init_255 : decode cX2_init 255 = .ok (.dup, 1) := dk_89 (dk_at dksX2_init_10 18 rfl rfl)
theorem dX2_init_256 : decode cX2_init 256 = .ok (.iconst 4, 1) := dk_7 (dk_at dksX2_init_10 19 rfl rfl)
theorem dX2_init_257 : decode cX2_init 257 = .ok (.bipush 97, 2) := dk_16 97 (dk_at dksX2_init_10 20 rfl rfl)
theorem dX2_init_259 : decode cX2_init 259 = .ok (.iastore, 1) := dk_79 (dk_at dksX2_init_10 22 rfl rfl)
theorem dX2_init_260 : decode cX2_init 260 = .ok (.dup, 1) := dk_89 (dk_at dksX2_init_10 23 rfl rfl)
theorem dX2_init_261 : decode cX2_init 261 = .ok (.iconst 5, 1) := dk_8 (dk_at dksX2_init_11 0 rfl rfl)
theorem dX2_init_262 : decode cX2_init 262 = .ok (.bipush 116, 2) := dk_16 116 (dk_at dksX2_init_11 1 rfl rfl)
theorem dX2_init_264 : decode cX2_init 264 = .ok (.iastore, 1) := dk_79 (dk_at dksX2_init_11 3 rfl rfl)
theorem dX2_init_265 : decode cX2_init 265 = .ok (.dup, 1) := dk_89 (dk_at dksX2_init_11 4 rfl rfl)
theorem dX2_init_266 : decode cX2_init 266 = .ok (.bipush 6, 2) := dk_16 6 (dk_at dksX2_init_11 5 rfl rfl)
theorem dX2_init_268 : decode cX2_init 268 = .ok (.bipush 111, 2) := dk_16 111 (dk_at dksX2_init_11 7 rfl rfl)
theorem dX2_init_270 : decode cX2_init 270 = .ok (.iastore, 1) := dk_79 (dk_at dksX2_init_11 9 rfl rfl)
theorem dX2_init_271 : decode cX2_init 271 = .ok (.dup, 1) := dk_89 (dk_at dksX2_init_11 10 rfl rfl)
theorem dX2_init_272 : decode cX2_init 272 = .ok (.bipush 7, 2) := dk_16 7 (dk_at dksX2_init_11 11 rfl rfl)
theorem dX2_init_274 : decode cX2_init 274 = .ok (.bipush 111, 2) := dk_16 111 (dk_at dksX2_init_11 13 rfl rfl)
theorem dX2_init_276 : decode cX2_init 276 = .ok (.iastore, 1) := dk_79 (dk_at dksX2_init_11 15 rfl rfl)
theorem dX2_init_277 : decode cX2_init 277 = .ok (.putfield 59, 3) := dk_181 0 59 (dk_at dksX2_init_11 16 rfl rfl)
theorem dX2_init_280 : decode cX2_init 280 = .ok (.aload_n 0, 1) := dk_42 (dk_at dksX2_init_11 19 rfl rfl)
theorem dX2_init_281 : decode cX2_init 281 = .ok (.iconst 4, 1) := dk_7 (dk_at dksX2_init_11 20 rfl rfl)
theorem dX2_init_282 : decode cX2_init 282 = .ok (.newarray .int, 2) := dk_188_10 (dk_at dksX2_init_11 21 rfl rfl)
theorem dX2_init_284 : decode cX2_init 284 = .ok (.dup, 1) := dk_89 (dk_at dksX2_init_11 23 rfl rfl)
theorem dX2_init_285 : decode cX2_init 285 = .ok (.iconst 0, 1) := dk_3 (dk_at dksX2_init_12 0 rfl rfl)
theorem dX2_init_286 : decode cX2_init 286 = .ok (.bipush 104, 2) := dk_16 104 (dk_at dksX2_init_12 1 rfl rfl)
theorem dX2_init_288 : decode cX2_init 288 = .ok (.iastore, 1) := dk_79 (dk_at dksX2_init_12 3 rfl rfl)
theorem dX2_init_289 : decode cX2_init 289 = .ok (.dup, 1) := dk_89 (dk_at dksX2_init_12 4 rfl rfl)
theorem dX2_init_290 : decode cX2_init 290 = .ok (.iconst 1, 1) := dk_4 (dk_at dksX2_init_12 5 rfl rfl)
theorem dX2_init_291 : decode cX2_init 291 = .ok (.bipush 97, 2) := dk_16 97 (dk_at dksX2_init_12 6 rfl rfl)
theorem dX2_init_293 : decode cX2_init 293 = .ok (.iastore, 1) := dk_79 (dk_at dksX2_init_12 8 rfl rfl)
theorem dX2_init_294 : decode cX2_init 294 = .ok (.dup, 1) := dk_89 (dk_at dksX2_init_12 9 rfl rfl)
theorem dX2_init_295 : decode cX2_init 295 = .ok (.iconst 2, 1) := dk_5 (dk_at dksX2_init_12 10 rfl rfl)
theorem dX2_init_296 : decode cX2_init 296 = .ok (.bipush 119, 2) := dk_16 119 (dk_at dksX2_init_12 11 rfl rfl)
theorem dX2_init_298 : decode cX2_init 298 = .ok (.iastore, 1) := dk_79 (dk_at dksX2_init_12 13 rfl rfl)
theorem dX2_init_299 : decode cX2_init 299 = .ok (.dup, 1) := dk_89 (dk_at dksX2_init_12 14 rfl rfl)
theorem dX2_init_300 : decode cX2_init 300 = .ok (.iconst 3, 1) := dk_6 (dk_at dksX2_init_12 15 rfl rfl)
theorem dX2_init_301 : decode cX2_init 301 = .ok (.bipush 107, 2) := dk_16 107 (dk_at dksX2_init_12 16 rfl rfl)
theorem dX2_init_303 : decode cX2_init 303 = .ok (.iastore, 1) := dk_79 (dk_at dksX2_init_12 18 rfl rfl)
theorem dX2_init_304 : decode cX2_init 304 = .ok (.putfield 62, 3) := dk_181 0 62 (dk_at dksX2_init_12 19 rfl rfl)
theorem dX2_init_307 : decode cX2_init 307 = .ok (.aload_n 0, 1) := dk_42 (dk_at dksX2_init_12 22 rfl rfl)
theorem dX2_init_308 : decode cX2_init 308 = .ok (.iconst 5, 1) := dk_8 (dk_at dksX2_init_12 23 rfl rfl)
theorem dX2_init_309 : decode cX2_init 309 = .ok (.newarray .int, 2) := dk_188_10 (dk_at dksX2_init_13 0 rfl rfl)
theorem dX2_init_311 : decode cX2_init 311 = .ok (.dup, 1) := dk_89 (dk_at dksX2_init_13 2 rfl rfl)
theorem dX2_init_312 : decode cX2_init 312 = .ok (.iconst 0, 1) := dk_3 (dk_at dksX2_init_13 3 rfl rfl)
theorem dX2_init_313 : decode cX2_init 313 = .ok (.bipush 103, 2) := dk_16 103 (dk_at dksX2_init_13 4 rfl rfl)
theorem dX2_init_315 : decode cX2_init 315 = .ok (.iastore, 1) := dk_79 (dk_at dksX2_init_13 6 rfl rfl)
theorem dX2_init_316 : decode cX2_init 316 = .ok (.dup, 1) := dk_89 (dk_at dksX2_init_13 7 rfl rfl)
theorem dX2_init_317 : decode cX2_init 317 = .ok (.iconst 1, 1) := dk_4 (dk_at dksX2_init_13 8 rfl rfl)
theorem dX2_init_318 : decode cX2_init 318 = .ok (.bipush 114, 2) := dk_16 114 (dk_at dksX2_init_13 9 rfl rfl)
theorem dX2_init_320 : decode cX2_init 320 = .ok (.iastore, 1) := dk_79 (dk_at dksX2_init_13 11 rfl rfl)
theorem dX2_init_321 : decode cX2_init 321 = .ok (.dup, 1) := dk_89 (dk_at dksX2_init_13 12 rfl rfl)
theorem dX2_init_322 : decode cX2_init 322 = .ok (.iconst 2, 1) := dk_5 (dk_at dksX2_init_13 13 rfl rfl)
theorem dX2_init_323 : decode cX2_init 323 = .ok (.bipush 101, 2) := dk_16 101 (dk_at dksX2_init_13 14 rfl rfl)
theorem dX2_init_325 : decode cX2_init 325 = .ok (.iastore, 1) := dk_79 (dk_at dksX2_init_13 16 rfl rfl)
theorem dX2_init_326 : decode cX2_init 326 = .ok (.dup, 1) := dk_89 (dk_at dksX2_init_13 17 rfl rfl)
theorem dX2_init_327 : decode cX2_init 327 = .ok (.iconst 3, 1) := dk_6 (dk_at dksX2_init_13 18 rfl rfl)
theorem dX2_init_328 : decode cX2_init 328 = .ok (.bipush 101, 2) := dk_16 101 (dk_at dksX2_init_13 19 rfl rfl)
theorem dX2_init_330 : decode cX2_init 330 = .ok (.iastore, 1) := dk_79 (dk_at dksX2_init_13 21 rfl rfl)
theorem dX2_init_331 : decode cX2_init 331 = .ok (.dup, 1) := dk_89 (dk_at dksX2_init_13 22 rfl rfl)
theorem dX2_init_332 : decode cX2_init 332 = .ok (.iconst 4, 1) := dk_7 (dk_at dksX2_init_13 23 rfl rfl)
theorem dX2_init_333 : decode cX2_init 333 = .ok (.bipush 110, 2) := dk_16 110 (dk_at dksX2_init_14 0 rfl rfl)
theorem dX2_init_335 : decode cX2_init 335 = .ok (.iastore, 1) := dk_79 (dk_at dksX2_init_14 2 rfl rfl)
theorem dX2_init_336 : decode cX2_init 336 = .ok (.putfield 65, 3) := dk_181 0 65 (dk_at dksX2_init_14 3 rfl rfl)
theorem dX2_init_339 : decode cX2_init 339 = .ok (.aload_n 0, 1) := dk_42 (dk_at dksX2_init_14 6 rfl rfl)
theorem dX2_init_340 : decode cX2_init 340 = .ok (.iconst 3, 1) := dk_6 (dk_at dksX2_init_14 7 rfl rfl)
theorem dX2_init_341 : decode cX2_init 341 = .ok (.newarray .int, 2) := dk_188_10 (dk_at dksX2_init_14 8 rfl rfl)
theorem dX2_init_343 : decode cX2_init 343 = .ok (.dup, 1) := dk_89 (dk_at dksX2_init_14 10 rfl rfl)
theorem dX2_init_344 : decode cX2_init 344 = .ok (.iconst 0, 1) := dk_3 (dk_at dksX2_init_14 11 rfl rfl)
theorem dX2_init_345 : decode cX2_init 345 = .ok (.bipush 109, 2) := dk_16 109 (dk_at dksX2_init_14 12 rfl rfl)
theorem dX2_init_347 : decode cX2_init 347 = .ok (.iastore, 1) := dk_79 (dk_at dksX2_init_14 14 rfl rfl)
theorem dX2_init_348 : decode cX2_init 348 = .ok (.dup, 1) := dk_89 (dk_at dksX2_init_14 15 rfl rfl)
theorem dX2_init_349 : decode cX2_init 349 = .ok (.iconst 1, 1) := dk_4 (dk_at dksX2_init_14 16 rfl rfl)
theorem dX2_init_350 : decode cX2_init 350 = .ok (.bipush 97, 2) := dk_16 97 (dk_at dksX2_init_14 17 rfl rfl)
theorem dX2_init_352 : decode cX2_init 352 = .ok (.iastore, 1) := dk_79 (dk_at dksX2_init_14 19 rfl rfl)
theorem dX2_init_353 : decode cX2_init 353 = .ok (.dup, 1) := dk_89 (dk_at dksX2_init_14 20 rfl rfl)
theorem dX2_init_354 : decode cX2_init 354 = .ok (.iconst 2, 1) := dk_5 (dk_at dksX2_init_14 21 rfl rfl)
theorem dX2_init_355 : decode cX2_init 355 = .ok (.bipush 110, 2) := dk_16 110 (dk_at dksX2_init_14 22 rfl rfl)
theorem dX2_init_357 : decode cX2_init 357 = .ok (.iastore, 1) := dk_79 (dk_at dksX2_init_15 0 rfl rfl)
theorem dX2_init_358 : decode cX2_init 358 = .ok (.putfield 68, 3) := dk_181 0 68 (dk_at dksX2_init_15 1 rfl rfl)
theorem dX2_init_361 : decode cX2_init 361 = .ok (.aload_n 0, 1) := dk_42 (dk_at dksX2_init_15 4 rfl rfl)
theorem dX2_init_362 : decode cX2_init 362 = .ok (.iconst 5, 1) := dk_8 (dk_at dksX2_init_15 5 rfl rfl)
theorem dX2_init_363 : decode cX2_init 363 = .ok (.newarray .int, 2) := dk_188_10 (dk_at dksX2_init_15 6 rfl rfl)
theorem dX2_init_365 : decode cX2_init 365 = .ok (.dup, 1) := dk_89 (dk_at dksX2_init_15 8 rfl rfl)
theorem dX2_init_366 : decode cX2_init 366 = .ok (.iconst 0, 1) := dk_3 (dk_at dksX2_init_15 9 rfl rfl)
theorem dX2_init_367 : decode cX2_init 367 = .ok (.bipush 107, 2) := dk_16 107 (dk_at dksX2_init_15 10 rfl rfl)
theorem dX2_init_369 : decode cX2_init 369 = .ok (.iastore, 1) := dk_79 (dk_at dksX2_init_15 12 rfl rfl)
theorem dX2_init_370 : decode cX2_init 370 = .ok (.dup, 1) := dk_89 (dk_at dksX2_init_15 13 rfl rfl)
theorem dX2_init_371 : decode cX2_init 371 = .ok (.iconst 1, 1) := dk_4 (dk_at dksX2_init_15 14 rfl rfl)
theorem dX2_init_372 : decode cX2_init 372 = .ok (.bipush 110, 2) := dk_16 110 (dk_at dksX2_init_15 15 rfl rfl)
theorem dX2_init_374 : decode cX2_init 374 = .ok (.iastore, 1) := dk_79 (dk_at dksX2_init_15 17 rfl rfl)
theorem dX2_init_375 : decode cX2_init 375 = .ok (.dup, 1) := dk_89 (dk_at dksX2_init_15 18 rfl rfl)
theorem dX2_init_376 : decode cX2_init 376 = .ok (.iconst 2, 1) := dk_5 (dk_at dksX2_init_15 19 rfl rfl)
theorem dX2_init_377 : decode cX2_init 377 = .ok (.bipush 111, 2) := dk_16 111 (dk_at dksX2_init_15 20 rfl rfl)
theorem dX2_init_379 : decode cX2_init 379 = .ok (.iastore, 1) := dk_79 (dk_at dksX2_init_15 22 rfl rfl)
theorem dX2_init_380 : decode cX2_init 380 = .ok (.dup, 1) := dk_89 (dk_at dksX2_init_15 23 rfl rfl)
theorem dX2_init_381 : decode cX2_init 381 = .ok (.iconst 3, 1) := dk_6 (dk_at dksX2_init_16 0 rfl rfl)
theorem dX2_init_382 : decode cX2_init 382 = .ok (.bipush 119, 2) := dk_16 119 (dk_at dksX2_init_16 1 rfl rfl)
theorem dX2_init_384 : decode cX2_init 384 = .ok (.iastore, 1) := dk_79 (dk_at dksX2_init_16 3 rfl rfl)
theorem dX2_init_385 : decode cX2_init 385 = .ok (.dup, 1) := dk_89 (dk_at dksX2_init_16 4 rfl rfl)
theorem dX2_init_386 : decode cX2_init 386 = .ok (.iconst 4, 1) := dk_7 (dk_at dksX2_init_16 5 rfl rfl)
theorem dX2_init_387 : decode cX2_init 387 = .ok (.bipush 115, 2) := dk_16 115 (dk_at dksX2_init_16 6 rfl rfl)
theorem dX2_init_389 : decode cX2_init 389 = .ok (.iastore, 1) := dk_79 (dk_at dksX2_init_16 8 rfl rfl)
theorem dX2_init_390 : decode cX2_init 390 = .ok (.putfield 71, 3) := dk_181 0 71 (dk_at dksX2_init_16 9 rfl rfl)
theorem dX2_init_393 : decode cX2_init 393 = .ok (.aload_n 0, 1) := dk_42 (dk_at dksX2_init_16 12 rfl rfl)
theorem dX2_init_394 : decode cX2_init 394 = .ok (.iconst 4, 1) := dk_7 (dk_at dksX2_init_16 13 rfl rfl)
theorem dX2_init_395 : decode cX2_init 395 = .ok (.newarray .int, 2) := dk_188_10 (dk_at dksX2_init_16 14 rfl rfl)
theorem dX2_init_397 : decode cX2_init 397 = .ok (.dup, 1) := dk_89 (dk_at dksX2_init_16 16 rfl rfl)
theorem dX2_init_398 : decode cX2_init 398 = .ok (.iconst 0, 1) := dk_3 (dk_at dksX2_init_16 17 rfl rfl)
theorem dX2_init_399 : decode cX2_init 399 = .ok (.bipush 115, 2) := dk_16 115 (dk_at dksX2_init_16 18 rfl rfl)
theorem dX2_init_401 : decode cX2_init 401 = .ok (.iastore, 1) := dk_79 (dk_at dksX2_init_16 20 rfl rfl)
theorem dX2_init_402 : decode cX2_init 402 = .ok (.dup, 1) := dk_89 (dk_at dksX2_init_16 21 rfl rfl)
theorem dX2_init_403 : decode cX2_init 403 = .ok (.iconst 1, 1) := dk_4 (dk_at dksX2_init_16 22 rfl rfl)
theorem dX2_init_404 : decode cX2_init 404 = .ok (.bipush 105, 2) := dk_16 105 (dk_at dksX2_init_17 0 rfl rfl)
theorem dX2_init_406 : decode cX2_init 406 = .ok (.iastore, 1) := dk_79 (dk_at dksX2_init_17 2 rfl rfl)
theorem dX2_init_407 : decode cX2_init 407 = .ok (.dup, 1) := dk_89 (dk_at dksX2_init_17 3 rfl rfl)
theorem dX2_init_408 : decode cX2_init 408 = .ok (.iconst 2, 1) := dk_5 (dk_at dksX2_init_17 4 rfl rfl)
theorem dX2_init_409 : decode cX2_init 409 = .ok (.bipush 116, 2) := dk_16 116 (dk_at dksX2_init_17 5 rfl rfl)
theorem dX2_init_411 : decode cX2_init 411 = .ok (.iastore, 1) := dk_79 (dk_at dksX2_init_17 7 rfl rfl)
theorem dX2_init_412 : decode cX2_init 412 = .ok (.dup, 1) := dk_89 (dk_at dksX2_init_17 8 rfl rfl)
theorem dX2_init_413 : decode cX2_init 413 = .ok (.iconst 3, 1) := dk_6 (dk_at dksX2_init_17 9 rfl rfl)
theorem dX2_init_414 : decode cX2_init 414 = .ok (.bipush 115, 2) := dk_16 115 (dk_at dksX2_init_17 10 rfl rfl)
theorem dX2_init_416 : decode cX2_init 416 = .ok (.iastore, 1) := dk_79 (dk_at dksX2_init_17 12 rfl rfl)
theorem dX2_init_417 : decode cX2_init 417 = .ok (.putfield 74, 3) := dk_181 0 74 (dk_at dksX2_init_17 13 rfl rfl)
theorem dX2_init_420 : decode cX2_init 420 = .ok (.aload_n 0, 1) := dk_42 (dk_at dksX2_init_17 16 rfl rfl)
theorem dX2_init_421 : decode cX2_init 421 = .ok (.iconst 5, 1) := dk_8 (dk_at dksX2_init_17 17 rfl rfl)
theorem dX2_init_422 : decode cX2_init 422 = .ok (.newarray .int, 2) := dk_188_10 (dk_at dksX2_init_17 18 rfl rfl)
theorem dX2_init_424 : decode cX2_init 424 = .ok (.dup, 1) := dk_89 (dk_at dksX2_init_17 20 rfl rfl)
theorem dX2_init_425 : decode cX2_init 425 = .ok (.iconst 0, 1) := dk_3 (dk_at dksX2_init_17 21 rfl rfl)
theorem dX2_init_426 : decode cX2_init 426 = .ok (.bipush 99, 2) := dk_16 99 (dk_at dksX2_init_17 22 rfl rfl)
theorem dX2_init_428 : decode cX2_init 428 = .ok (.iastore, 1) := dk_79 (dk_at dksX2_init_18 0 rfl rfl)
theorem dX2_init_429 : decode cX2_init 429 = .ok (.dup, 1) := dk_89 (dk_at dksX2_init_18 1 rfl rfl)
theorem dX2_init_430 : decode cX2_init 430 = .ok (.iconst 1, 1) := dk_4 (dk_at dksX2_init_18 2 rfl rfl)
theorem dX2_init_431 : decode cX2_init 431 = .ok (.bipush 111, 2) := dk_16 111 (dk_at dksX2_init_18 3 rfl rfl)
theorem dX2_init_433 : decode cX2_init 433 = .ok (.iastore, 1) := dk_79 (dk_at dksX2_init_18 5 rfl rfl)
theorem dX2_init_434 : decode cX2_init 434 = .ok (.dup, 1) := dk_89 (dk_at dksX2_init_18 6 rfl rfl)
theorem dX2_init_435 : decode cX2_init 435 = .ok (.iconst 2, 1) := dk_5 (dk_at dksX2_init_18 7 rfl rfl)
theorem dX2_init_436 : decode cX2_init 436 = .ok (.bipush 118, 2) := dk_16 118 (dk_at dksX2_init_18 8 rfl rfl)
theorem dX2_init_438 : decode cX2_init 438 = .ok (.iastore, 1) := dk_79 (dk_at dksX2_init_18 10 rfl rfl)
theorem dX2_init_439 : decode cX2_init 439 = .ok (.dup, 1) := dk_89 (dk_at dksX2_init_18 11 rfl rfl)
theorem dX2_init_440 : decode cX2_init 440 = .ok (.iconst 3, 1) := dk_6 (dk_at dksX2_init_18 12 rfl rfl)
theorem dX2_init_441 : decode cX2_init 441 = .ok (.bipush 101, 2) := dk_16 101 (dk_at dksX2_init_18 13 rfl rfl)
theorem dX2_init_443 : decode cX2_init 443 = .ok (.iastore, 1) := dk_79 (dk_at dksX2_init_18 15 rfl rfl)
theorem dX2_init_444 : decode cX2_init 444 = .ok (.dup, 1) := dk_89 (dk_at dksX2_init_18 16 rfl rfl)
theorem dX2_init_445 : decode cX2_init 445 = .ok (.iconst 4, 1) := dk_7 (dk_at dksX2_init_18 17 rfl rfl)
theorem dX2_init_446 : decode cX2_init 446 = .ok (.bipush 114, 2) := dk_16 114 (dk_at dksX2_init_18 18 rfl rfl)
theorem dX2_init_448 : decode cX2_init 448 = .ok (.iastore, 1) := dk_79 (dk_at dksX2_init_18 20 rfl rfl)
theorem dX2_init_449 : decode cX2_init 449 = .ok (.putfield 77, 3) := dk_181 0 77 (dk_at dksX2_init_18 21 rfl rfl)
theorem dX2_init_452 : decode cX2_init 452 = .ok (.aload_n 0, 1) := dk_42 (dk_at dksX2_init_19 0 rfl rfl)
theorem dX2_init_453 : decode cX2_init 453 = .ok (.bipush 8, 2) := dk_16 8 (dk_at dksX2_init_19 1 rfl rfl)
theorem dX2_init_455 : decode cX2_init 455 = .ok (.newarray .int, 2) := dk_188_10 (dk_at dksX2_init_19 3 rfl rfl)
theorem dX2_init_457 : decode cX2_init 457 = .ok (.putfield 80, 3) := dk_181 0 80 (dk_at dksX2_init_19 5 rfl rfl)
theorem dX2_init_460 : decode cX2_init 460 = .ok (.aload_n 0, 1) := dk_42 (dk_at dksX2_init_19 8 rfl rfl)
theorem dX2_init_461 : decode cX2_init 461 = .ok (.sipush 203, 3) := dk_17 0 203 (dk_at dksX2_init_19 9 rfl rfl)
theorem dX2_init_464 : decode cX2_init 464 = .ok (.newarray .boolean, 2) := dk_188_4 (dk_at dksX2_init_19 12 rfl rfl)
theorem dX2_init_466 : decode cX2_init 466 = .ok (.putfield 83, 3) := dk_181 0 83 (dk_at dksX2_init_19 14 rfl rfl)
theorem dX2_init_469 : decode cX2_init 469 = .ok (.aload_n 0, 1) := dk_42 (dk_at dksX2_init_19 17 rfl rfl)
theorem dX2_init_470 : decode cX2_init 470 = .ok (.sipush 203, 3) := dk_17 0 203 (dk_at dksX2_init_19 18 rfl rfl)
theorem dX2_init_473 : decode cX2_init 473 = .ok (.newarray .boolean, 2) := dk_188_4 (dk_at dksX2_init_19 21 rfl rfl)
theorem dX2_init_475 : decode cX2_init 475 = .ok (.putfield 86, 3) := dk_181 0 86 (dk_at dksX2_init_20 0 rfl rfl)
theorem dX2_init_478 : decode cX2_init 478 = .ok (.aload_n 0, 1) := dk_42 (dk_at dksX2_init_20 3 rfl rfl)
theorem dX2_init_479 : decode cX2_init 479 = .ok (.bipush 64, 2) := dk_16 64 (dk_at dksX2_init_20 4 rfl rfl)
theorem dX2_init_481 : decode cX2_init 481 = .ok (.newarray .int, 2) := dk_188_10 (dk_at dksX2_init_20 6 rfl rfl)
theorem dX2_init_483 : decode cX2_init 483 = .ok (.putfield 89, 3) := dk_181 0 89 (dk_at dksX2_init_20 8 rfl rfl)
theorem dX2_init_486 : decode cX2_init 486 = .ok (.aload_n 0, 1) := dk_42 (dk_at dksX2_init_20 11 rfl rfl)
theorem dX2_init_487 : decode cX2_init 487 = .ok (.iconst 4, 1) := dk_7 (dk_at dksX2_init_20 12 rfl rfl)
theorem dX2_init_488 : decode cX2_init 488 = .ok (.newarray .int, 2) := dk_188_10 (dk_at dksX2_init_20 13 rfl rfl)
theorem dX2_init_490 : decode cX2_init 490 = .ok (.putfield 92, 3) := dk_181 0 92 (dk_at dksX2_init_20 15 rfl rfl)
theorem dX2_init_493 : decode cX2_init 493 = .ok (.aload_n 0, 1) := dk_42 (dk_at dksX2_init_20 18 rfl rfl)
theorem dX2_init_494 : decode cX2_init 494 = .ok (.bipush 32, 2) := dk_16 32 (dk_at dksX2_init_20 19 rfl rfl)
theorem dX2_init_496 : decode cX2_init 496 = .ok (.newarray .int, 2) := dk_188_10 (dk_at dksX2_init_20 21 rfl rfl)
theorem dX2_init_498 : decode cX2_init 498 = .ok (.putfield 95, 3) := dk_181 0 95 (dk_at dksX2_init_21 0 rfl rfl)
theorem dX2_init_501 : decode cX2_init 501 = .ok (.aload_n 0, 1) := dk_42 (dk_at dksX2_init_21 3 rfl rfl)
theorem dX2_init_502 : decode cX2_init 502 = .ok (.iconst 4, 1) := dk_7 (dk_at dksX2_init_21 4 rfl rfl)
theorem dX2_init_503 : decode cX2_init 503 = .ok (.newarray .int, 2) := dk_188_10 (dk_at dksX2_init_21 5 rfl rfl)
theorem dX2_init_505 : decode cX2_init 505 = .ok (.putfield 98, 3) := dk_181 0 98 (dk_at dksX2_init_21 7 rfl rfl)
theorem dX2_init_508 : decode cX2_init 508 = .ok (.aload_n 0, 1) := dk_42 (dk_at dksX2_init_21 10 rfl rfl)
theorem dX2_init_509 : decode cX2_init 509 = .ok (.iconst 4, 1) := dk_7 (dk_at dksX2_init_21 11 rfl rfl)
theorem dX2_init_510 : decode cX2_init 510 = .ok (.newarray .int, 2) := dk_188_10 (dk_at dksX2_init_21 12 rfl rfl)
theorem dX2_init_512 : decode cX2_init 512 = .ok (.putfield 101, 3) := dk_181 0 101 (dk_at dksX2_init_21 14 rfl rfl)
theorem dX2_init_515 : decode cX2_init 515 = .ok (.aload_n 0, 1) := dk_42 (dk_at dksX2_init_21 17 rfl rfl)
theorem dX2_init_516 : decode cX2_init 516 = .ok (.bipush 12, 2) := dk_16 12 (dk_at dksX2_init_21 18 rfl rfl)
theorem dX2_init_518 : decode cX2_init 518 = .ok (.newarray .int, 2) := dk_188_10 (dk_at dksX2_init_21 20 rfl rfl)
theorem dX2_init_520 : decode cX2_init 520 = .ok (.putfield 104, 3) := dk_181 0 104 (dk_at dksX2_init_22 0 rfl rfl)
theorem dX2_init_523 : decode cX2_init 523 = .ok (.return_, 1) := dk_177 (dk_at dksX2_init_22 3 rfl rfl)
abbrev cX2_write : ByteArray := prog_18_method_5_code
def yX2_write : MethodName := ⟨RX2, "write", "(I)I"⟩
def dkwX2_write_2 : List UInt8 := [181, 0, 113, 42, 180, 0, 113, 172]
abbrev dktX2_write_2 : List UInt8 := dkwX2_write_2 ++ []
def dkwX2_write_1 : List UInt8 := [160, 0, 6, 16, 251, 172, 42, 180, 0, 17, 42, 180, 0, 113, 27, 79, 42, 89, 180, 0, 113, 4, 96]
abbrev dktX2_write_1 : List UInt8 := dkwX2_write_1 ++ dktX2_write_2
def dkwX2_write_0 : List UInt8 := [27, 133, 9, 20, 0, 107, 184, 0, 109, 154, 0, 6, 16, 253, 172, 42, 180, 0, 113, 17, 0, 200]
abbrev dktX2_write_0 : List UInt8 := dkwX2_write_0 ++ dktX2_write_1
theorem dksX2_write_0 : cX2_write.data.toList.drop 0 = dktX2_write_0 := by decide +kernel
theorem dksX2_write_1 : cX2_write.data.toList.drop 22 = dktX2_write_1 := dk_seg dksX2_write_0 22 rfl rfl
theorem dksX2_write_2 : cX2_write.data.toList.drop 45 = dktX2_write_2 := dk_seg dksX2_write_1 23 rfl rfl
theorem dX2_write_0 : decode cX2_write 0 = .ok (.iload_n 1, 1) := dk_27 (dk_at dksX2_write_0 0 rfl rfl)
theorem dX2_write_1 : decode cX2_write 1 = .ok (.i2l, 1) := dk_133 (dk_at dksX2_write_0 1 rfl rfl)
theorem dX2_write_2 : decode cX2_write 2 = .ok (.lconst 0, 1) := dk_9 (dk_at dksX2_write_0 2 rfl rfl)
theorem dX2_write_3 : decode cX2_write 3 = .ok (.ldc2_w 107, 3) := dk_20 0 107 (dk_at dksX2_write_0 3 rfl rfl)
theorem dX2_write_6 : decode cX2_write 6 = .ok (.invokestatic 109, 3) := dk_184 0 109 (dk_at dksX2_write_0 6 rfl rfl)
theorem dX2_write_9 : decode cX2_write 9 = .ok (.ifCond .ne 6, 3) := dk_154 0 6 (dk_at dksX2_write_0 9 rfl rfl)
theorem dX2_write_12 : decode cX2_write 12 = .ok (.bipush (-3), 2) := dk_16 253 (dk_at dksX2_write_0 12 rfl rfl)
theorem dX2_write_14 : decode cX2_write 14 = .ok (.ireturn, 1) := dk_172 (dk_at dksX2_write_0 14 rfl rfl)
theorem dX2_write_15 : decode cX2_write 15 = .ok (.aload_n 0, 1) := dk_42 (dk_at dksX2_write_0 15 rfl rfl)
theorem dX2_write_16 : decode cX2_write 16 = .ok (.getfield 113, 3) := dk_180 0 113 (dk_at dksX2_write_0 16 rfl rfl)
theorem dX2_write_19 : decode cX2_write 19 = .ok (.sipush 200, 3) := dk_17 0 200 (dk_at dksX2_write_0 19 rfl rfl)
theorem dX2_write_22 : decode cX2_write 22 = .ok (.if_icmp .ne 6, 3) := dk_160 0 6 (dk_at dksX2_write_1 0 rfl rfl)
theorem dX2_write_25 : decode cX2_write 25 = .ok (.bipush (-5), 2) := dk_16 251 (dk_at dksX2_write_1 3 rfl rfl)
theorem dX2_write_27 : decode cX2_write 27 = .ok (.ireturn, 1) := dk_172 (dk_at dksX2_write_1 5 rfl rfl)
theorem dX2_write_28 : decode cX2_write 28 = .ok (.aload_n 0, 1) := dk_42 (dk_at dksX2_write_1 6 rfl rfl)
theorem dX2_write_29 : decode cX2_write 29 = .ok (.getfield 17, 3) := dk_180 0 17 (dk_at dksX2_write_1 7 rfl rfl)
theorem dX2_write_32 : decode cX2_write 32 = .ok (.aload_n 0, 1) := dk_42 (dk_at dksX2_write_1 10 rfl rfl)
theorem dX2_write_33 : decode cX2_write 33 = .ok (.getfield 113, 3) := dk_180 0 113 (dk_at dksX2_write_1 11 rfl rfl)
theorem dX2_write_36 : decode cX2_write 36 = .ok (.iload_n 1, 1) := dk_27 (dk_at dksX2_write_1 14 rfl rfl)
theorem dX2_write_37 : decode cX2_write 37 = .ok (.iastore, 1) := dk_79 (dk_at dksX2_write_1 15 rfl rfl)
theorem dX2_write_38 : decode cX2_write 38 = .ok (.aload_n 0, 1) := dk_42 (dk_at dksX2_write_1 16 rfl rfl)
theorem dX2_write_39 : decode cX2_write 39 = .ok (.dup, 1) := dk_89 (dk_at dksX2_write_1 17 rfl rfl)
theorem dX2_write_40 : decode cX2_write 40 = .ok (.getfield 113, 3) := dk_180 0 113 (dk_at dksX2_write_1 18 rfl rfl)
theorem dX2_write_43 : decode cX2_write 43 = .ok (.iconst 1, 1) := dk_4 (dk_at dksX2_write_1 21 rfl rfl)
theorem dX2_write_44 : decode cX2_write 44 = .ok (.iadd, 1) := dk_96 (dk_at dksX2_write_1 22 rfl rfl)
theorem dX2_write_45 : decode cX2_write 45 = .ok (.putfield 113, 3) := dk_181 0 113 (dk_at dksX2_write_2 0 rfl rfl)
theorem dX2_write_48 : decode cX2_write 48 = .ok (.aload_n 0, 1) := dk_42 (dk_at dksX2_write_2 3 rfl rfl)
theorem dX2_write_49 : decode cX2_write 49 = .ok (.getfield 113, 3) := dk_180 0 113 (dk_at dksX2_write_2 4 rfl rfl)
theorem dX2_write_52 : decode cX2_write 52 = .ok (.ireturn, 1) := dk_172 (dk_at dksX2_write_2 7 rfl rfl)
abbrev cX2_in : ByteArray := prog_18_method_2_code
def yX2_in : MethodName := ⟨RX2, "in", "(JJJ)Z"⟩
def dkwX2_in_0 : List UInt8 := [30, 32, 148, 155, 0, 14, 30, 22, 4, 148, 157, 0, 7, 4, 167, 0, 4, 3, 172]
abbrev dktX2_in_0 : List UInt8 := dkwX2_in_0 ++ []
theorem dksX2_in_0 : cX2_in.data.toList.drop 0 = dktX2_in_0 := by decide +kernel
theorem dX2_in_0 : decode cX2_in 0 = .ok (.lload_n 0, 1) := dk_30 (dk_at dksX2_in_0 0 rfl rfl)
theorem dX2_in_1 : decode cX2_in 1 = .ok (.lload_n 2, 1) := dk_32 (dk_at dksX2_in_0 1 rfl rfl)
theorem dX2_in_2 : decode cX2_in 2 = .ok (.lcmp, 1) := dk_148 (dk_at dksX2_in_0 2 rfl rfl)
theorem dX2_in_3 : decode cX2_in 3 = .ok (.ifCond .lt 14, 3) := dk_155 0 14 (dk_at dksX2_in_0 3 rfl rfl)
theorem dX2_in_6 : decode cX2_in 6 = .ok (.lload_n 0, 1) := dk_30 (dk_at dksX2_in_0 6 rfl rfl)
theorem dX2_in_7 : decode cX2_in 7 = .ok (.lload 4, 2) := dk_22 4 (dk_at dksX2_in_0 7 rfl rfl)
theorem dX2_in_9 : decode cX2_in 9 = .ok (.lcmp, 1) := dk_148 (dk_at dksX2_in_0 9 rfl rfl)
theorem dX2_in_10 : decode cX2_in 10 = .ok (.ifCond .gt 7, 3) := dk_157 0 7 (dk_at dksX2_in_0 10 rfl rfl)
theorem dX2_in_13 : decode cX2_in 13 = .ok (.iconst 1, 1) := dk_4 (dk_at dksX2_in_0 13 rfl rfl)
theorem dX2_in_14 : decode cX2_in 14 = .ok (.goto 4, 3) := dk_167 0 4 (dk_at dksX2_in_0 14 rfl rfl)
theorem dX2_in_17 : decode cX2_in 17 = .ok (.iconst 0, 1) := dk_3 (dk_at dksX2_in_0 17 rfl rfl)
theorem dX2_in_18 : decode cX2_in 18 = .ok (.ireturn, 1) := dk_172 (dk_at dksX2_in_0 18 rfl rfl)
abbrev cX2_erase : ByteArray := prog_18_method_6_code
def yX2_erase : MethodName := ⟨RX2, "erase", "()I"⟩
def dkwX2_erase_0 : List UInt8 := [42, 180, 0, 113, 60, 42, 3, 181, 0, 113, 27, 172]
abbrev dktX2_erase_0 : List UInt8 := dkwX2_erase_0 ++ []
theorem dksX2_erase_0 : cX2_erase.data.toList.drop 0 = dktX2_erase_0 := by decide +kernel
theorem dX2_erase_0 : decode cX2_erase 0 = .ok (.aload_n 0, 1) := dk_42 (dk_at dksX2_erase_0 0 rfl rfl)
theorem dX2_erase_1 : decode cX2_erase 1 = .ok (.getfield 113, 3) := dk_180 0 113 (dk_at dksX2_erase_0 1 rfl rfl)
theorem dX2_erase_4 : decode cX2_erase 4 = .ok (.istore_n 1, 1) := dk_60 (dk_at dksX2_erase_0 4 rfl rfl)
theorem dX2_erase_5 : decode cX2_erase 5 = .ok (.aload_n 0, 1) := dk_42 (dk_at dksX2_erase_0 5 rfl rfl)
theorem dX2_erase_6 : decode cX2_erase 6 = .ok (.iconst 0, 1) := dk_3 (dk_at dksX2_erase_0 6 rfl rfl)
theorem dX2_erase_7 : decode cX2_erase 7 = .ok (.putfield 113, 3) := dk_181 0 113 (dk_at dksX2_erase_0 7 rfl rfl)
theorem dX2_erase_10 : decode cX2_erase 10 = .ok (.iload_n 1, 1) := dk_27 (dk_at dksX2_erase_0 10 rfl rfl)
theorem dX2_erase_11 : decode cX2_erase 11 = .ok (.ireturn, 1) := dk_172 (dk_at dksX2_erase_0 11 rfl rfl)
abbrev cX2_harbour : ByteArray := prog_18_method_24_code
def yX2_harbour : MethodName := ⟨RX2, "harbour", "()I"⟩
def dkwX2_harbour_2 : List UInt8 := [84, 42, 3, 181, 0, 209, 42, 180, 0, 192, 172]
abbrev dktX2_harbour_2 : List UInt8 := dkwX2_harbour_2 ++ []
def dkwX2_harbour_1 : List UInt8 := [16, 108, 3, 182, 0, 202, 42, 3, 181, 0, 206, 42, 180, 0, 13, 3, 3, 84, 42, 180, 0, 13, 4, 3]
abbrev dktX2_harbour_1 : List UInt8 := dkwX2_harbour_1 ++ dktX2_harbour_2
def dkwX2_harbour_0 : List UInt8 := [42, 3, 182, 0, 198, 154, 0, 6, 16, 252, 172, 42, 4, 182, 0, 198, 87, 42, 3, 181, 0, 113, 42]
abbrev dktX2_harbour_0 : List UInt8 := dkwX2_harbour_0 ++ dktX2_harbour_1
theorem dksX2_harbour_0 : cX2_harbour.data.toList.drop 0 = dktX2_harbour_0 := by decide +kernel
theorem dksX2_harbour_1 : cX2_harbour.data.toList.drop 23 = dktX2_harbour_1 := dk_seg dksX2_harbour_0 23 rfl rfl
theorem dksX2_harbour_2 : cX2_harbour.data.toList.drop 47 = dktX2_harbour_2 := dk_seg dksX2_harbour_1 24 rfl rfl
theorem dX2_harbour_0 : decode cX2_harbour 0 = .ok (.aload_n 0, 1) := dk_42 (dk_at dksX2_harbour_0 0 rfl rfl)
theorem dX2_harbour_1 : decode cX2_harbour 1 = .ok (.iconst 0, 1) := dk_3 (dk_at dksX2_harbour_0 1 rfl rfl)
theorem dX2_harbour_2 : decode cX2_harbour 2 = .ok (.invokevirtual 198, 3) := dk_182 0 198 (dk_at dksX2_harbour_0 2 rfl rfl)
theorem dX2_harbour_5 : decode cX2_harbour 5 = .ok (.ifCond .ne 6, 3) := dk_154 0 6 (dk_at dksX2_harbour_0 5 rfl rfl)
theorem dX2_harbour_8 : decode cX2_harbour 8 = .ok (.bipush (-4), 2) := dk_16 252 (dk_at dksX2_harbour_0 8 rfl rfl)
theorem dX2_harbour_10 : decode cX2_harbour 10 = .ok (.ireturn, 1) := dk_172 (dk_at dksX2_harbour_0 10 rfl rfl)
theorem dX2_harbour_11 : decode cX2_harbour 11 = .ok (.aload_n 0, 1) := dk_42 (dk_at dksX2_harbour_0 11 rfl rfl)
theorem dX2_harbour_12 : decode cX2_harbour 12 = .ok (.iconst 1, 1) := dk_4 (dk_at dksX2_harbour_0 12 rfl rfl)
theorem dX2_harbour_13 : decode cX2_harbour 13 = .ok (.invokevirtual 198, 3) := dk_182 0 198 (dk_at dksX2_harbour_0 13 rfl rfl)
theorem dX2_harbour_16 : decode cX2_harbour 16 = .ok (.pop, 1) := dk_87 (dk_at dksX2_harbour_0 16 rfl rfl)
theorem dX2_harbour_17 : decode cX2_harbour 17 = .ok (.aload_n 0, 1) := dk_42 (dk_at dksX2_harbour_0 17 rfl rfl)
theorem dX2_harbour_18 : decode cX2_harbour 18 = .ok (.iconst 0, 1) := dk_3 (dk_at dksX2_harbour_0 18 rfl rfl)
theorem dX2_harbour_19 : decode cX2_harbour 19 = .ok (.putfield 113, 3) := dk_181 0 113 (dk_at dksX2_harbour_0 19 rfl rfl)
theorem dX2_harbour_22 : decode cX2_harbour 22 = .ok (.aload_n 0, 1) := dk_42 (dk_at dksX2_harbour_0 22 rfl rfl)
theorem dX2_harbour_23 : decode cX2_harbour 23 = .ok (.bipush 108, 2) := dk_16 108 (dk_at dksX2_harbour_1 0 rfl rfl)
theorem dX2_harbour_25 : decode cX2_harbour 25 = .ok (.iconst 0, 1) := dk_3 (dk_at dksX2_harbour_1 2 rfl rfl)
theorem dX2_harbour_26 : decode cX2_harbour 26 = .ok (.invokevirtual 202, 3) := dk_182 0 202 (dk_at dksX2_harbour_1 3 rfl rfl)
theorem dX2_harbour_29 : decode cX2_harbour 29 = .ok (.aload_n 0, 1) := dk_42 (dk_at dksX2_harbour_1 6 rfl rfl)
theorem dX2_harbour_30 : decode cX2_harbour 30 = .ok (.iconst 0, 1) := dk_3 (dk_at dksX2_harbour_1 7 rfl rfl)
theorem dX2_harbour_31 : decode cX2_harbour 31 = .ok (.putfield 206, 3) := dk_181 0 206 (dk_at dksX2_harbour_1 8 rfl rfl)
theorem dX2_harbour_34 : decode cX2_harbour 34 = .ok (.aload_n 0, 1) := dk_42 (dk_at dksX2_harbour_1 11 rfl rfl)
theorem dX2_harbour_35 : decode cX2_harbour 35 = .ok (.getfield 13, 3) := dk_180 0 13 (dk_at dksX2_harbour_1 12 rfl rfl)
theorem dX2_harbour_38 : decode cX2_harbour 38 = .ok (.iconst 0, 1) := dk_3 (dk_at dksX2_harbour_1 15 rfl rfl)
theorem dX2_harbour_39 : decode cX2_harbour 39 = .ok (.iconst 0, 1) := dk_3 (dk_at dksX2_harbour_1 16 rfl rfl)
theorem dX2_harbour_40 : decode cX2_harbour 40 = .ok (.bastore, 1) := dk_84 (dk_at dksX2_harbour_1 17 rfl rfl)
theorem dX2_harbour_41 : decode cX2_harbour 41 = .ok (.aload_n 0, 1) := dk_42 (dk_at dksX2_harbour_1 18 rfl rfl)
theorem dX2_harbour_42 : decode cX2_harbour 42 = .ok (.getfield 13, 3) := dk_180 0 13 (dk_at dksX2_harbour_1 19 rfl rfl)
theorem dX2_harbour_45 : decode cX2_harbour 45 = .ok (.iconst 1, 1) := dk_4 (dk_at dksX2_harbour_1 22 rfl rfl)
theorem dX2_harbour_46 : decode cX2_harbour 46 = .ok (.iconst 0, 1) := dk_3 (dk_at dksX2_harbour_1 23 rfl rfl)
theorem dX2_harbour_47 : decode cX2_harbour 47 = .ok (.bastore, 1) := dk_84 (dk_at dksX2_harbour_2 0 rfl rfl)
theorem dX2_harbour_48 : decode cX2_harbour 48 = .ok (.aload_n 0, 1) := dk_42 (dk_at dksX2_harbour_2 1 rfl rfl)
theorem dX2_harbour_49 : decode cX2_harbour 49 = .ok (.iconst 0, 1) := dk_3 (dk_at dksX2_harbour_2 2 rfl rfl)
theorem dX2_harbour_50 : decode cX2_harbour 50 = .ok (.putfield 209, 3) := dk_181 0 209 (dk_at dksX2_harbour_2 3 rfl rfl)
theorem dX2_harbour_53 : decode cX2_harbour 53 = .ok (.aload_n 0, 1) := dk_42 (dk_at dksX2_harbour_2 6 rfl rfl)
theorem dX2_harbour_54 : decode cX2_harbour 54 = .ok (.getfield 192, 3) := dk_180 0 192 (dk_at dksX2_harbour_2 7 rfl rfl)
theorem dX2_harbour_57 : decode cX2_harbour 57 = .ok (.ireturn, 1) := dk_172 (dk_at dksX2_harbour_2 10 rfl rfl)
abbrev cX2_reads : ByteArray := prog_18_method_22_code
def yX2_reads : MethodName := ⟨RX2, "reads", "(Z)Z"⟩
def dkwX2_reads_6 : List UInt8 := [96, 181, 0, 192, 167, 255, 189, 28, 172]
abbrev dktX2_reads_6 : List UInt8 := dkwX2_reads_6 ++ []
def dkwX2_reads_5 : List UInt8 := [167, 0, 4, 3, 61, 28, 153, 255, 211, 42, 182, 0, 142, 42, 182, 0, 195, 61, 42, 89, 180, 0, 192, 4]
abbrev dktX2_reads_5 : List UInt8 := dkwX2_reads_5 ++ dktX2_reads_6
def dkwX2_reads_4 : List UInt8 := [180, 0, 192, 16, 20, 162, 0, 21, 42, 180, 0, 17, 42, 180, 0, 128, 46, 16, 59, 160, 0, 7, 4]
abbrev dktX2_reads_4 : List UInt8 := dkwX2_reads_4 ++ dktX2_reads_5
def dkwX2_reads_3 : List UInt8 := [182, 0, 142, 42, 182, 0, 195, 61, 28, 153, 0, 69, 42, 180, 0, 128, 42, 180, 0, 113, 162, 0, 58, 42]
abbrev dktX2_reads_3 : List UInt8 := dkwX2_reads_3 ++ dktX2_reads_4
def dkwX2_reads_2 : List UInt8 := [180, 0, 47, 28, 42, 180, 0, 7, 17, 0, 212, 28, 96, 46, 79, 132, 2, 1, 167, 255, 232, 42]
abbrev dktX2_reads_2 : List UInt8 := dkwX2_reads_2 ++ dktX2_reads_3
def dkwX2_reads_1 : List UInt8 := [181, 0, 149, 42, 42, 180, 0, 7, 16, 109, 46, 181, 0, 159, 3, 61, 28, 7, 162, 0, 25, 42]
abbrev dktX2_reads_1 : List UInt8 := dkwX2_reads_1 ++ dktX2_reads_2
def dkwX2_reads_0 : List UInt8 := [42, 27, 181, 0, 155, 42, 3, 181, 0, 125, 42, 4, 181, 0, 192, 42, 42, 180, 0, 7, 16, 108, 46]
abbrev dktX2_reads_0 : List UInt8 := dkwX2_reads_0 ++ dktX2_reads_1
theorem dksX2_reads_0 : cX2_reads.data.toList.drop 0 = dktX2_reads_0 := by decide +kernel
theorem dksX2_reads_1 : cX2_reads.data.toList.drop 23 = dktX2_reads_1 := dk_seg dksX2_reads_0 23 rfl rfl
theorem dksX2_reads_2 : cX2_reads.data.toList.drop 45 = dktX2_reads_2 := dk_seg dksX2_reads_1 22 rfl rfl
theorem dksX2_reads_3 : cX2_reads.data.toList.drop 67 = dktX2_reads_3 := dk_seg dksX2_reads_2 22 rfl rfl
theorem dksX2_reads_4 : cX2_reads.data.toList.drop 91 = dktX2_reads_4 := dk_seg dksX2_reads_3 24 rfl rfl
theorem dksX2_reads_5 : cX2_reads.data.toList.drop 114 = dktX2_reads_5 := dk_seg dksX2_reads_4 23 rfl rfl
theorem dksX2_reads_6 : cX2_reads.data.toList.drop 138 = dktX2_reads_6 := dk_seg dksX2_reads_5 24 rfl rfl
theorem dX2_reads_0 : decode cX2_reads 0 = .ok (.aload_n 0, 1) := dk_42 (dk_at dksX2_reads_0 0 rfl rfl)
theorem dX2_reads_1 : decode cX2_reads 1 = .ok (.iload_n 1, 1) := dk_27 (dk_at dksX2_reads_0 1 rfl rfl)
theorem dX2_reads_2 : decode cX2_reads 2 = .ok (.putfield 155, 3) := dk_181 0 155 (dk_at dksX2_reads_0 2 rfl rfl)
theorem dX2_reads_5 : decode cX2_reads 5 = .ok (.aload_n 0, 1) := dk_42 (dk_at dksX2_reads_0 5 rfl rfl)
theorem dX2_reads_6 : decode cX2_reads 6 = .ok (.iconst 0, 1) := dk_3 (dk_at dksX2_reads_0 6 rfl rfl)
theorem dX2_reads_7 : decode cX2_reads 7 = .ok (.putfield 125, 3) := dk_181 0 125 (dk_at dksX2_reads_0 7 rfl rfl)
theorem dX2_reads_10 : decode cX2_reads 10 = .ok (.aload_n 0, 1) := dk_42 (dk_at dksX2_reads_0 10 rfl rfl)
theorem dX2_reads_11 : decode cX2_reads 11 = .ok (.iconst 1, 1) := dk_4 (dk_at dksX2_reads_0 11 rfl rfl)
theorem dX2_reads_12 : decode cX2_reads 12 = .ok (.putfield 192, 3) := dk_181 0 192 (dk_at dksX2_reads_0 12 rfl rfl)
theorem dX2_reads_15 : decode cX2_reads 15 = .ok (.aload_n 0, 1) := dk_42 (dk_at dksX2_reads_0 15 rfl rfl)
theorem dX2_reads_16 : decode cX2_reads 16 = .ok (.aload_n 0, 1) := dk_42 (dk_at dksX2_reads_0 16 rfl rfl)
theorem dX2_reads_17 : decode cX2_reads 17 = .ok (.getfield 7, 3) := dk_180 0 7 (dk_at dksX2_reads_0 17 rfl rfl)
theorem dX2_reads_20 : decode cX2_reads 20 = .ok (.bipush 108, 2) := dk_16 108 (dk_at dksX2_reads_0 20 rfl rfl)
theorem dX2_reads_22 : decode cX2_reads 22 = .ok (.iaload, 1) := dk_46 (dk_at dksX2_reads_0 22 rfl rfl)
theorem dX2_reads_23 : decode cX2_reads 23 = .ok (.putfield 149, 3) := dk_181 0 149 (dk_at dksX2_reads_1 0 rfl rfl)
theorem dX2_reads_26 : decode cX2_reads 26 = .ok (.aload_n 0, 1) := dk_42 (dk_at dksX2_reads_1 3 rfl rfl)
theorem dX2_reads_27 : decode cX2_reads 27 = .ok (.aload_n 0, 1) := dk_42 (dk_at dksX2_reads_1 4 rfl rfl)
theorem dX2_reads_28 : decode cX2_reads 28 = .ok (.getfield 7, 3) := dk_180 0 7 (dk_at dksX2_reads_1 5 rfl rfl)
theorem dX2_reads_31 : decode cX2_reads 31 = .ok (.bipush 109, 2) := dk_16 109 (dk_at dksX2_reads_1 8 rfl rfl)
theorem dX2_reads_33 : decode cX2_reads 33 = .ok (.iaload, 1) := dk_46 (dk_at dksX2_reads_1 10 rfl rfl)
theorem dX2_reads_34 : decode cX2_reads 34 = .ok (.putfield 159, 3) := dk_181 0 159 (dk_at dksX2_reads_1 11 rfl rfl)
theorem dX2_reads_37 : decode cX2_reads 37 = .ok (.iconst 0, 1) := dk_3 (dk_at dksX2_reads_1 14 rfl rfl)
theorem dX2_reads_38 : decode cX2_reads 38 = .ok (.istore_n 2, 1) := dk_61 (dk_at dksX2_reads_1 15 rfl rfl)
theorem dX2_reads_39 : decode cX2_reads 39 = .ok (.iload_n 2, 1) := dk_28 (dk_at dksX2_reads_1 16 rfl rfl)
theorem dX2_reads_40 : decode cX2_reads 40 = .ok (.iconst 4, 1) := dk_7 (dk_at dksX2_reads_1 17 rfl rfl)
theorem dX2_reads_41 : decode cX2_reads 41 = .ok (.if_icmp .ge 25, 3) := dk_162 0 25 (dk_at dksX2_reads_1 18 rfl rfl)
theorem dX2_reads_44 : decode cX2_reads 44 = .ok (.aload_n 0, 1) := dk_42 (dk_at dksX2_reads_1 21 rfl rfl)
theorem dX2_reads_45 : decode cX2_reads 45 = .ok (.getfield 47, 3) := dk_180 0 47 (dk_at dksX2_reads_2 0 rfl rfl)
theorem dX2_reads_48 : decode cX2_reads 48 = .ok (.iload_n 2, 1) := dk_28 (dk_at dksX2_reads_2 3 rfl rfl)
theorem dX2_reads_49 : decode cX2_reads 49 = .ok (.aload_n 0, 1) := dk_42 (dk_at dksX2_reads_2 4 rfl rfl)
theorem dX2_reads_50 : decode cX2_reads 50 = .ok (.getfield 7, 3) := dk_180 0 7 (dk_at dksX2_reads_2 5 rfl rfl)
theorem dX2_reads_53 : decode cX2_reads 53 = .ok (.sipush 212, 3) := dk_17 0 212 (dk_at dksX2_reads_2 8 rfl rfl)
theorem dX2_reads_56 : decode cX2_reads 56 = .ok (.iload_n 2, 1) := dk_28 (dk_at dksX2_reads_2 11 rfl rfl)
theorem dX2_reads_57 : decode cX2_reads 57 = .ok (.iadd, 1) := dk_96 (dk_at dksX2_reads_2 12 rfl rfl)
theorem dX2_reads_58 : decode cX2_reads 58 = .ok (.iaload, 1) := dk_46 (dk_at dksX2_reads_2 13 rfl rfl)
theorem dX2_reads_59 : decode cX2_reads 59 = .ok (.iastore, 1) := dk_79 (dk_at dksX2_reads_2 14 rfl rfl)
theorem dX2_reads_60 : decode cX2_reads 60 = .ok (.iinc 2 1, 3) := dk_132 2 1 (dk_at dksX2_reads_2 15 rfl rfl)
theorem dX2_reads_63 : decode cX2_reads 63 = .ok (.goto (-24), 3) := dk_167 255 232 (dk_at dksX2_reads_2 18 rfl rfl)
theorem dX2_reads_66 : decode cX2_reads 66 = .ok (.aload_n 0, 1) := dk_42 (dk_at dksX2_reads_2 21 rfl rfl)
theorem dX2_reads_67 : decode cX2_reads 67 = .ok (.invokevirtual 142, 3) := dk_182 0 142 (dk_at dksX2_reads_3 0 rfl rfl)
theorem dX2_reads_70 : decode cX2_reads 70 = .ok (.aload_n 0, 1) := dk_42 (dk_at dksX2_reads_3 3 rfl rfl)
theorem dX2_reads_71 : decode cX2_reads 71 = .ok (.invokevirtual 195, 3) := dk_182 0 195 (dk_at dksX2_reads_3 4 rfl rfl)
theorem dX2_reads_74 : decode cX2_reads 74 = .ok (.istore_n 2, 1) := dk_61 (dk_at dksX2_reads_3 7 rfl rfl)
theorem dX2_reads_75 : decode cX2_reads 75 = .ok (.iload_n 2, 1) := dk_28 (dk_at dksX2_reads_3 8 rfl rfl)
theorem dX2_reads_76 : decode cX2_reads 76 = .ok (.ifCond .eq 69, 3) := dk_153 0 69 (dk_at dksX2_reads_3 9 rfl rfl)
theorem dX2_reads_79 : decode cX2_reads 79 = .ok (.aload_n 0, 1) := dk_42 (dk_at dksX2_reads_3 12 rfl rfl)
theorem dX2_reads_80 : decode cX2_reads 80 = .ok (.getfield 128, 3) := dk_180 0 128 (dk_at dksX2_reads_3 13 rfl rfl)
theorem dX2_reads_83 : decode cX2_reads 83 = .ok (.aload_n 0, 1) := dk_42 (dk_at dksX2_reads_3 16 rfl rfl)
theorem dX2_reads_84 : decode cX2_reads 84 = .ok (.getfield 113, 3) := dk_180 0 113 (dk_at dksX2_reads_3 17 rfl rfl)
theorem dX2_reads_87 : decode cX2_reads 87 = .ok (.if_icmp .ge 58, 3) := dk_162 0 58 (dk_at dksX2_reads_3 20 rfl rfl)
theorem dX2_reads_90 : decode cX2_reads 90 = .ok (.aload_n 0, 1) := dk_42 (dk_at dksX2_reads_3 23 rfl rfl)
theorem dX2_reads_91 : decode cX2_reads 91 = .ok (.getfield 192, 3) := dk_180 0 192 (dk_at dksX2_reads_4 0 rfl rfl)
theorem dX2_reads_94 : decode cX2_reads 94 = .ok (.bipush 20, 2) := dk_16 20 (dk_at dksX2_reads_4 3 rfl rfl)
theorem dX2_reads_96 : decode cX2_reads 96 = .ok (.if_icmp .ge 21, 3) := dk_162 0 21 (dk_at dksX2_reads_4 5 rfl rfl)
theorem dX2_reads_99 : decode cX2_reads 99 = .ok (.aload_n 0, 1) := dk_42 (dk_at dksX2_reads_4 8 rfl rfl)
theorem dX2_reads_100 : decode cX2_reads 100 = .ok (.getfield 17, 3) := dk_180 0 17 (dk_at dksX2_reads_4 9 rfl rfl)
theorem dX2_reads_103 : decode cX2_reads 103 = .ok (.aload_n 0, 1) := dk_42 (dk_at dksX2_reads_4 12 rfl rfl)
theorem dX2_reads_104 : decode cX2_reads 104 = .ok (.getfield 128, 3) := dk_180 0 128 (dk_at dksX2_reads_4 13 rfl rfl)
theorem dX2_reads_107 : decode cX2_reads 107 = .ok (.iaload, 1) := dk_46 (dk_at dksX2_reads_4 16 rfl rfl)
theorem dX2_reads_108 : decode cX2_reads 108 = .ok (.bipush 59, 2) := dk_16 59 (dk_at dksX2_reads_4 17 rfl rfl)
theorem dX2_reads_110 : decode cX2_reads 110 = .ok (.if_icmp .ne 7, 3) := dk_160 0 7 (dk_at dksX2_reads_4 19 rfl rfl)
theorem dX2_reads_113 : decode cX2_reads 113 = .ok (.iconst 1, 1) := dk_4 (dk_at dksX2_reads_4 22 rfl rfl)
theorem dX2_reads_114 : decode cX2_reads 114 = .ok (.goto 4, 3) := dk_167 0 4 (dk_at dksX2_reads_5 0 rfl rfl)
theorem dX2_reads_117 : decode cX2_reads 117 = .ok (.iconst 0, 1) := dk_3 (dk_at dksX2_reads_5 3 rfl rfl)
theorem dX2_reads_118 : decode cX2_reads 118 = .ok (.istore_n 2, 1) := dk_61 (dk_at dksX2_reads_5 4 rfl rfl)
theorem dX2_reads_119 : decode cX2_reads 119 = .ok (.iload_n 2, 1) := dk_28 (dk_at dksX2_reads_5 5 rfl rfl)
theorem dX2_reads_120 : decode cX2_reads 120 = .ok (.ifCond .eq (-45), 3) := dk_153 255 211 (dk_at dksX2_reads_5 6 rfl rfl)
theorem dX2_reads_123 : decode cX2_reads 123 = .ok (.aload_n 0, 1) := dk_42 (dk_at dksX2_reads_5 9 rfl rfl)
theorem dX2_reads_124 : decode cX2_reads 124 = .ok (.invokevirtual 142, 3) := dk_182 0 142 (dk_at dksX2_reads_5 10 rfl rfl)
theorem dX2_reads_127 : decode cX2_reads 127 = .ok (.aload_n 0, 1) := dk_42 (dk_at dksX2_reads_5 13 rfl rfl)
theorem dX2_reads_128 : decode cX2_reads 128 = .ok (.invokevirtual 195, 3) := dk_182 0 195 (dk_at dksX2_reads_5 14 rfl rfl)
theorem dX2_reads_131 : decode cX2_reads 131 = .ok (.istore_n 2, 1) := dk_61 (dk_at dksX2_reads_5 17 rfl rfl)
theorem dX2_reads_132 : decode cX2_reads 132 = .ok (.aload_n 0, 1) := dk_42 (dk_at dksX2_reads_5 18 rfl rfl)
theorem dX2_reads_133 : decode cX2_reads 133 = .ok (.dup, 1) := dk_89 (dk_at dksX2_reads_5 19 rfl rfl)
theorem dX2_reads_134 : decode cX2_reads 134 = .ok (.getfield 192, 3) := dk_180 0 192 (dk_at dksX2_reads_5 20 rfl rfl)
theorem dX2_reads_137 : decode cX2_reads 137 = .ok (.iconst 1, 1) := dk_4 (dk_at dksX2_reads_5 23 rfl rfl)
theorem dX2_reads_138 : decode cX2_reads 138 = .ok (.iadd, 1) := dk_96 (dk_at dksX2_reads_6 0 rfl rfl)
theorem dX2_reads_139 : decode cX2_reads 139 = .ok (.putfield 192, 3) := dk_181 0 192 (dk_at dksX2_reads_6 1 rfl rfl)
theorem dX2_reads_142 : decode cX2_reads 142 = .ok (.goto (-67), 3) := dk_167 255 189 (dk_at dksX2_reads_6 4 rfl rfl)
theorem dX2_reads_145 : decode cX2_reads 145 = .ok (.iload_n 2, 1) := dk_28 (dk_at dksX2_reads_6 7 rfl rfl)
theorem dX2_reads_146 : decode cX2_reads 146 = .ok (.ireturn, 1) := dk_172 (dk_at dksX2_reads_6 8 rfl rfl)
abbrev cX2_nextToken : ByteArray := prog_18_method_9_code
def yX2_nextToken : MethodName := ⟨RX2, "nextToken", "()V"⟩
def dkwX2_nextToken_8 : List UInt8 := [184, 0, 135, 153, 0, 16, 42, 89, 180, 0, 125, 4, 96, 181, 0, 125, 167, 255, 220, 177]
abbrev dktX2_nextToken_8 : List UInt8 := dkwX2_nextToken_8 ++ []
def dkwX2_nextToken_7 : List UInt8 := [153, 0, 42, 42, 180, 0, 125, 42, 180, 0, 113, 162, 0, 31, 42, 180, 0, 17, 42, 180, 0, 125, 46]
abbrev dktX2_nextToken_7 : List UInt8 := dkwX2_nextToken_7 ++ dktX2_nextToken_8
def dkwX2_nextToken_6 : List UInt8 := [180, 0, 128, 42, 180, 0, 113, 162, 0, 57, 42, 180, 0, 17, 42, 180, 0, 128, 46, 184, 0, 135]
abbrev dktX2_nextToken_6 : List UInt8 := dkwX2_nextToken_6 ++ dktX2_nextToken_7
def dkwX2_nextToken_5 : List UInt8 := [180, 0, 125, 46, 184, 0, 131, 153, 0, 81, 42, 89, 180, 0, 125, 4, 96, 181, 0, 125, 167, 255, 220, 42]
abbrev dktX2_nextToken_5 : List UInt8 := dkwX2_nextToken_5 ++ dktX2_nextToken_6
def dkwX2_nextToken_4 : List UInt8 := [184, 0, 131, 153, 0, 42, 42, 180, 0, 125, 42, 180, 0, 113, 162, 0, 96, 42, 180, 0, 17, 42]
abbrev dktX2_nextToken_4 : List UInt8 := dkwX2_nextToken_4 ++ dktX2_nextToken_5
def dkwX2_nextToken_3 : List UInt8 := [181, 0, 125, 42, 180, 0, 128, 42, 180, 0, 113, 162, 0, 57, 42, 180, 0, 17, 42, 180, 0, 128, 46]
abbrev dktX2_nextToken_3 : List UInt8 := dkwX2_nextToken_3 ++ dktX2_nextToken_4
def dkwX2_nextToken_2 : List UInt8 := [180, 0, 128, 42, 180, 0, 113, 162, 0, 12, 42, 180, 0, 128, 4, 96, 167, 0, 7, 42, 180, 0, 128]
abbrev dktX2_nextToken_2 : List UInt8 := dkwX2_nextToken_2 ++ dktX2_nextToken_3
def dkwX2_nextToken_1 : List UInt8 := [180, 0, 128, 46, 16, 32, 160, 0, 16, 42, 89, 180, 0, 128, 4, 96, 181, 0, 128, 167, 255, 221, 42, 42]
abbrev dktX2_nextToken_1 : List UInt8 := dkwX2_nextToken_1 ++ dktX2_nextToken_2
def dkwX2_nextToken_0 : List UInt8 := [42, 42, 180, 0, 125, 181, 0, 128, 42, 180, 0, 128, 42, 180, 0, 113, 162, 0, 30, 42, 180, 0, 17, 42]
abbrev dktX2_nextToken_0 : List UInt8 := dkwX2_nextToken_0 ++ dktX2_nextToken_1
theorem dksX2_nextToken_0 : cX2_nextToken.data.toList.drop 0 = dktX2_nextToken_0 := by decide +kernel
theorem dksX2_nextToken_1 : cX2_nextToken.data.toList.drop 24 = dktX2_nextToken_1 := dk_seg dksX2_nextToken_0 24 rfl rfl
theorem dksX2_nextToken_2 : cX2_nextToken.data.toList.drop 48 = dktX2_nextToken_2 := dk_seg dksX2_nextToken_1 24 rfl rfl
theorem dksX2_nextToken_3 : cX2_nextToken.data.toList.drop 71 = dktX2_nextToken_3 := dk_seg dksX2_nextToken_2 23 rfl rfl
theorem dksX2_nextToken_4 : cX2_nextToken.data.toList.drop 94 = dktX2_nextToken_4 := dk_seg dksX2_nextToken_3 23 rfl rfl
theorem dksX2_nextToken_5 : cX2_nextToken.data.toList.drop 116 = dktX2_nextToken_5 := dk_seg dksX2_nextToken_4 22 rfl rfl
theorem dksX2_nextToken_6 : cX2_nextToken.data.toList.drop 140 = dktX2_nextToken_6 := dk_seg dksX2_nextToken_5 24 rfl rfl
theorem dksX2_nextToken_7 : cX2_nextToken.data.toList.drop 162 = dktX2_nextToken_7 := dk_seg dksX2_nextToken_6 22 rfl rfl
theorem dksX2_nextToken_8 : cX2_nextToken.data.toList.drop 185 = dktX2_nextToken_8 := dk_seg dksX2_nextToken_7 23 rfl rfl
theorem dX2_nextToken_0 : decode cX2_nextToken 0 = .ok (.aload_n 0, 1) := dk_42 (dk_at dksX2_nextToken_0 0 rfl rfl)
theorem dX2_nextToken_1 : decode cX2_nextToken 1 = .ok (.aload_n 0, 1) := dk_42 (dk_at dksX2_nextToken_0 1 rfl rfl)
theorem dX2_nextToken_2 : decode cX2_nextToken 2 = .ok (.getfield 125, 3) := dk_180 0 125 (dk_at dksX2_nextToken_0 2 rfl rfl)
theorem dX2_nextToken_5 : decode cX2_nextToken 5 = .ok (.putfield 128, 3) := dk_181 0 128 (dk_at dksX2_nextToken_0 5 rfl rfl)
theorem dX2_nextToken_8 : decode cX2_nextToken 8 = .ok (.aload_n 0, 1) := dk_42 (dk_at dksX2_nextToken_0 8 rfl rfl)
theorem dX2_nextToken_9 : decode cX2_nextToken 9 = .ok (.getfield 128, 3) := dk_180 0 128 (dk_at dksX2_nextToken_0 9 rfl rfl)
theorem dX2_nextToken_12 : decode cX2_nextToken 12 = .ok (.aload_n 0, 1) := dk_42 (dk_at dksX2_nextToken_0 12 rfl rfl)
theorem dX2_nextToken_13 : decode cX2_nextToken 13 = .ok (.getfield 113, 3) := dk_180 0 113 (dk_at dksX2_nextToken_0 13 rfl rfl)
theorem dX2_nextToken_16 : decode cX2_nextToken 16 = .ok (.if_icmp .ge 30, 3) := dk_162 0 30 (dk_at dksX2_nextToken_0 16 rfl rfl)
theorem dX2_nextToken_19 : decode cX2_nextToken 19 = .ok (.aload_n 0, 1) := dk_42 (dk_at dksX2_nextToken_0 19 rfl rfl)
theorem dX2_nextToken_20 : decode cX2_nextToken 20 = .ok (.getfield 17, 3) := dk_180 0 17 (dk_at dksX2_nextToken_0 20 rfl rfl)
theorem dX2_nextToken_23 : decode cX2_nextToken 23 = .ok (.aload_n 0, 1) := dk_42 (dk_at dksX2_nextToken_0 23 rfl rfl)
theorem dX2_nextToken_24 : decode cX2_nextToken 24 = .ok (.getfield 128, 3) := dk_180 0 128 (dk_at dksX2_nextToken_1 0 rfl rfl)
theorem dX2_nextToken_27 : decode cX2_nextToken 27 = .ok (.iaload, 1) := dk_46 (dk_at dksX2_nextToken_1 3 rfl rfl)
theorem dX2_nextToken_28 : decode cX2_nextToken 28 = .ok (.bipush 32, 2) := dk_16 32 (dk_at dksX2_nextToken_1 4 rfl rfl)
theorem dX2_nextToken_30 : decode cX2_nextToken 30 = .ok (.if_icmp .ne 16, 3) := dk_160 0 16 (dk_at dksX2_nextToken_1 6 rfl rfl)
theorem dX2_nextToken_33 : decode cX2_nextToken 33 = .ok (.aload_n 0, 1) := dk_42 (dk_at dksX2_nextToken_1 9 rfl rfl)
theorem dX2_nextToken_34 : decode cX2_nextToken 34 = .ok (.dup, 1) := dk_89 (dk_at dksX2_nextToken_1 10 rfl rfl)
theorem dX2_nextToken_35 : decode cX2_nextToken 35 = .ok (.getfield 128, 3) := dk_180 0 128 (dk_at dksX2_nextToken_1 11 rfl rfl)
theorem dX2_nextToken_38 : decode cX2_nextToken 38 = .ok (.iconst 1, 1) := dk_4 (dk_at dksX2_nextToken_1 14 rfl rfl)
theorem dX2_nextToken_39 : decode cX2_nextToken 39 = .ok (.iadd, 1) := dk_96 (dk_at dksX2_nextToken_1 15 rfl rfl)
theorem dX2_nextToken_40 : decode cX2_nextToken 40 = .ok (.putfield 128, 3) := dk_181 0 128 (dk_at dksX2_nextToken_1 16 rfl rfl)
theorem dX2_nextToken_43 : decode cX2_nextToken 43 = .ok (.goto (-35), 3) := dk_167 255 221 (dk_at dksX2_nextToken_1 19 rfl rfl)
theorem dX2_nextToken_46 : decode cX2_nextToken 46 = .ok (.aload_n 0, 1) := dk_42 (dk_at dksX2_nextToken_1 22 rfl rfl)
theorem dX2_nextToken_47 : decode cX2_nextToken 47 = .ok (.aload_n 0, 1) := dk_42 (dk_at dksX2_nextToken_1 23 rfl rfl)
theorem dX2_nextToken_48 : decode cX2_nextToken 48 = .ok (.getfield 128, 3) := dk_180 0 128 (dk_at dksX2_nextToken_2 0 rfl rfl)
theorem dX2_nextToken_51 : decode cX2_nextToken 51 = .ok (.aload_n 0, 1) := dk_42 (dk_at dksX2_nextToken_2 3 rfl rfl)
theorem dX2_nextToken_52 : decode cX2_nextToken 52 = .ok (.getfield 113, 3) := dk_180 0 113 (dk_at dksX2_nextToken_2 4 rfl rfl)
theorem dX2_nextToken_55 : decode cX2_nextToken 55 = .ok (.if_icmp .ge 12, 3) := dk_162 0 12 (dk_at dksX2_nextToken_2 7 rfl rfl)
theorem dX2_nextToken_58 : decode cX2_nextToken 58 = .ok (.aload_n 0, 1) := dk_42 (dk_at dksX2_nextToken_2 10 rfl rfl)
theorem dX2_nextToken_59 : decode cX2_nextToken 59 = .ok (.getfield 128, 3) := dk_180 0 128 (dk_at dksX2_nextToken_2 11 rfl rfl)
theorem dX2_nextToken_62 : decode cX2_nextToken 62 = .ok (.iconst 1, 1) := dk_4 (dk_at dksX2_nextToken_2 14 rfl rfl)
theorem dX2_nextToken_63 : decode cX2_nextToken 63 = .ok (.iadd, 1) := dk_96 (dk_at dksX2_nextToken_2 15 rfl rfl)
theorem dX2_nextToken_64 : decode cX2_nextToken 64 = .ok (.goto 7, 3) := dk_167 0 7 (dk_at dksX2_nextToken_2 16 rfl rfl)
theorem dX2_nextToken_67 : decode cX2_nextToken 67 = .ok (.aload_n 0, 1) := dk_42 (dk_at dksX2_nextToken_2 19 rfl rfl)
theorem dX2_nextToken_68 : decode cX2_nextToken 68 = .ok (.getfield 128, 3) := dk_180 0 128 (dk_at dksX2_nextToken_2 20 rfl rfl)
theorem dX2_nextToken_71 : decode cX2_nextToken 71 = .ok (.putfield 125, 3) := dk_181 0 125 (dk_at dksX2_nextToken_3 0 rfl rfl)
theorem dX2_nextToken_74 : decode cX2_nextToken 74 = .ok (.aload_n 0, 1) := dk_42 (dk_at dksX2_nextToken_3 3 rfl rfl)
theorem dX2_nextToken_75 : decode cX2_nextToken 75 = .ok (.getfield 128, 3) := dk_180 0 128 (dk_at dksX2_nextToken_3 4 rfl rfl)
theorem dX2_nextToken_78 : decode cX2_nextToken 78 = .ok (.aload_n 0, 1) := dk_42 (dk_at dksX2_nextToken_3 7 rfl rfl)
theorem dX2_nextToken_79 : decode cX2_nextToken 79 = .ok (.getfield 113, 3) := dk_180 0 113 (dk_at dksX2_nextToken_3 8 rfl rfl)
theorem dX2_nextToken_82 : decode cX2_nextToken 82 = .ok (.if_icmp .ge 57, 3) := dk_162 0 57 (dk_at dksX2_nextToken_3 11 rfl rfl)
theorem dX2_nextToken_85 : decode cX2_nextToken 85 = .ok (.aload_n 0, 1) := dk_42 (dk_at dksX2_nextToken_3 14 rfl rfl)
theorem dX2_nextToken_86 : decode cX2_nextToken 86 = .ok (.getfield 17, 3) := dk_180 0 17 (dk_at dksX2_nextToken_3 15 rfl rfl)
theorem dX2_nextToken_89 : decode cX2_nextToken 89 = .ok (.aload_n 0, 1) := dk_42 (dk_at dksX2_nextToken_3 18 rfl rfl)
theorem dX2_nextToken_90 : decode cX2_nextToken 90 = .ok (.getfield 128, 3) := dk_180 0 128 (dk_at dksX2_nextToken_3 19 rfl rfl)
theorem dX2_nextToken_93 : decode cX2_nextToken 93 = .ok (.iaload, 1) := dk_46 (dk_at dksX2_nextToken_3 22 rfl rfl)
theorem dX2_nextToken_94 : decode cX2_nextToken 94 = .ok (.invokestatic 131, 3) := dk_184 0 131 (dk_at dksX2_nextToken_4 0 rfl rfl)
theorem dX2_nextToken_97 : decode cX2_nextToken 97 = .ok (.ifCond .eq 42, 3) := dk_153 0 42 (dk_at dksX2_nextToken_4 3 rfl rfl)
theorem dX2_nextToken_100 : decode cX2_nextToken 100 = .ok (.aload_n 0, 1) := dk_42 (dk_at dksX2_nextToken_4 6 rfl rfl)
theorem dX2_nextToken_101 : decode cX2_nextToken 101 = .ok (.getfield 125, 3) := dk_180 0 125 (dk_at dksX2_nextToken_4 7 rfl rfl)
theorem dX2_nextToken_104 : decode cX2_nextToken 104 = .ok (.aload_n 0, 1) := dk_42 (dk_at dksX2_nextToken_4 10 rfl rfl)
theorem dX2_nextToken_105 : decode cX2_nextToken 105 = .ok (.getfield 113, 3) := dk_180 0 113 (dk_at dksX2_nextToken_4 11 rfl rfl)
theorem dX2_nextToken_108 : decode cX2_nextToken 108 = .ok (.if_icmp .ge 96, 3) := dk_162 0 96 (dk_at dksX2_nextToken_4 14 rfl rfl)
theorem dX2_nextToken_111 : decode cX2_nextToken 111 = .ok (.aload_n 0, 1) := dk_42 (dk_at dksX2_nextToken_4 17 rfl rfl)
theorem dX2_nextToken_112 : decode cX2_nextToken 112 = .ok (.getfield 17, 3) := dk_180 0 17 (dk_at dksX2_nextToken_4 18 rfl rfl)
theorem dX2_nextToken_115 : decode cX2_nextToken 115 = .ok (.aload_n 0, 1) := dk_42 (dk_at dksX2_nextToken_4 21 rfl rfl)
theorem dX2_nextToken_116 : decode cX2_nextToken 116 = .ok (.getfield 125, 3) := dk_180 0 125 (dk_at dksX2_nextToken_5 0 rfl rfl)
theorem dX2_nextToken_119 : decode cX2_nextToken 119 = .ok (.iaload, 1) := dk_46 (dk_at dksX2_nextToken_5 3 rfl rfl)
theorem dX2_nextToken_120 : decode cX2_nextToken 120 = .ok (.invokestatic 131, 3) := dk_184 0 131 (dk_at dksX2_nextToken_5 4 rfl rfl)
theorem dX2_nextToken_123 : decode cX2_nextToken 123 = .ok (.ifCond .eq 81, 3) := dk_153 0 81 (dk_at dksX2_nextToken_5 7 rfl rfl)
theorem dX2_nextToken_126 : decode cX2_nextToken 126 = .ok (.aload_n 0, 1) := dk_42 (dk_at dksX2_nextToken_5 10 rfl rfl)
theorem dX2_nextToken_127 : decode cX2_nextToken 127 = .ok (.dup, 1) := dk_89 (dk_at dksX2_nextToken_5 11 rfl rfl)
theorem dX2_nextToken_128 : decode cX2_nextToken 128 = .ok (.getfield 125, 3) := dk_180 0 125 (dk_at dksX2_nextToken_5 12 rfl rfl)
theorem dX2_nextToken_131 : decode cX2_nextToken 131 = .ok (.iconst 1, 1) := dk_4 (dk_at dksX2_nextToken_5 15 rfl rfl)
theorem dX2_nextToken_132 : decode cX2_nextToken 132 = .ok (.iadd, 1) := dk_96 (dk_at dksX2_nextToken_5 16 rfl rfl)
theorem dX2_nextToken_133 : decode cX2_nextToken 133 = .ok (.putfield 125, 3) := dk_181 0 125 (dk_at dksX2_nextToken_5 17 rfl rfl)
theorem dX2_nextToken_136 : decode cX2_nextToken 136 = .ok (.goto (-36), 3) := dk_167 255 220 (dk_at dksX2_nextToken_5 20 rfl rfl)
theorem dX2_nextToken_139 : decode cX2_nextToken 139 = .ok (.aload_n 0, 1) := dk_42 (dk_at dksX2_nextToken_5 23 rfl rfl)
theorem dX2_nextToken_140 : decode cX2_nextToken 140 = .ok (.getfield 128, 3) := dk_180 0 128 (dk_at dksX2_nextToken_6 0 rfl rfl)
theorem dX2_nextToken_143 : decode cX2_nextToken 143 = .ok (.aload_n 0, 1) := dk_42 (dk_at dksX2_nextToken_6 3 rfl rfl)
theorem dX2_nextToken_144 : decode cX2_nextToken 144 = .ok (.getfield 113, 3) := dk_180 0 113 (dk_at dksX2_nextToken_6 4 rfl rfl)
theorem dX2_nextToken_147 : decode cX2_nextToken 147 = .ok (.if_icmp .ge 57, 3) := dk_162 0 57 (dk_at dksX2_nextToken_6 7 rfl rfl)
theorem dX2_nextToken_150 : decode cX2_nextToken 150 = .ok (.aload_n 0, 1) := dk_42 (dk_at dksX2_nextToken_6 10 rfl rfl)
theorem dX2_nextToken_151 : decode cX2_nextToken 151 = .ok (.getfield 17, 3) := dk_180 0 17 (dk_at dksX2_nextToken_6 11 rfl rfl)
theorem dX2_nextToken_154 : decode cX2_nextToken 154 = .ok (.aload_n 0, 1) := dk_42 (dk_at dksX2_nextToken_6 14 rfl rfl)
theorem dX2_nextToken_155 : decode cX2_nextToken 155 = .ok (.getfield 128, 3) := dk_180 0 128 (dk_at dksX2_nextToken_6 15 rfl rfl)
theorem dX2_nextToken_158 : decode cX2_nextToken 158 = .ok (.iaload, 1) := dk_46 (dk_at dksX2_nextToken_6 18 rfl rfl)
theorem dX2_nextToken_159 : decode cX2_nextToken 159 = .ok (.invokestatic 135, 3) := dk_184 0 135 (dk_at dksX2_nextToken_6 19 rfl rfl)
theorem dX2_nextToken_162 : decode cX2_nextToken 162 = .ok (.ifCond .eq 42, 3) := dk_153 0 42 (dk_at dksX2_nextToken_7 0 rfl rfl)
theorem dX2_nextToken_165 : decode cX2_nextToken 165 = .ok (.aload_n 0, 1) := dk_42 (dk_at dksX2_nextToken_7 3 rfl rfl)
theorem dX2_nextToken_166 : decode cX2_nextToken 166 = .ok (.getfield 125, 3) := dk_180 0 125 (dk_at dksX2_nextToken_7 4 rfl rfl)
theorem dX2_nextToken_169 : decode cX2_nextToken 169 = .ok (.aload_n 0, 1) := dk_42 (dk_at dksX2_nextToken_7 7 rfl rfl)
theorem dX2_nextToken_170 : decode cX2_nextToken 170 = .ok (.getfield 113, 3) := dk_180 0 113 (dk_at dksX2_nextToken_7 8 rfl rfl)
theorem dX2_nextToken_173 : decode cX2_nextToken 173 = .ok (.if_icmp .ge 31, 3) := dk_162 0 31 (dk_at dksX2_nextToken_7 11 rfl rfl)
theorem dX2_nextToken_176 : decode cX2_nextToken 176 = .ok (.aload_n 0, 1) := dk_42 (dk_at dksX2_nextToken_7 14 rfl rfl)
theorem dX2_nextToken_177 : decode cX2_nextToken 177 = .ok (.getfield 17, 3) := dk_180 0 17 (dk_at dksX2_nextToken_7 15 rfl rfl)
theorem dX2_nextToken_180 : decode cX2_nextToken 180 = .ok (.aload_n 0, 1) := dk_42 (dk_at dksX2_nextToken_7 18 rfl rfl)
theorem dX2_nextToken_181 : decode cX2_nextToken 181 = .ok (.getfield 125, 3) := dk_180 0 125 (dk_at dksX2_nextToken_7 19 rfl rfl)
theorem dX2_nextToken_184 : decode cX2_nextToken 184 = .ok (.iaload, 1) := dk_46 (dk_at dksX2_nextToken_7 22 rfl rfl)
theorem dX2_nextToken_185 : decode cX2_nextToken 185 = .ok (.invokestatic 135, 3) := dk_184 0 135 (dk_at dksX2_nextToken_8 0 rfl rfl)
theorem dX2_nextToken_188 : decode cX2_nextToken 188 = .ok (.ifCond .eq 16, 3) := dk_153 0 16 (dk_at dksX2_nextToken_8 3 rfl rfl)
theorem dX2_nextToken_191 : decode cX2_nextToken 191 = .ok (.aload_n 0, 1) := dk_42 (dk_at dksX2_nextToken_8 6 rfl rfl)
theorem dX2_nextToken_192 : decode cX2_nextToken 192 = .ok (.dup, 1) := dk_89 (dk_at dksX2_nextToken_8 7 rfl rfl)
theorem dX2_nextToken_193 : decode cX2_nextToken 193 = .ok (.getfield 125, 3) := dk_180 0 125 (dk_at dksX2_nextToken_8 8 rfl rfl)
theorem dX2_nextToken_196 : decode cX2_nextToken 196 = .ok (.iconst 1, 1) := dk_4 (dk_at dksX2_nextToken_8 11 rfl rfl)
theorem dX2_nextToken_197 : decode cX2_nextToken 197 = .ok (.iadd, 1) := dk_96 (dk_at dksX2_nextToken_8 12 rfl rfl)
theorem dX2_nextToken_198 : decode cX2_nextToken 198 = .ok (.putfield 125, 3) := dk_181 0 125 (dk_at dksX2_nextToken_8 13 rfl rfl)
theorem dX2_nextToken_201 : decode cX2_nextToken 201 = .ok (.goto (-36), 3) := dk_167 255 220 (dk_at dksX2_nextToken_8 16 rfl rfl)
theorem dX2_nextToken_204 : decode cX2_nextToken 204 = .ok (.return_, 1) := dk_177 (dk_at dksX2_nextToken_8 19 rfl rfl)
abbrev cX2_isLetter : ByteArray := prog_18_method_7_code
def yX2_isLetter : MethodName := ⟨RX2, "isLetter", "(I)Z"⟩
def dkwX2_isLetter_0 : List UInt8 := [26, 133, 20, 0, 117, 20, 0, 119, 184, 0, 109, 172]
abbrev dktX2_isLetter_0 : List UInt8 := dkwX2_isLetter_0 ++ []
theorem dksX2_isLetter_0 : cX2_isLetter.data.toList.drop 0 = dktX2_isLetter_0 := by decide +kernel
theorem dX2_isLetter_0 : decode cX2_isLetter 0 = .ok (.iload_n 0, 1) := dk_26 (dk_at dksX2_isLetter_0 0 rfl rfl)
theorem dX2_isLetter_1 : decode cX2_isLetter 1 = .ok (.i2l, 1) := dk_133 (dk_at dksX2_isLetter_0 1 rfl rfl)
theorem dX2_isLetter_2 : decode cX2_isLetter 2 = .ok (.ldc2_w 117, 3) := dk_20 0 117 (dk_at dksX2_isLetter_0 2 rfl rfl)
theorem dX2_isLetter_5 : decode cX2_isLetter 5 = .ok (.ldc2_w 119, 3) := dk_20 0 119 (dk_at dksX2_isLetter_0 5 rfl rfl)
theorem dX2_isLetter_8 : decode cX2_isLetter 8 = .ok (.invokestatic 109, 3) := dk_184 0 109 (dk_at dksX2_isLetter_0 8 rfl rfl)
theorem dX2_isLetter_11 : decode cX2_isLetter 11 = .ok (.ireturn, 1) := dk_172 (dk_at dksX2_isLetter_0 11 rfl rfl)
abbrev cX2_isDigit : ByteArray := prog_18_method_8_code
def yX2_isDigit : MethodName := ⟨RX2, "isDigit", "(I)Z"⟩
def dkwX2_isDigit_0 : List UInt8 := [26, 133, 20, 0, 121, 20, 0, 123, 184, 0, 109, 172]
abbrev dktX2_isDigit_0 : List UInt8 := dkwX2_isDigit_0 ++ []
theorem dksX2_isDigit_0 : cX2_isDigit.data.toList.drop 0 = dktX2_isDigit_0 := by decide +kernel
theorem dX2_isDigit_0 : decode cX2_isDigit 0 = .ok (.iload_n 0, 1) := dk_26 (dk_at dksX2_isDigit_0 0 rfl rfl)
theorem dX2_isDigit_1 : decode cX2_isDigit 1 = .ok (.i2l, 1) := dk_133 (dk_at dksX2_isDigit_0 1 rfl rfl)
theorem dX2_isDigit_2 : decode cX2_isDigit 2 = .ok (.ldc2_w 121, 3) := dk_20 0 121 (dk_at dksX2_isDigit_0 2 rfl rfl)
theorem dX2_isDigit_5 : decode cX2_isDigit 5 = .ok (.ldc2_w 123, 3) := dk_20 0 123 (dk_at dksX2_isDigit_0 5 rfl rfl)
theorem dX2_isDigit_8 : decode cX2_isDigit 8 = .ok (.invokestatic 109, 3) := dk_184 0 109 (dk_at dksX2_isDigit_0 8 rfl rfl)
theorem dX2_isDigit_11 : decode cX2_isDigit 11 = .ok (.ireturn, 1) := dk_172 (dk_at dksX2_isDigit_0 11 rfl rfl)
abbrev cX2_readsClause : ByteArray := prog_18_method_21_code
def yX2_readsClause : MethodName := ⟨RX2, "readsClause", "()Z"⟩
def dkwX2_readsClause_4 : List UInt8 := [182, 0, 145, 153, 0, 14, 42, 182, 0, 189, 153, 0, 7, 4, 167, 0, 4, 3, 172]
abbrev dktX2_readsClause_4 : List UInt8 := dkwX2_readsClause_4 ++ []
def dkwX2_readsClause_3 : List UInt8 := [42, 42, 180, 0, 74, 182, 0, 145, 153, 0, 10, 42, 182, 0, 186, 167, 0, 26, 42, 42, 180, 0, 77]
abbrev dktX2_readsClause_3 : List UInt8 := dkwX2_readsClause_3 ++ dktX2_readsClause_4
def dkwX2_readsClause_2 : List UInt8 := [182, 0, 180, 167, 0, 62, 42, 42, 180, 0, 71, 182, 0, 145, 153, 0, 10, 42, 182, 0, 183, 167, 0, 44]
abbrev dktX2_readsClause_2 : List UInt8 := dkwX2_readsClause_2 ++ dktX2_readsClause_3
def dkwX2_readsClause_1 : List UInt8 := [182, 0, 145, 153, 0, 8, 42, 182, 0, 176, 172, 42, 42, 180, 0, 50, 182, 0, 145, 153, 0, 10, 42]
abbrev dktX2_readsClause_1 : List UInt8 := dkwX2_readsClause_1 ++ dktX2_readsClause_2
def dkwX2_readsClause_0 : List UInt8 := [42, 182, 0, 169, 2, 159, 0, 12, 42, 42, 182, 0, 169, 182, 0, 173, 172, 42, 42, 180, 0, 68]
abbrev dktX2_readsClause_0 : List UInt8 := dkwX2_readsClause_0 ++ dktX2_readsClause_1
theorem dksX2_readsClause_0 : cX2_readsClause.data.toList.drop 0 = dktX2_readsClause_0 := by decide +kernel
theorem dksX2_readsClause_1 : cX2_readsClause.data.toList.drop 22 = dktX2_readsClause_1 := dk_seg dksX2_readsClause_0 22 rfl rfl
theorem dksX2_readsClause_2 : cX2_readsClause.data.toList.drop 45 = dktX2_readsClause_2 := dk_seg dksX2_readsClause_1 23 rfl rfl
theorem dksX2_readsClause_3 : cX2_readsClause.data.toList.drop 69 = dktX2_readsClause_3 := dk_seg dksX2_readsClause_2 24 rfl rfl
theorem dksX2_readsClause_4 : cX2_readsClause.data.toList.drop 92 = dktX2_readsClause_4 := dk_seg dksX2_readsClause_3 23 rfl rfl
theorem dX2_readsClause_0 : decode cX2_readsClause 0 = .ok (.aload_n 0, 1) := dk_42 (dk_at dksX2_readsClause_0 0 rfl rfl)
theorem dX2_readsClause_1 : decode cX2_readsClause 1 = .ok (.invokevirtual 169, 3) := dk_182 0 169 (dk_at dksX2_readsClause_0 1 rfl rfl)
theorem dX2_readsClause_4 : decode cX2_readsClause 4 = .ok (.iconst (-1), 1) := dk_2 (dk_at dksX2_readsClause_0 4 rfl rfl)
theorem dX2_readsClause_5 : decode cX2_readsClause 5 = .ok (.if_icmp .eq 12, 3) := dk_159 0 12 (dk_at dksX2_readsClause_0 5 rfl rfl)
theorem dX2_readsClause_8 : decode cX2_readsClause 8 = .ok (.aload_n 0, 1) := dk_42 (dk_at dksX2_readsClause_0 8 rfl rfl)
theorem dX2_readsClause_9 : decode cX2_readsClause 9 = .ok (.aload_n 0, 1) := dk_42 (dk_at dksX2_readsClause_0 9 rfl rfl)
theorem dX2_readsClause_10 : decode cX2_readsClause 10 = .ok (.invokevirtual 169, 3) := dk_182 0 169 (dk_at dksX2_readsClause_0 10 rfl rfl)
theorem dX2_readsClause_13 : decode cX2_readsClause 13 = .ok (.invokevirtual 173, 3) := dk_182 0 173 (dk_at dksX2_readsClause_0 13 rfl rfl)
theorem dX2_readsClause_16 : decode cX2_readsClause 16 = .ok (.ireturn, 1) := dk_172 (dk_at dksX2_readsClause_0 16 rfl rfl)
theorem dX2_readsClause_17 : decode cX2_readsClause 17 = .ok (.aload_n 0, 1) := dk_42 (dk_at dksX2_readsClause_0 17 rfl rfl)
theorem dX2_readsClause_18 : decode cX2_readsClause 18 = .ok (.aload_n 0, 1) := dk_42 (dk_at dksX2_readsClause_0 18 rfl rfl)
theorem dX2_readsClause_19 : decode cX2_readsClause 19 = .ok (.getfield 68, 3) := dk_180 0 68 (dk_at dksX2_readsClause_0 19 rfl rfl)
theorem dX2_readsClause_22 : decode cX2_readsClause 22 = .ok (.invokevirtual 145, 3) := dk_182 0 145 (dk_at dksX2_readsClause_1 0 rfl rfl)
theorem dX2_readsClause_25 : decode cX2_readsClause 25 = .ok (.ifCond .eq 8, 3) := dk_153 0 8 (dk_at dksX2_readsClause_1 3 rfl rfl)
theorem dX2_readsClause_28 : decode cX2_readsClause 28 = .ok (.aload_n 0, 1) := dk_42 (dk_at dksX2_readsClause_1 6 rfl rfl)
theorem dX2_readsClause_29 : decode cX2_readsClause 29 = .ok (.invokevirtual 176, 3) := dk_182 0 176 (dk_at dksX2_readsClause_1 7 rfl rfl)
theorem dX2_readsClause_32 : decode cX2_readsClause 32 = .ok (.ireturn, 1) := dk_172 (dk_at dksX2_readsClause_1 10 rfl rfl)
theorem dX2_readsClause_33 : decode cX2_readsClause 33 = .ok (.aload_n 0, 1) := dk_42 (dk_at dksX2_readsClause_1 11 rfl rfl)
theorem dX2_readsClause_34 : decode cX2_readsClause 34 = .ok (.aload_n 0, 1) := dk_42 (dk_at dksX2_readsClause_1 12 rfl rfl)
theorem dX2_readsClause_35 : decode cX2_readsClause 35 = .ok (.getfield 50, 3) := dk_180 0 50 (dk_at dksX2_readsClause_1 13 rfl rfl)
theorem dX2_readsClause_38 : decode cX2_readsClause 38 = .ok (.invokevirtual 145, 3) := dk_182 0 145 (dk_at dksX2_readsClause_1 16 rfl rfl)
theorem dX2_readsClause_41 : decode cX2_readsClause 41 = .ok (.ifCond .eq 10, 3) := dk_153 0 10 (dk_at dksX2_readsClause_1 19 rfl rfl)
theorem dX2_readsClause_44 : decode cX2_readsClause 44 = .ok (.aload_n 0, 1) := dk_42 (dk_at dksX2_readsClause_1 22 rfl rfl)
theorem dX2_readsClause_45 : decode cX2_readsClause 45 = .ok (.invokevirtual 180, 3) := dk_182 0 180 (dk_at dksX2_readsClause_2 0 rfl rfl)
theorem dX2_readsClause_48 : decode cX2_readsClause 48 = .ok (.goto 62, 3) := dk_167 0 62 (dk_at dksX2_readsClause_2 3 rfl rfl)
theorem dX2_readsClause_51 : decode cX2_readsClause 51 = .ok (.aload_n 0, 1) := dk_42 (dk_at dksX2_readsClause_2 6 rfl rfl)
theorem dX2_readsClause_52 : decode cX2_readsClause 52 = .ok (.aload_n 0, 1) := dk_42 (dk_at dksX2_readsClause_2 7 rfl rfl)
theorem dX2_readsClause_53 : decode cX2_readsClause 53 = .ok (.getfield 71, 3) := dk_180 0 71 (dk_at dksX2_readsClause_2 8 rfl rfl)
theorem dX2_readsClause_56 : decode cX2_readsClause 56 = .ok (.invokevirtual 145, 3) := dk_182 0 145 (dk_at dksX2_readsClause_2 11 rfl rfl)
theorem dX2_readsClause_59 : decode cX2_readsClause 59 = .ok (.ifCond .eq 10, 3) := dk_153 0 10 (dk_at dksX2_readsClause_2 14 rfl rfl)
theorem dX2_readsClause_62 : decode cX2_readsClause 62 = .ok (.aload_n 0, 1) := dk_42 (dk_at dksX2_readsClause_2 17 rfl rfl)
theorem dX2_readsClause_63 : decode cX2_readsClause 63 = .ok (.invokevirtual 183, 3) := dk_182 0 183 (dk_at dksX2_readsClause_2 18 rfl rfl)
theorem dX2_readsClause_66 : decode cX2_readsClause 66 = .ok (.goto 44, 3) := dk_167 0 44 (dk_at dksX2_readsClause_2 21 rfl rfl)
theorem dX2_readsClause_69 : decode cX2_readsClause 69 = .ok (.aload_n 0, 1) := dk_42 (dk_at dksX2_readsClause_3 0 rfl rfl)
theorem dX2_readsClause_70 : decode cX2_readsClause 70 = .ok (.aload_n 0, 1) := dk_42 (dk_at dksX2_readsClause_3 1 rfl rfl)
theorem dX2_readsClause_71 : decode cX2_readsClause 71 = .ok (.getfield 74, 3) := dk_180 0 74 (dk_at dksX2_readsClause_3 2 rfl rfl)
theorem dX2_readsClause_74 : decode cX2_readsClause 74 = .ok (.invokevirtual 145, 3) := dk_182 0 145 (dk_at dksX2_readsClause_3 5 rfl rfl)
theorem dX2_readsClause_77 : decode cX2_readsClause 77 = .ok (.ifCond .eq 10, 3) := dk_153 0 10 (dk_at dksX2_readsClause_3 8 rfl rfl)
theorem dX2_readsClause_80 : decode cX2_readsClause 80 = .ok (.aload_n 0, 1) := dk_42 (dk_at dksX2_readsClause_3 11 rfl rfl)
theorem dX2_readsClause_81 : decode cX2_readsClause 81 = .ok (.invokevirtual 186, 3) := dk_182 0 186 (dk_at dksX2_readsClause_3 12 rfl rfl)
theorem dX2_readsClause_84 : decode cX2_readsClause 84 = .ok (.goto 26, 3) := dk_167 0 26 (dk_at dksX2_readsClause_3 15 rfl rfl)
theorem dX2_readsClause_87 : decode cX2_readsClause 87 = .ok (.aload_n 0, 1) := dk_42 (dk_at dksX2_readsClause_3 18 rfl rfl)
theorem dX2_readsClause_88 : decode cX2_readsClause 88 = .ok (.aload_n 0, 1) := dk_42 (dk_at dksX2_readsClause_3 19 rfl rfl)
theorem dX2_readsClause_89 : decode cX2_readsClause 89 = .ok (.getfield 77, 3) := dk_180 0 77 (dk_at dksX2_readsClause_3 20 rfl rfl)
theorem dX2_readsClause_92 : decode cX2_readsClause 92 = .ok (.invokevirtual 145, 3) := dk_182 0 145 (dk_at dksX2_readsClause_4 0 rfl rfl)
theorem dX2_readsClause_95 : decode cX2_readsClause 95 = .ok (.ifCond .eq 14, 3) := dk_153 0 14 (dk_at dksX2_readsClause_4 3 rfl rfl)
theorem dX2_readsClause_98 : decode cX2_readsClause 98 = .ok (.aload_n 0, 1) := dk_42 (dk_at dksX2_readsClause_4 6 rfl rfl)
theorem dX2_readsClause_99 : decode cX2_readsClause 99 = .ok (.invokevirtual 189, 3) := dk_182 0 189 (dk_at dksX2_readsClause_4 7 rfl rfl)
theorem dX2_readsClause_102 : decode cX2_readsClause 102 = .ok (.ifCond .eq 7, 3) := dk_153 0 7 (dk_at dksX2_readsClause_4 10 rfl rfl)
theorem dX2_readsClause_105 : decode cX2_readsClause 105 = .ok (.iconst 1, 1) := dk_4 (dk_at dksX2_readsClause_4 13 rfl rfl)
theorem dX2_readsClause_106 : decode cX2_readsClause 106 = .ok (.goto 4, 3) := dk_167 0 4 (dk_at dksX2_readsClause_4 14 rfl rfl)
theorem dX2_readsClause_109 : decode cX2_readsClause 109 = .ok (.iconst 0, 1) := dk_3 (dk_at dksX2_readsClause_4 17 rfl rfl)
theorem dX2_readsClause_110 : decode cX2_readsClause 110 = .ok (.ireturn, 1) := dk_172 (dk_at dksX2_readsClause_4 18 rfl rfl)
abbrev cX2_kindHere : ByteArray := prog_18_method_14_code
def yX2_kindHere : MethodName := ⟨RX2, "kindHere", "()I"⟩
def dkwX2_kindHere_3 : List UInt8 := [7, 167, 0, 4, 2, 172]
abbrev dktX2_kindHere_3 : List UInt8 := dkwX2_kindHere_3 ++ []
def dkwX2_kindHere_2 : List UInt8 := [180, 0, 62, 182, 0, 145, 153, 0, 7, 6, 167, 0, 19, 42, 42, 180, 0, 65, 182, 0, 145, 153, 0, 7]
abbrev dktX2_kindHere_2 : List UInt8 := dkwX2_kindHere_2 ++ dktX2_kindHere_3
def dkwX2_kindHere_1 : List UInt8 := [153, 0, 7, 4, 167, 0, 49, 42, 42, 180, 0, 59, 182, 0, 145, 153, 0, 7, 5, 167, 0, 34, 42, 42]
abbrev dktX2_kindHere_1 : List UInt8 := dkwX2_kindHere_1 ++ dktX2_kindHere_2
def dkwX2_kindHere_0 : List UInt8 := [42, 42, 180, 0, 53, 182, 0, 145, 153, 0, 7, 3, 167, 0, 64, 42, 42, 180, 0, 56, 182, 0, 145]
abbrev dktX2_kindHere_0 : List UInt8 := dkwX2_kindHere_0 ++ dktX2_kindHere_1
theorem dksX2_kindHere_0 : cX2_kindHere.data.toList.drop 0 = dktX2_kindHere_0 := by decide +kernel
theorem dksX2_kindHere_1 : cX2_kindHere.data.toList.drop 23 = dktX2_kindHere_1 := dk_seg dksX2_kindHere_0 23 rfl rfl
theorem dksX2_kindHere_2 : cX2_kindHere.data.toList.drop 47 = dktX2_kindHere_2 := dk_seg dksX2_kindHere_1 24 rfl rfl
theorem dksX2_kindHere_3 : cX2_kindHere.data.toList.drop 71 = dktX2_kindHere_3 := dk_seg dksX2_kindHere_2 24 rfl rfl
theorem dX2_kindHere_0 : decode cX2_kindHere 0 = .ok (.aload_n 0, 1) := dk_42 (dk_at dksX2_kindHere_0 0 rfl rfl)
theorem dX2_kindHere_1 : decode cX2_kindHere 1 = .ok (.aload_n 0, 1) := dk_42 (dk_at dksX2_kindHere_0 1 rfl rfl)
theorem dX2_kindHere_2 : decode cX2_kindHere 2 = .ok (.getfield 53, 3) := dk_180 0 53 (dk_at dksX2_kindHere_0 2 rfl rfl)
theorem dX2_kindHere_5 : decode cX2_kindHere 5 = .ok (.invokevirtual 145, 3) := dk_182 0 145 (dk_at dksX2_kindHere_0 5 rfl rfl)
theorem dX2_kindHere_8 : decode cX2_kindHere 8 = .ok (.ifCond .eq 7, 3) := dk_153 0 7 (dk_at dksX2_kindHere_0 8 rfl rfl)
theorem dX2_kindHere_11 : decode cX2_kindHere 11 = .ok (.iconst 0, 1) := dk_3 (dk_at dksX2_kindHere_0 11 rfl rfl)
theorem dX2_kindHere_12 : decode cX2_kindHere 12 = .ok (.goto 64, 3) := dk_167 0 64 (dk_at dksX2_kindHere_0 12 rfl rfl)
theorem dX2_kindHere_15 : decode cX2_kindHere 15 = .ok (.aload_n 0, 1) := dk_42 (dk_at dksX2_kindHere_0 15 rfl rfl)
theorem dX2_kindHere_16 : decode cX2_kindHere 16 = .ok (.aload_n 0, 1) := dk_42 (dk_at dksX2_kindHere_0 16 rfl rfl)
theorem dX2_kindHere_17 : decode cX2_kindHere 17 = .ok (.getfield 56, 3) := dk_180 0 56 (dk_at dksX2_kindHere_0 17 rfl rfl)
theorem dX2_kindHere_20 : decode cX2_kindHere 20 = .ok (.invokevirtual 145, 3) := dk_182 0 145 (dk_at dksX2_kindHere_0 20 rfl rfl)
theorem dX2_kindHere_23 : decode cX2_kindHere 23 = .ok (.ifCond .eq 7, 3) := dk_153 0 7 (dk_at dksX2_kindHere_1 0 rfl rfl)
theorem dX2_kindHere_26 : decode cX2_kindHere 26 = .ok (.iconst 1, 1) := dk_4 (dk_at dksX2_kindHere_1 3 rfl rfl)
theorem dX2_kindHere_27 : decode cX2_kindHere 27 = .ok (.goto 49, 3) := dk_167 0 49 (dk_at dksX2_kindHere_1 4 rfl rfl)
theorem dX2_kindHere_30 : decode cX2_kindHere 30 = .ok (.aload_n 0, 1) := dk_42 (dk_at dksX2_kindHere_1 7 rfl rfl)
theorem dX2_kindHere_31 : decode cX2_kindHere 31 = .ok (.aload_n 0, 1) := dk_42 (dk_at dksX2_kindHere_1 8 rfl rfl)
theorem dX2_kindHere_32 : decode cX2_kindHere 32 = .ok (.getfield 59, 3) := dk_180 0 59 (dk_at dksX2_kindHere_1 9 rfl rfl)
theorem dX2_kindHere_35 : decode cX2_kindHere 35 = .ok (.invokevirtual 145, 3) := dk_182 0 145 (dk_at dksX2_kindHere_1 12 rfl rfl)
theorem dX2_kindHere_38 : decode cX2_kindHere 38 = .ok (.ifCond .eq 7, 3) := dk_153 0 7 (dk_at dksX2_kindHere_1 15 rfl rfl)
theorem dX2_kindHere_41 : decode cX2_kindHere 41 = .ok (.iconst 2, 1) := dk_5 (dk_at dksX2_kindHere_1 18 rfl rfl)
theorem dX2_kindHere_42 : decode cX2_kindHere 42 = .ok (.goto 34, 3) := dk_167 0 34 (dk_at dksX2_kindHere_1 19 rfl rfl)
theorem dX2_kindHere_45 : decode cX2_kindHere 45 = .ok (.aload_n 0, 1) := dk_42 (dk_at dksX2_kindHere_1 22 rfl rfl)
theorem dX2_kindHere_46 : decode cX2_kindHere 46 = .ok (.aload_n 0, 1) := dk_42 (dk_at dksX2_kindHere_1 23 rfl rfl)
theorem dX2_kindHere_47 : decode cX2_kindHere 47 = .ok (.getfield 62, 3) := dk_180 0 62 (dk_at dksX2_kindHere_2 0 rfl rfl)
theorem dX2_kindHere_50 : decode cX2_kindHere 50 = .ok (.invokevirtual 145, 3) := dk_182 0 145 (dk_at dksX2_kindHere_2 3 rfl rfl)
theorem dX2_kindHere_53 : decode cX2_kindHere 53 = .ok (.ifCond .eq 7, 3) := dk_153 0 7 (dk_at dksX2_kindHere_2 6 rfl rfl)
theorem dX2_kindHere_56 : decode cX2_kindHere 56 = .ok (.iconst 3, 1) := dk_6 (dk_at dksX2_kindHere_2 9 rfl rfl)
theorem dX2_kindHere_57 : decode cX2_kindHere 57 = .ok (.goto 19, 3) := dk_167 0 19 (dk_at dksX2_kindHere_2 10 rfl rfl)
theorem dX2_kindHere_60 : decode cX2_kindHere 60 = .ok (.aload_n 0, 1) := dk_42 (dk_at dksX2_kindHere_2 13 rfl rfl)
theorem dX2_kindHere_61 : decode cX2_kindHere 61 = .ok (.aload_n 0, 1) := dk_42 (dk_at dksX2_kindHere_2 14 rfl rfl)
theorem dX2_kindHere_62 : decode cX2_kindHere 62 = .ok (.getfield 65, 3) := dk_180 0 65 (dk_at dksX2_kindHere_2 15 rfl rfl)
theorem dX2_kindHere_65 : decode cX2_kindHere 65 = .ok (.invokevirtual 145, 3) := dk_182 0 145 (dk_at dksX2_kindHere_2 18 rfl rfl)
theorem dX2_kindHere_68 : decode cX2_kindHere 68 = .ok (.ifCond .eq 7, 3) := dk_153 0 7 (dk_at dksX2_kindHere_2 21 rfl rfl)
theorem dX2_kindHere_71 : decode cX2_kindHere 71 = .ok (.iconst 4, 1) := dk_7 (dk_at dksX2_kindHere_3 0 rfl rfl)
theorem dX2_kindHere_72 : decode cX2_kindHere 72 = .ok (.goto 4, 3) := dk_167 0 4 (dk_at dksX2_kindHere_3 1 rfl rfl)
theorem dX2_kindHere_75 : decode cX2_kindHere 75 = .ok (.iconst (-1), 1) := dk_2 (dk_at dksX2_kindHere_3 4 rfl rfl)
theorem dX2_kindHere_76 : decode cX2_kindHere 76 = .ok (.ireturn, 1) := dk_172 (dk_at dksX2_kindHere_3 5 rfl rfl)
abbrev cX2_isWord : ByteArray := prog_18_method_10_code
def yX2_isWord : MethodName := ⟨RX2, "isWord", "([I)Z"⟩
def dkwX2_isWord_2 : List UInt8 := [160, 0, 7, 4, 167, 0, 4, 3, 61, 132, 3, 1, 167, 255, 220, 28, 172]
abbrev dktX2_isWord_2 : List UInt8 := dkwX2_isWord_2 ++ []
def dkwX2_isWord_1 : List UInt8 := [190, 162, 0, 36, 28, 153, 0, 32, 42, 180, 0, 17, 42, 180, 0, 128, 29, 96, 46, 43, 29, 46]
abbrev dktX2_isWord_1 : List UInt8 := dkwX2_isWord_1 ++ dktX2_isWord_2
def dkwX2_isWord_0 : List UInt8 := [42, 180, 0, 125, 42, 180, 0, 128, 100, 43, 190, 160, 0, 7, 4, 167, 0, 4, 3, 61, 3, 62, 29, 43]
abbrev dktX2_isWord_0 : List UInt8 := dkwX2_isWord_0 ++ dktX2_isWord_1
theorem dksX2_isWord_0 : cX2_isWord.data.toList.drop 0 = dktX2_isWord_0 := by decide +kernel
theorem dksX2_isWord_1 : cX2_isWord.data.toList.drop 24 = dktX2_isWord_1 := dk_seg dksX2_isWord_0 24 rfl rfl
theorem dksX2_isWord_2 : cX2_isWord.data.toList.drop 46 = dktX2_isWord_2 := dk_seg dksX2_isWord_1 22 rfl rfl
theorem dX2_isWord_0 : decode cX2_isWord 0 = .ok (.aload_n 0, 1) := dk_42 (dk_at dksX2_isWord_0 0 rfl rfl)
theorem dX2_isWord_1 : decode cX2_isWord 1 = .ok (.getfield 125, 3) := dk_180 0 125 (dk_at dksX2_isWord_0 1 rfl rfl)
theorem dX2_isWord_4 : decode cX2_isWord 4 = .ok (.aload_n 0, 1) := dk_42 (dk_at dksX2_isWord_0 4 rfl rfl)
theorem dX2_isWord_5 : decode cX2_isWord 5 = .ok (.getfield 128, 3) := dk_180 0 128 (dk_at dksX2_isWord_0 5 rfl rfl)
theorem dX2_isWord_8 : decode cX2_isWord 8 = .ok (.isub, 1) := dk_100 (dk_at dksX2_isWord_0 8 rfl rfl)
theorem dX2_isWord_9 : decode cX2_isWord 9 = .ok (.aload_n 1, 1) := dk_43 (dk_at dksX2_isWord_0 9 rfl rfl)
theorem dX2_isWord_10 : decode cX2_isWord 10 = .ok (.arraylength, 1) := dk_190 (dk_at dksX2_isWord_0 10 rfl rfl)
theorem dX2_isWord_11 : decode cX2_isWord 11 = .ok (.if_icmp .ne 7, 3) := dk_160 0 7 (dk_at dksX2_isWord_0 11 rfl rfl)
theorem dX2_isWord_14 : decode cX2_isWord 14 = .ok (.iconst 1, 1) := dk_4 (dk_at dksX2_isWord_0 14 rfl rfl)
theorem dX2_isWord_15 : decode cX2_isWord 15 = .ok (.goto 4, 3) := dk_167 0 4 (dk_at dksX2_isWord_0 15 rfl rfl)
theorem dX2_isWord_18 : decode cX2_isWord 18 = .ok (.iconst 0, 1) := dk_3 (dk_at dksX2_isWord_0 18 rfl rfl)
theorem dX2_isWord_19 : decode cX2_isWord 19 = .ok (.istore_n 2, 1) := dk_61 (dk_at dksX2_isWord_0 19 rfl rfl)
theorem dX2_isWord_20 : decode cX2_isWord 20 = .ok (.iconst 0, 1) := dk_3 (dk_at dksX2_isWord_0 20 rfl rfl)
theorem dX2_isWord_21 : decode cX2_isWord 21 = .ok (.istore_n 3, 1) := dk_62 (dk_at dksX2_isWord_0 21 rfl rfl)
theorem dX2_isWord_22 : decode cX2_isWord 22 = .ok (.iload_n 3, 1) := dk_29 (dk_at dksX2_isWord_0 22 rfl rfl)
theorem dX2_isWord_23 : decode cX2_isWord 23 = .ok (.aload_n 1, 1) := dk_43 (dk_at dksX2_isWord_0 23 rfl rfl)
theorem dX2_isWord_24 : decode cX2_isWord 24 = .ok (.arraylength, 1) := dk_190 (dk_at dksX2_isWord_1 0 rfl rfl)
theorem dX2_isWord_25 : decode cX2_isWord 25 = .ok (.if_icmp .ge 36, 3) := dk_162 0 36 (dk_at dksX2_isWord_1 1 rfl rfl)
theorem dX2_isWord_28 : decode cX2_isWord 28 = .ok (.iload_n 2, 1) := dk_28 (dk_at dksX2_isWord_1 4 rfl rfl)
theorem dX2_isWord_29 : decode cX2_isWord 29 = .ok (.ifCond .eq 32, 3) := dk_153 0 32 (dk_at dksX2_isWord_1 5 rfl rfl)
theorem dX2_isWord_32 : decode cX2_isWord 32 = .ok (.aload_n 0, 1) := dk_42 (dk_at dksX2_isWord_1 8 rfl rfl)
theorem dX2_isWord_33 : decode cX2_isWord 33 = .ok (.getfield 17, 3) := dk_180 0 17 (dk_at dksX2_isWord_1 9 rfl rfl)
theorem dX2_isWord_36 : decode cX2_isWord 36 = .ok (.aload_n 0, 1) := dk_42 (dk_at dksX2_isWord_1 12 rfl rfl)
theorem dX2_isWord_37 : decode cX2_isWord 37 = .ok (.getfield 128, 3) := dk_180 0 128 (dk_at dksX2_isWord_1 13 rfl rfl)
theorem dX2_isWord_40 : decode cX2_isWord 40 = .ok (.iload_n 3, 1) := dk_29 (dk_at dksX2_isWord_1 16 rfl rfl)
theorem dX2_isWord_41 : decode cX2_isWord 41 = .ok (.iadd, 1) := dk_96 (dk_at dksX2_isWord_1 17 rfl rfl)
theorem dX2_isWord_42 : decode cX2_isWord 42 = .ok (.iaload, 1) := dk_46 (dk_at dksX2_isWord_1 18 rfl rfl)
theorem dX2_isWord_43 : decode cX2_isWord 43 = .ok (.aload_n 1, 1) := dk_43 (dk_at dksX2_isWord_1 19 rfl rfl)
theorem dX2_isWord_44 : decode cX2_isWord 44 = .ok (.iload_n 3, 1) := dk_29 (dk_at dksX2_isWord_1 20 rfl rfl)
theorem dX2_isWord_45 : decode cX2_isWord 45 = .ok (.iaload, 1) := dk_46 (dk_at dksX2_isWord_1 21 rfl rfl)
theorem dX2_isWord_46 : decode cX2_isWord 46 = .ok (.if_icmp .ne 7, 3) := dk_160 0 7 (dk_at dksX2_isWord_2 0 rfl rfl)
theorem dX2_isWord_49 : decode cX2_isWord 49 = .ok (.iconst 1, 1) := dk_4 (dk_at dksX2_isWord_2 3 rfl rfl)
theorem dX2_isWord_50 : decode cX2_isWord 50 = .ok (.goto 4, 3) := dk_167 0 4 (dk_at dksX2_isWord_2 4 rfl rfl)
theorem dX2_isWord_53 : decode cX2_isWord 53 = .ok (.iconst 0, 1) := dk_3 (dk_at dksX2_isWord_2 7 rfl rfl)
theorem dX2_isWord_54 : decode cX2_isWord 54 = .ok (.istore_n 2, 1) := dk_61 (dk_at dksX2_isWord_2 8 rfl rfl)
theorem dX2_isWord_55 : decode cX2_isWord 55 = .ok (.iinc 3 1, 3) := dk_132 3 1 (dk_at dksX2_isWord_2 9 rfl rfl)
theorem dX2_isWord_58 : decode cX2_isWord 58 = .ok (.goto (-36), 3) := dk_167 255 220 (dk_at dksX2_isWord_2 12 rfl rfl)
theorem dX2_isWord_61 : decode cX2_isWord 61 = .ok (.iload_n 2, 1) := dk_28 (dk_at dksX2_isWord_2 15 rfl rfl)
theorem dX2_isWord_62 : decode cX2_isWord 62 = .ok (.ireturn, 1) := dk_172 (dk_at dksX2_isWord_2 16 rfl rfl)
abbrev cX2_readsBird : ByteArray := prog_18_method_15_code
def yX2_readsBird : MethodName := ⟨RX2, "readsBird", "(I)Z"⟩
def dkwX2_readsBird_3 : List UInt8 := [79, 42, 89, 180, 0, 149, 4, 96, 181, 0, 149, 4, 172]
abbrev dktX2_readsBird_3 : List UInt8 := dkwX2_readsBird_3 ++ []
def dkwX2_readsBird_2 : List UInt8 := [79, 42, 180, 0, 7, 16, 120, 42, 180, 0, 149, 96, 28, 79, 42, 180, 0, 7, 16, 108, 92, 46, 4, 96]
abbrev dktX2_readsBird_2 : List UInt8 := dkwX2_readsBird_2 ++ dktX2_readsBird_3
def dkwX2_readsBird_1 : List UInt8 := [160, 0, 5, 3, 172, 42, 180, 0, 155, 153, 0, 40, 42, 180, 0, 7, 16, 112, 42, 180, 0, 149, 96, 27]
abbrev dktX2_readsBird_1 : List UInt8 := dkwX2_readsBird_1 ++ dktX2_readsBird_2
def dkwX2_readsBird_0 : List UInt8 := [42, 180, 0, 149, 16, 8, 160, 0, 5, 3, 172, 42, 182, 0, 142, 42, 7, 182, 0, 152, 61, 28, 2]
abbrev dktX2_readsBird_0 : List UInt8 := dkwX2_readsBird_0 ++ dktX2_readsBird_1
theorem dksX2_readsBird_0 : cX2_readsBird.data.toList.drop 0 = dktX2_readsBird_0 := by decide +kernel
theorem dksX2_readsBird_1 : cX2_readsBird.data.toList.drop 23 = dktX2_readsBird_1 := dk_seg dksX2_readsBird_0 23 rfl rfl
theorem dksX2_readsBird_2 : cX2_readsBird.data.toList.drop 47 = dktX2_readsBird_2 := dk_seg dksX2_readsBird_1 24 rfl rfl
theorem dksX2_readsBird_3 : cX2_readsBird.data.toList.drop 71 = dktX2_readsBird_3 := dk_seg dksX2_readsBird_2 24 rfl rfl
theorem dX2_readsBird_0 : decode cX2_readsBird 0 = .ok (.aload_n 0, 1) := dk_42 (dk_at dksX2_readsBird_0 0 rfl rfl)
theorem dX2_readsBird_1 : decode cX2_readsBird 1 = .ok (.getfield 149, 3) := dk_180 0 149 (dk_at dksX2_readsBird_0 1 rfl rfl)
theorem dX2_readsBird_4 : decode cX2_readsBird 4 = .ok (.bipush 8, 2) := dk_16 8 (dk_at dksX2_readsBird_0 4 rfl rfl)
theorem dX2_readsBird_6 : decode cX2_readsBird 6 = .ok (.if_icmp .ne 5, 3) := dk_160 0 5 (dk_at dksX2_readsBird_0 6 rfl rfl)
theorem dX2_readsBird_9 : decode cX2_readsBird 9 = .ok (.iconst 0, 1) := dk_3 (dk_at dksX2_readsBird_0 9 rfl rfl)
theorem dX2_readsBird_10 : decode cX2_readsBird 10 = .ok (.ireturn, 1) := dk_172 (dk_at dksX2_readsBird_0 10 rfl rfl)
theorem dX2_readsBird_11 : decode cX2_readsBird 11 = .ok (.aload_n 0, 1) := dk_42 (dk_at dksX2_readsBird_0 11 rfl rfl)
theorem dX2_readsBird_12 : decode cX2_readsBird 12 = .ok (.invokevirtual 142, 3) := dk_182 0 142 (dk_at dksX2_readsBird_0 12 rfl rfl)
theorem dX2_readsBird_15 : decode cX2_readsBird 15 = .ok (.aload_n 0, 1) := dk_42 (dk_at dksX2_readsBird_0 15 rfl rfl)
theorem dX2_readsBird_16 : decode cX2_readsBird 16 = .ok (.iconst 4, 1) := dk_7 (dk_at dksX2_readsBird_0 16 rfl rfl)
theorem dX2_readsBird_17 : decode cX2_readsBird 17 = .ok (.invokevirtual 152, 3) := dk_182 0 152 (dk_at dksX2_readsBird_0 17 rfl rfl)
theorem dX2_readsBird_20 : decode cX2_readsBird 20 = .ok (.istore_n 2, 1) := dk_61 (dk_at dksX2_readsBird_0 20 rfl rfl)
theorem dX2_readsBird_21 : decode cX2_readsBird 21 = .ok (.iload_n 2, 1) := dk_28 (dk_at dksX2_readsBird_0 21 rfl rfl)
theorem dX2_readsBird_22 : decode cX2_readsBird 22 = .ok (.iconst (-1), 1) := dk_2 (dk_at dksX2_readsBird_0 22 rfl rfl)
theorem dX2_readsBird_23 : decode cX2_readsBird 23 = .ok (.if_icmp .ne 5, 3) := dk_160 0 5 (dk_at dksX2_readsBird_1 0 rfl rfl)
theorem dX2_readsBird_26 : decode cX2_readsBird 26 = .ok (.iconst 0, 1) := dk_3 (dk_at dksX2_readsBird_1 3 rfl rfl)
theorem dX2_readsBird_27 : decode cX2_readsBird 27 = .ok (.ireturn, 1) := dk_172 (dk_at dksX2_readsBird_1 4 rfl rfl)
theorem dX2_readsBird_28 : decode cX2_readsBird 28 = .ok (.aload_n 0, 1) := dk_42 (dk_at dksX2_readsBird_1 5 rfl rfl)
theorem dX2_readsBird_29 : decode cX2_readsBird 29 = .ok (.getfield 155, 3) := dk_180 0 155 (dk_at dksX2_readsBird_1 6 rfl rfl)
theorem dX2_readsBird_32 : decode cX2_readsBird 32 = .ok (.ifCond .eq 40, 3) := dk_153 0 40 (dk_at dksX2_readsBird_1 9 rfl rfl)
theorem dX2_readsBird_35 : decode cX2_readsBird 35 = .ok (.aload_n 0, 1) := dk_42 (dk_at dksX2_readsBird_1 12 rfl rfl)
theorem dX2_readsBird_36 : decode cX2_readsBird 36 = .ok (.getfield 7, 3) := dk_180 0 7 (dk_at dksX2_readsBird_1 13 rfl rfl)
theorem dX2_readsBird_39 : decode cX2_readsBird 39 = .ok (.bipush 112, 2) := dk_16 112 (dk_at dksX2_readsBird_1 16 rfl rfl)
theorem dX2_readsBird_41 : decode cX2_readsBird 41 = .ok (.aload_n 0, 1) := dk_42 (dk_at dksX2_readsBird_1 18 rfl rfl)
theorem dX2_readsBird_42 : decode cX2_readsBird 42 = .ok (.getfield 149, 3) := dk_180 0 149 (dk_at dksX2_readsBird_1 19 rfl rfl)
theorem dX2_readsBird_45 : decode cX2_readsBird 45 = .ok (.iadd, 1) := dk_96 (dk_at dksX2_readsBird_1 22 rfl rfl)
theorem dX2_readsBird_46 : decode cX2_readsBird 46 = .ok (.iload_n 1, 1) := dk_27 (dk_at dksX2_readsBird_1 23 rfl rfl)
theorem dX2_readsBird_47 : decode cX2_readsBird 47 = .ok (.iastore, 1) := dk_79 (dk_at dksX2_readsBird_2 0 rfl rfl)
theorem dX2_readsBird_48 : decode cX2_readsBird 48 = .ok (.aload_n 0, 1) := dk_42 (dk_at dksX2_readsBird_2 1 rfl rfl)
theorem dX2_readsBird_49 : decode cX2_readsBird 49 = .ok (.getfield 7, 3) := dk_180 0 7 (dk_at dksX2_readsBird_2 2 rfl rfl)
theorem dX2_readsBird_52 : decode cX2_readsBird 52 = .ok (.bipush 120, 2) := dk_16 120 (dk_at dksX2_readsBird_2 5 rfl rfl)
theorem dX2_readsBird_54 : decode cX2_readsBird 54 = .ok (.aload_n 0, 1) := dk_42 (dk_at dksX2_readsBird_2 7 rfl rfl)
theorem dX2_readsBird_55 : decode cX2_readsBird 55 = .ok (.getfield 149, 3) := dk_180 0 149 (dk_at dksX2_readsBird_2 8 rfl rfl)
theorem dX2_readsBird_58 : decode cX2_readsBird 58 = .ok (.iadd, 1) := dk_96 (dk_at dksX2_readsBird_2 11 rfl rfl)
theorem dX2_readsBird_59 : decode cX2_readsBird 59 = .ok (.iload_n 2, 1) := dk_28 (dk_at dksX2_readsBird_2 12 rfl rfl)
theorem dX2_readsBird_60 : decode cX2_readsBird 60 = .ok (.iastore, 1) := dk_79 (dk_at dksX2_readsBird_2 13 rfl rfl)
theorem dX2_readsBird_61 : decode cX2_readsBird 61 = .ok (.aload_n 0, 1) := dk_42 (dk_at dksX2_readsBird_2 14 rfl rfl)
theorem dX2_readsBird_62 : decode cX2_readsBird 62 = .ok (.getfield 7, 3) := dk_180 0 7 (dk_at dksX2_readsBird_2 15 rfl rfl)
theorem dX2_readsBird_65 : decode cX2_readsBird 65 = .ok (.bipush 108, 2) := dk_16 108 (dk_at dksX2_readsBird_2 18 rfl rfl)
theorem dX2_readsBird_67 : decode cX2_readsBird 67 = .ok (.dup2, 1) := dk_92 (dk_at dksX2_readsBird_2 20 rfl rfl)
theorem dX2_readsBird_68 : decode cX2_readsBird 68 = .ok (.iaload, 1) := dk_46 (dk_at dksX2_readsBird_2 21 rfl rfl)
theorem dX2_readsBird_69 : decode cX2_readsBird 69 = .ok (.iconst 1, 1) := dk_4 (dk_at dksX2_readsBird_2 22 rfl rfl)
theorem dX2_readsBird_70 : decode cX2_readsBird 70 = .ok (.iadd, 1) := dk_96 (dk_at dksX2_readsBird_2 23 rfl rfl)
theorem dX2_readsBird_71 : decode cX2_readsBird 71 = .ok (.iastore, 1) := dk_79 (dk_at dksX2_readsBird_3 0 rfl rfl)
theorem dX2_readsBird_72 : decode cX2_readsBird 72 = .ok (.aload_n 0, 1) := dk_42 (dk_at dksX2_readsBird_3 1 rfl rfl)
theorem dX2_readsBird_73 : decode cX2_readsBird 73 = .ok (.dup, 1) := dk_89 (dk_at dksX2_readsBird_3 2 rfl rfl)
theorem dX2_readsBird_74 : decode cX2_readsBird 74 = .ok (.getfield 149, 3) := dk_180 0 149 (dk_at dksX2_readsBird_3 3 rfl rfl)
theorem dX2_readsBird_77 : decode cX2_readsBird 77 = .ok (.iconst 1, 1) := dk_4 (dk_at dksX2_readsBird_3 6 rfl rfl)
theorem dX2_readsBird_78 : decode cX2_readsBird 78 = .ok (.iadd, 1) := dk_96 (dk_at dksX2_readsBird_3 7 rfl rfl)
theorem dX2_readsBird_79 : decode cX2_readsBird 79 = .ok (.putfield 149, 3) := dk_181 0 149 (dk_at dksX2_readsBird_3 8 rfl rfl)
theorem dX2_readsBird_82 : decode cX2_readsBird 82 = .ok (.iconst 1, 1) := dk_4 (dk_at dksX2_readsBird_3 11 rfl rfl)
theorem dX2_readsBird_83 : decode cX2_readsBird 83 = .ok (.ireturn, 1) := dk_172 (dk_at dksX2_readsBird_3 12 rfl rfl)
abbrev cX2_number : ByteArray := prog_18_method_12_code
def yX2_number : MethodName := ⟨RX2, "number", "(I)I"⟩
def dkwX2_number_0 : List UInt8 := [42, 27, 182, 0, 138, 61, 28, 2, 159, 0, 7, 42, 182, 0, 142, 28, 172]
abbrev dktX2_number_0 : List UInt8 := dkwX2_number_0 ++ []
theorem dksX2_number_0 : cX2_number.data.toList.drop 0 = dktX2_number_0 := by decide +kernel
theorem dX2_number_0 : decode cX2_number 0 = .ok (.aload_n 0, 1) := dk_42 (dk_at dksX2_number_0 0 rfl rfl)
theorem dX2_number_1 : decode cX2_number 1 = .ok (.iload_n 1, 1) := dk_27 (dk_at dksX2_number_0 1 rfl rfl)
theorem dX2_number_2 : decode cX2_number 2 = .ok (.invokevirtual 138, 3) := dk_182 0 138 (dk_at dksX2_number_0 2 rfl rfl)
theorem dX2_number_5 : decode cX2_number 5 = .ok (.istore_n 2, 1) := dk_61 (dk_at dksX2_number_0 5 rfl rfl)
theorem dX2_number_6 : decode cX2_number 6 = .ok (.iload_n 2, 1) := dk_28 (dk_at dksX2_number_0 6 rfl rfl)
theorem dX2_number_7 : decode cX2_number 7 = .ok (.iconst (-1), 1) := dk_2 (dk_at dksX2_number_0 7 rfl rfl)
theorem dX2_number_8 : decode cX2_number 8 = .ok (.if_icmp .eq 7, 3) := dk_159 0 7 (dk_at dksX2_number_0 8 rfl rfl)
theorem dX2_number_11 : decode cX2_number 11 = .ok (.aload_n 0, 1) := dk_42 (dk_at dksX2_number_0 11 rfl rfl)
theorem dX2_number_12 : decode cX2_number 12 = .ok (.invokevirtual 142, 3) := dk_182 0 142 (dk_at dksX2_number_0 12 rfl rfl)
theorem dX2_number_15 : decode cX2_number 15 = .ok (.iload_n 2, 1) := dk_28 (dk_at dksX2_number_0 15 rfl rfl)
theorem dX2_number_16 : decode cX2_number 16 = .ok (.ireturn, 1) := dk_172 (dk_at dksX2_number_0 16 rfl rfl)
abbrev cX2_numberHere : ByteArray := prog_18_method_11_code
def yX2_numberHere : MethodName := ⟨RX2, "numberHere", "(I)I"⟩
def dkwX2_numberHere_3 : List UInt8 := [180, 0, 128, 46, 16, 48, 100, 167, 0, 4, 2, 172]
abbrev dktX2_numberHere_3 : List UInt8 := dkwX2_numberHere_3 ++ []
def dkwX2_numberHere_2 : List UInt8 := [46, 16, 48, 100, 27, 162, 0, 7, 4, 167, 0, 4, 3, 61, 28, 153, 0, 18, 42, 180, 0, 17, 42]
abbrev dktX2_numberHere_2 : List UInt8 := dkwX2_numberHere_2 ++ dktX2_numberHere_3
def dkwX2_numberHere_1 : List UInt8 := [153, 0, 36, 42, 180, 0, 125, 42, 180, 0, 128, 100, 4, 160, 0, 23, 42, 180, 0, 17, 42, 180, 0, 128]
abbrev dktX2_numberHere_1 : List UInt8 := dkwX2_numberHere_1 ++ dktX2_numberHere_2
def dkwX2_numberHere_0 : List UInt8 := [42, 180, 0, 128, 42, 180, 0, 113, 162, 0, 51, 42, 180, 0, 17, 42, 180, 0, 128, 46, 184, 0, 135]
abbrev dktX2_numberHere_0 : List UInt8 := dkwX2_numberHere_0 ++ dktX2_numberHere_1
theorem dksX2_numberHere_0 : cX2_numberHere.data.toList.drop 0 = dktX2_numberHere_0 := by decide +kernel
theorem dksX2_numberHere_1 : cX2_numberHere.data.toList.drop 23 = dktX2_numberHere_1 := dk_seg dksX2_numberHere_0 23 rfl rfl
theorem dksX2_numberHere_2 : cX2_numberHere.data.toList.drop 47 = dktX2_numberHere_2 := dk_seg dksX2_numberHere_1 24 rfl rfl
theorem dksX2_numberHere_3 : cX2_numberHere.data.toList.drop 70 = dktX2_numberHere_3 := dk_seg dksX2_numberHere_2 23 rfl rfl
theorem dX2_numberHere_0 : decode cX2_numberHere 0 = .ok (.aload_n 0, 1) := dk_42 (dk_at dksX2_numberHere_0 0 rfl rfl)
theorem dX2_numberHere_1 : decode cX2_numberHere 1 = .ok (.getfield 128, 3) := dk_180 0 128 (dk_at dksX2_numberHere_0 1 rfl rfl)
theorem dX2_numberHere_4 : decode cX2_numberHere 4 = .ok (.aload_n 0, 1) := dk_42 (dk_at dksX2_numberHere_0 4 rfl rfl)
theorem dX2_numberHere_5 : decode cX2_numberHere 5 = .ok (.getfield 113, 3) := dk_180 0 113 (dk_at dksX2_numberHere_0 5 rfl rfl)
theorem dX2_numberHere_8 : decode cX2_numberHere 8 = .ok (.if_icmp .ge 51, 3) := dk_162 0 51 (dk_at dksX2_numberHere_0 8 rfl rfl)
theorem dX2_numberHere_11 : decode cX2_numberHere 11 = .ok (.aload_n 0, 1) := dk_42 (dk_at dksX2_numberHere_0 11 rfl rfl)
theorem dX2_numberHere_12 : decode cX2_numberHere 12 = .ok (.getfield 17, 3) := dk_180 0 17 (dk_at dksX2_numberHere_0 12 rfl rfl)
theorem dX2_numberHere_15 : decode cX2_numberHere 15 = .ok (.aload_n 0, 1) := dk_42 (dk_at dksX2_numberHere_0 15 rfl rfl)
theorem dX2_numberHere_16 : decode cX2_numberHere 16 = .ok (.getfield 128, 3) := dk_180 0 128 (dk_at dksX2_numberHere_0 16 rfl rfl)
theorem dX2_numberHere_19 : decode cX2_numberHere 19 = .ok (.iaload, 1) := dk_46 (dk_at dksX2_numberHere_0 19 rfl rfl)
theorem dX2_numberHere_20 : decode cX2_numberHere 20 = .ok (.invokestatic 135, 3) := dk_184 0 135 (dk_at dksX2_numberHere_0 20 rfl rfl)
theorem dX2_numberHere_23 : decode cX2_numberHere 23 = .ok (.ifCond .eq 36, 3) := dk_153 0 36 (dk_at dksX2_numberHere_1 0 rfl rfl)
theorem dX2_numberHere_26 : decode cX2_numberHere 26 = .ok (.aload_n 0, 1) := dk_42 (dk_at dksX2_numberHere_1 3 rfl rfl)
theorem dX2_numberHere_27 : decode cX2_numberHere 27 = .ok (.getfield 125, 3) := dk_180 0 125 (dk_at dksX2_numberHere_1 4 rfl rfl)
theorem dX2_numberHere_30 : decode cX2_numberHere 30 = .ok (.aload_n 0, 1) := dk_42 (dk_at dksX2_numberHere_1 7 rfl rfl)
theorem dX2_numberHere_31 : decode cX2_numberHere 31 = .ok (.getfield 128, 3) := dk_180 0 128 (dk_at dksX2_numberHere_1 8 rfl rfl)
theorem dX2_numberHere_34 : decode cX2_numberHere 34 = .ok (.isub, 1) := dk_100 (dk_at dksX2_numberHere_1 11 rfl rfl)
theorem dX2_numberHere_35 : decode cX2_numberHere 35 = .ok (.iconst 1, 1) := dk_4 (dk_at dksX2_numberHere_1 12 rfl rfl)
theorem dX2_numberHere_36 : decode cX2_numberHere 36 = .ok (.if_icmp .ne 23, 3) := dk_160 0 23 (dk_at dksX2_numberHere_1 13 rfl rfl)
theorem dX2_numberHere_39 : decode cX2_numberHere 39 = .ok (.aload_n 0, 1) := dk_42 (dk_at dksX2_numberHere_1 16 rfl rfl)
theorem dX2_numberHere_40 : decode cX2_numberHere 40 = .ok (.getfield 17, 3) := dk_180 0 17 (dk_at dksX2_numberHere_1 17 rfl rfl)
theorem dX2_numberHere_43 : decode cX2_numberHere 43 = .ok (.aload_n 0, 1) := dk_42 (dk_at dksX2_numberHere_1 20 rfl rfl)
theorem dX2_numberHere_44 : decode cX2_numberHere 44 = .ok (.getfield 128, 3) := dk_180 0 128 (dk_at dksX2_numberHere_1 21 rfl rfl)
theorem dX2_numberHere_47 : decode cX2_numberHere 47 = .ok (.iaload, 1) := dk_46 (dk_at dksX2_numberHere_2 0 rfl rfl)
theorem dX2_numberHere_48 : decode cX2_numberHere 48 = .ok (.bipush 48, 2) := dk_16 48 (dk_at dksX2_numberHere_2 1 rfl rfl)
theorem dX2_numberHere_50 : decode cX2_numberHere 50 = .ok (.isub, 1) := dk_100 (dk_at dksX2_numberHere_2 3 rfl rfl)
theorem dX2_numberHere_51 : decode cX2_numberHere 51 = .ok (.iload_n 1, 1) := dk_27 (dk_at dksX2_numberHere_2 4 rfl rfl)
theorem dX2_numberHere_52 : decode cX2_numberHere 52 = .ok (.if_icmp .ge 7, 3) := dk_162 0 7 (dk_at dksX2_numberHere_2 5 rfl rfl)
theorem dX2_numberHere_55 : decode cX2_numberHere 55 = .ok (.iconst 1, 1) := dk_4 (dk_at dksX2_numberHere_2 8 rfl rfl)
theorem dX2_numberHere_56 : decode cX2_numberHere 56 = .ok (.goto 4, 3) := dk_167 0 4 (dk_at dksX2_numberHere_2 9 rfl rfl)
theorem dX2_numberHere_59 : decode cX2_numberHere 59 = .ok (.iconst 0, 1) := dk_3 (dk_at dksX2_numberHere_2 12 rfl rfl)
theorem dX2_numberHere_60 : decode cX2_numberHere 60 = .ok (.istore_n 2, 1) := dk_61 (dk_at dksX2_numberHere_2 13 rfl rfl)
theorem dX2_numberHere_61 : decode cX2_numberHere 61 = .ok (.iload_n 2, 1) := dk_28 (dk_at dksX2_numberHere_2 14 rfl rfl)
theorem dX2_numberHere_62 : decode cX2_numberHere 62 = .ok (.ifCond .eq 18, 3) := dk_153 0 18 (dk_at dksX2_numberHere_2 15 rfl rfl)
theorem dX2_numberHere_65 : decode cX2_numberHere 65 = .ok (.aload_n 0, 1) := dk_42 (dk_at dksX2_numberHere_2 18 rfl rfl)
theorem dX2_numberHere_66 : decode cX2_numberHere 66 = .ok (.getfield 17, 3) := dk_180 0 17 (dk_at dksX2_numberHere_2 19 rfl rfl)
theorem dX2_numberHere_69 : decode cX2_numberHere 69 = .ok (.aload_n 0, 1) := dk_42 (dk_at dksX2_numberHere_2 22 rfl rfl)
theorem dX2_numberHere_70 : decode cX2_numberHere 70 = .ok (.getfield 128, 3) := dk_180 0 128 (dk_at dksX2_numberHere_3 0 rfl rfl)
theorem dX2_numberHere_73 : decode cX2_numberHere 73 = .ok (.iaload, 1) := dk_46 (dk_at dksX2_numberHere_3 3 rfl rfl)
theorem dX2_numberHere_74 : decode cX2_numberHere 74 = .ok (.bipush 48, 2) := dk_16 48 (dk_at dksX2_numberHere_3 4 rfl rfl)
theorem dX2_numberHere_76 : decode cX2_numberHere 76 = .ok (.isub, 1) := dk_100 (dk_at dksX2_numberHere_3 6 rfl rfl)
theorem dX2_numberHere_77 : decode cX2_numberHere 77 = .ok (.goto 4, 3) := dk_167 0 4 (dk_at dksX2_numberHere_3 7 rfl rfl)
theorem dX2_numberHere_80 : decode cX2_numberHere 80 = .ok (.iconst (-1), 1) := dk_2 (dk_at dksX2_numberHere_3 10 rfl rfl)
theorem dX2_numberHere_81 : decode cX2_numberHere 81 = .ok (.ireturn, 1) := dk_172 (dk_at dksX2_numberHere_3 11 rfl rfl)
abbrev cX2_readsMan : ByteArray := prog_18_method_16_code
def yX2_readsMan : MethodName := ⟨RX2, "readsMan", "()Z"⟩
def dkwX2_readsMan_4 : List UInt8 := [172]
abbrev dktX2_readsMan_4 : List UInt8 := dkwX2_readsMan_4 ++ []
def dkwX2_readsMan_3 : List UInt8 := [4, 96, 79, 42, 180, 0, 47, 42, 180, 0, 159, 2, 79, 42, 89, 180, 0, 159, 4, 96, 181, 0, 159, 4]
abbrev dktX2_readsMan_3 : List UInt8 := dkwX2_readsMan_3 ++ dktX2_readsMan_4
def dkwX2_readsMan_2 : List UInt8 := [27, 79, 42, 180, 0, 7, 17, 0, 212, 42, 180, 0, 159, 96, 2, 79, 42, 180, 0, 7, 16, 109, 92, 46]
abbrev dktX2_readsMan_2 : List UInt8 := dkwX2_readsMan_2 ++ dktX2_readsMan_3
def dkwX2_readsMan_1 : List UInt8 := [154, 0, 5, 3, 172, 42, 180, 0, 155, 153, 0, 42, 42, 180, 0, 7, 17, 0, 208, 42, 180, 0, 159, 96]
abbrev dktX2_readsMan_1 : List UInt8 := dkwX2_readsMan_1 ++ dktX2_readsMan_2
def dkwX2_readsMan_0 : List UInt8 := [42, 180, 0, 159, 7, 160, 0, 5, 3, 172, 42, 182, 0, 142, 42, 16, 10, 182, 0, 162, 60, 27]
abbrev dktX2_readsMan_0 : List UInt8 := dkwX2_readsMan_0 ++ dktX2_readsMan_1
theorem dksX2_readsMan_0 : cX2_readsMan.data.toList.drop 0 = dktX2_readsMan_0 := by decide +kernel
theorem dksX2_readsMan_1 : cX2_readsMan.data.toList.drop 22 = dktX2_readsMan_1 := dk_seg dksX2_readsMan_0 22 rfl rfl
theorem dksX2_readsMan_2 : cX2_readsMan.data.toList.drop 46 = dktX2_readsMan_2 := dk_seg dksX2_readsMan_1 24 rfl rfl
theorem dksX2_readsMan_3 : cX2_readsMan.data.toList.drop 70 = dktX2_readsMan_3 := dk_seg dksX2_readsMan_2 24 rfl rfl
theorem dksX2_readsMan_4 : cX2_readsMan.data.toList.drop 94 = dktX2_readsMan_4 := dk_seg dksX2_readsMan_3 24 rfl rfl
theorem dX2_readsMan_0 : decode cX2_readsMan 0 = .ok (.aload_n 0, 1) := dk_42 (dk_at dksX2_readsMan_0 0 rfl rfl)
theorem dX2_readsMan_1 : decode cX2_readsMan 1 = .ok (.getfield 159, 3) := dk_180 0 159 (dk_at dksX2_readsMan_0 1 rfl rfl)
theorem dX2_readsMan_4 : decode cX2_readsMan 4 = .ok (.iconst 4, 1) := dk_7 (dk_at dksX2_readsMan_0 4 rfl rfl)
theorem dX2_readsMan_5 : decode cX2_readsMan 5 = .ok (.if_icmp .ne 5, 3) := dk_160 0 5 (dk_at dksX2_readsMan_0 5 rfl rfl)
theorem dX2_readsMan_8 : decode cX2_readsMan 8 = .ok (.iconst 0, 1) := dk_3 (dk_at dksX2_readsMan_0 8 rfl rfl)
theorem dX2_readsMan_9 : decode cX2_readsMan 9 = .ok (.ireturn, 1) := dk_172 (dk_at dksX2_readsMan_0 9 rfl rfl)
theorem dX2_readsMan_10 : decode cX2_readsMan 10 = .ok (.aload_n 0, 1) := dk_42 (dk_at dksX2_readsMan_0 10 rfl rfl)
theorem dX2_readsMan_11 : decode cX2_readsMan 11 = .ok (.invokevirtual 142, 3) := dk_182 0 142 (dk_at dksX2_readsMan_0 11 rfl rfl)
theorem dX2_readsMan_14 : decode cX2_readsMan 14 = .ok (.aload_n 0, 1) := dk_42 (dk_at dksX2_readsMan_0 14 rfl rfl)
theorem dX2_readsMan_15 : decode cX2_readsMan 15 = .ok (.bipush 10, 2) := dk_16 10 (dk_at dksX2_readsMan_0 15 rfl rfl)
theorem dX2_readsMan_17 : decode cX2_readsMan 17 = .ok (.invokevirtual 162, 3) := dk_182 0 162 (dk_at dksX2_readsMan_0 17 rfl rfl)
theorem dX2_readsMan_20 : decode cX2_readsMan 20 = .ok (.istore_n 1, 1) := dk_60 (dk_at dksX2_readsMan_0 20 rfl rfl)
theorem dX2_readsMan_21 : decode cX2_readsMan 21 = .ok (.iload_n 1, 1) := dk_27 (dk_at dksX2_readsMan_0 21 rfl rfl)
theorem dX2_readsMan_22 : decode cX2_readsMan 22 = .ok (.ifCond .ne 5, 3) := dk_154 0 5 (dk_at dksX2_readsMan_1 0 rfl rfl)
theorem dX2_readsMan_25 : decode cX2_readsMan 25 = .ok (.iconst 0, 1) := dk_3 (dk_at dksX2_readsMan_1 3 rfl rfl)
theorem dX2_readsMan_26 : decode cX2_readsMan 26 = .ok (.ireturn, 1) := dk_172 (dk_at dksX2_readsMan_1 4 rfl rfl)
theorem dX2_readsMan_27 : decode cX2_readsMan 27 = .ok (.aload_n 0, 1) := dk_42 (dk_at dksX2_readsMan_1 5 rfl rfl)
theorem dX2_readsMan_28 : decode cX2_readsMan 28 = .ok (.getfield 155, 3) := dk_180 0 155 (dk_at dksX2_readsMan_1 6 rfl rfl)
theorem dX2_readsMan_31 : decode cX2_readsMan 31 = .ok (.ifCond .eq 42, 3) := dk_153 0 42 (dk_at dksX2_readsMan_1 9 rfl rfl)
theorem dX2_readsMan_34 : decode cX2_readsMan 34 = .ok (.aload_n 0, 1) := dk_42 (dk_at dksX2_readsMan_1 12 rfl rfl)
theorem dX2_readsMan_35 : decode cX2_readsMan 35 = .ok (.getfield 7, 3) := dk_180 0 7 (dk_at dksX2_readsMan_1 13 rfl rfl)
theorem dX2_readsMan_38 : decode cX2_readsMan 38 = .ok (.sipush 208, 3) := dk_17 0 208 (dk_at dksX2_readsMan_1 16 rfl rfl)
theorem dX2_readsMan_41 : decode cX2_readsMan 41 = .ok (.aload_n 0, 1) := dk_42 (dk_at dksX2_readsMan_1 19 rfl rfl)
theorem dX2_readsMan_42 : decode cX2_readsMan 42 = .ok (.getfield 159, 3) := dk_180 0 159 (dk_at dksX2_readsMan_1 20 rfl rfl)
theorem dX2_readsMan_45 : decode cX2_readsMan 45 = .ok (.iadd, 1) := dk_96 (dk_at dksX2_readsMan_1 23 rfl rfl)
theorem dX2_readsMan_46 : decode cX2_readsMan 46 = .ok (.iload_n 1, 1) := dk_27 (dk_at dksX2_readsMan_2 0 rfl rfl)
theorem dX2_readsMan_47 : decode cX2_readsMan 47 = .ok (.iastore, 1) := dk_79 (dk_at dksX2_readsMan_2 1 rfl rfl)
theorem dX2_readsMan_48 : decode cX2_readsMan 48 = .ok (.aload_n 0, 1) := dk_42 (dk_at dksX2_readsMan_2 2 rfl rfl)
theorem dX2_readsMan_49 : decode cX2_readsMan 49 = .ok (.getfield 7, 3) := dk_180 0 7 (dk_at dksX2_readsMan_2 3 rfl rfl)
theorem dX2_readsMan_52 : decode cX2_readsMan 52 = .ok (.sipush 212, 3) := dk_17 0 212 (dk_at dksX2_readsMan_2 6 rfl rfl)
theorem dX2_readsMan_55 : decode cX2_readsMan 55 = .ok (.aload_n 0, 1) := dk_42 (dk_at dksX2_readsMan_2 9 rfl rfl)
theorem dX2_readsMan_56 : decode cX2_readsMan 56 = .ok (.getfield 159, 3) := dk_180 0 159 (dk_at dksX2_readsMan_2 10 rfl rfl)
theorem dX2_readsMan_59 : decode cX2_readsMan 59 = .ok (.iadd, 1) := dk_96 (dk_at dksX2_readsMan_2 13 rfl rfl)
theorem dX2_readsMan_60 : decode cX2_readsMan 60 = .ok (.iconst (-1), 1) := dk_2 (dk_at dksX2_readsMan_2 14 rfl rfl)
theorem dX2_readsMan_61 : decode cX2_readsMan 61 = .ok (.iastore, 1) := dk_79 (dk_at dksX2_readsMan_2 15 rfl rfl)
theorem dX2_readsMan_62 : decode cX2_readsMan 62 = .ok (.aload_n 0, 1) := dk_42 (dk_at dksX2_readsMan_2 16 rfl rfl)
theorem dX2_readsMan_63 : decode cX2_readsMan 63 = .ok (.getfield 7, 3) := dk_180 0 7 (dk_at dksX2_readsMan_2 17 rfl rfl)
theorem dX2_readsMan_66 : decode cX2_readsMan 66 = .ok (.bipush 109, 2) := dk_16 109 (dk_at dksX2_readsMan_2 20 rfl rfl)
theorem dX2_readsMan_68 : decode cX2_readsMan 68 = .ok (.dup2, 1) := dk_92 (dk_at dksX2_readsMan_2 22 rfl rfl)
theorem dX2_readsMan_69 : decode cX2_readsMan 69 = .ok (.iaload, 1) := dk_46 (dk_at dksX2_readsMan_2 23 rfl rfl)
theorem dX2_readsMan_70 : decode cX2_readsMan 70 = .ok (.iconst 1, 1) := dk_4 (dk_at dksX2_readsMan_3 0 rfl rfl)
theorem dX2_readsMan_71 : decode cX2_readsMan 71 = .ok (.iadd, 1) := dk_96 (dk_at dksX2_readsMan_3 1 rfl rfl)
theorem dX2_readsMan_72 : decode cX2_readsMan 72 = .ok (.iastore, 1) := dk_79 (dk_at dksX2_readsMan_3 2 rfl rfl)
theorem dX2_readsMan_73 : decode cX2_readsMan 73 = .ok (.aload_n 0, 1) := dk_42 (dk_at dksX2_readsMan_3 3 rfl rfl)
theorem dX2_readsMan_74 : decode cX2_readsMan 74 = .ok (.getfield 47, 3) := dk_180 0 47 (dk_at dksX2_readsMan_3 4 rfl rfl)
theorem dX2_readsMan_77 : decode cX2_readsMan 77 = .ok (.aload_n 0, 1) := dk_42 (dk_at dksX2_readsMan_3 7 rfl rfl)
theorem dX2_readsMan_78 : decode cX2_readsMan 78 = .ok (.getfield 159, 3) := dk_180 0 159 (dk_at dksX2_readsMan_3 8 rfl rfl)
theorem dX2_readsMan_81 : decode cX2_readsMan 81 = .ok (.iconst (-1), 1) := dk_2 (dk_at dksX2_readsMan_3 11 rfl rfl)
theorem dX2_readsMan_82 : decode cX2_readsMan 82 = .ok (.iastore, 1) := dk_79 (dk_at dksX2_readsMan_3 12 rfl rfl)
theorem dX2_readsMan_83 : decode cX2_readsMan 83 = .ok (.aload_n 0, 1) := dk_42 (dk_at dksX2_readsMan_3 13 rfl rfl)
theorem dX2_readsMan_84 : decode cX2_readsMan 84 = .ok (.dup, 1) := dk_89 (dk_at dksX2_readsMan_3 14 rfl rfl)
theorem dX2_readsMan_85 : decode cX2_readsMan 85 = .ok (.getfield 159, 3) := dk_180 0 159 (dk_at dksX2_readsMan_3 15 rfl rfl)
theorem dX2_readsMan_88 : decode cX2_readsMan 88 = .ok (.iconst 1, 1) := dk_4 (dk_at dksX2_readsMan_3 18 rfl rfl)
theorem dX2_readsMan_89 : decode cX2_readsMan 89 = .ok (.iadd, 1) := dk_96 (dk_at dksX2_readsMan_3 19 rfl rfl)
theorem dX2_readsMan_90 : decode cX2_readsMan 90 = .ok (.putfield 159, 3) := dk_181 0 159 (dk_at dksX2_readsMan_3 20 rfl rfl)
theorem dX2_readsMan_93 : decode cX2_readsMan 93 = .ok (.iconst 1, 1) := dk_4 (dk_at dksX2_readsMan_3 23 rfl rfl)
theorem dX2_readsMan_94 : decode cX2_readsMan 94 = .ok (.ireturn, 1) := dk_172 (dk_at dksX2_readsMan_4 0 rfl rfl)
abbrev cX2_words : ByteArray := prog_18_method_13_code
def yX2_words : MethodName := ⟨RX2, "words", "(I)I"⟩
def dkwX2_words_6 : List UInt8 := [153, 0, 7, 42, 182, 0, 142, 29, 153, 0, 7, 28, 167, 0, 4, 3, 172]
abbrev dktX2_words_6 : List UInt8 := dkwX2_words_6 ++ []
def dkwX2_words_5 : List UInt8 := [180, 0, 17, 21, 5, 46, 16, 97, 100, 120, 167, 0, 4, 3, 128, 61, 132, 5, 1, 167, 255, 178, 29]
abbrev dktX2_words_5 : List UInt8 := dkwX2_words_5 ++ dktX2_words_6
def dkwX2_words_4 : List UInt8 := [4, 167, 0, 4, 3, 62, 42, 180, 0, 17, 21, 5, 46, 54, 4, 28, 29, 153, 0, 18, 4, 42]
abbrev dktX2_words_4 : List UInt8 := dkwX2_words_4 ++ dktX2_words_5
def dkwX2_words_3 : List UInt8 := [42, 180, 0, 17, 21, 5, 46, 21, 4, 164, 0, 19, 42, 180, 0, 17, 21, 5, 46, 16, 107, 162, 0, 7]
abbrev dktX2_words_3 : List UInt8 := dkwX2_words_3 ++ dktX2_words_4
def dkwX2_words_2 : List UInt8 := [62, 16, 96, 54, 4, 42, 180, 0, 128, 54, 5, 21, 5, 42, 180, 0, 125, 162, 0, 75, 29, 153, 0, 71]
abbrev dktX2_words_2 : List UInt8 := dkwX2_words_2 ++ dktX2_words_3
def dkwX2_words_1 : List UInt8 := [184, 0, 131, 153, 0, 20, 42, 180, 0, 125, 42, 180, 0, 128, 100, 27, 163, 0, 7, 4, 167, 0, 4, 3]
abbrev dktX2_words_1 : List UInt8 := dkwX2_words_1 ++ dktX2_words_2
def dkwX2_words_0 : List UInt8 := [3, 61, 42, 180, 0, 128, 42, 180, 0, 113, 162, 0, 35, 42, 180, 0, 17, 42, 180, 0, 128, 46]
abbrev dktX2_words_0 : List UInt8 := dkwX2_words_0 ++ dktX2_words_1
theorem dksX2_words_0 : cX2_words.data.toList.drop 0 = dktX2_words_0 := by decide +kernel
theorem dksX2_words_1 : cX2_words.data.toList.drop 22 = dktX2_words_1 := dk_seg dksX2_words_0 22 rfl rfl
theorem dksX2_words_2 : cX2_words.data.toList.drop 46 = dktX2_words_2 := dk_seg dksX2_words_1 24 rfl rfl
theorem dksX2_words_3 : cX2_words.data.toList.drop 70 = dktX2_words_3 := dk_seg dksX2_words_2 24 rfl rfl
theorem dksX2_words_4 : cX2_words.data.toList.drop 94 = dktX2_words_4 := dk_seg dksX2_words_3 24 rfl rfl
theorem dksX2_words_5 : cX2_words.data.toList.drop 116 = dktX2_words_5 := dk_seg dksX2_words_4 22 rfl rfl
theorem dksX2_words_6 : cX2_words.data.toList.drop 139 = dktX2_words_6 := dk_seg dksX2_words_5 23 rfl rfl
theorem dX2_words_0 : decode cX2_words 0 = .ok (.iconst 0, 1) := dk_3 (dk_at dksX2_words_0 0 rfl rfl)
theorem dX2_words_1 : decode cX2_words 1 = .ok (.istore_n 2, 1) := dk_61 (dk_at dksX2_words_0 1 rfl rfl)
theorem dX2_words_2 : decode cX2_words 2 = .ok (.aload_n 0, 1) := dk_42 (dk_at dksX2_words_0 2 rfl rfl)
theorem dX2_words_3 : decode cX2_words 3 = .ok (.getfield 128, 3) := dk_180 0 128 (dk_at dksX2_words_0 3 rfl rfl)
theorem dX2_words_6 : decode cX2_words 6 = .ok (.aload_n 0, 1) := dk_42 (dk_at dksX2_words_0 6 rfl rfl)
theorem dX2_words_7 : decode cX2_words 7 = .ok (.getfield 113, 3) := dk_180 0 113 (dk_at dksX2_words_0 7 rfl rfl)
theorem dX2_words_10 : decode cX2_words 10 = .ok (.if_icmp .ge 35, 3) := dk_162 0 35 (dk_at dksX2_words_0 10 rfl rfl)
theorem dX2_words_13 : decode cX2_words 13 = .ok (.aload_n 0, 1) := dk_42 (dk_at dksX2_words_0 13 rfl rfl)
theorem dX2_words_14 : decode cX2_words 14 = .ok (.getfield 17, 3) := dk_180 0 17 (dk_at dksX2_words_0 14 rfl rfl)
theorem dX2_words_17 : decode cX2_words 17 = .ok (.aload_n 0, 1) := dk_42 (dk_at dksX2_words_0 17 rfl rfl)
theorem dX2_words_18 : decode cX2_words 18 = .ok (.getfield 128, 3) := dk_180 0 128 (dk_at dksX2_words_0 18 rfl rfl)
theorem dX2_words_21 : decode cX2_words 21 = .ok (.iaload, 1) := dk_46 (dk_at dksX2_words_0 21 rfl rfl)
theorem dX2_words_22 : decode cX2_words 22 = .ok (.invokestatic 131, 3) := dk_184 0 131 (dk_at dksX2_words_1 0 rfl rfl)
theorem dX2_words_25 : decode cX2_words 25 = .ok (.ifCond .eq 20, 3) := dk_153 0 20 (dk_at dksX2_words_1 3 rfl rfl)
theorem dX2_words_28 : decode cX2_words 28 = .ok (.aload_n 0, 1) := dk_42 (dk_at dksX2_words_1 6 rfl rfl)
theorem dX2_words_29 : decode cX2_words 29 = .ok (.getfield 125, 3) := dk_180 0 125 (dk_at dksX2_words_1 7 rfl rfl)
theorem dX2_words_32 : decode cX2_words 32 = .ok (.aload_n 0, 1) := dk_42 (dk_at dksX2_words_1 10 rfl rfl)
theorem dX2_words_33 : decode cX2_words 33 = .ok (.getfield 128, 3) := dk_180 0 128 (dk_at dksX2_words_1 11 rfl rfl)
theorem dX2_words_36 : decode cX2_words 36 = .ok (.isub, 1) := dk_100 (dk_at dksX2_words_1 14 rfl rfl)
theorem dX2_words_37 : decode cX2_words 37 = .ok (.iload_n 1, 1) := dk_27 (dk_at dksX2_words_1 15 rfl rfl)
theorem dX2_words_38 : decode cX2_words 38 = .ok (.if_icmp .gt 7, 3) := dk_163 0 7 (dk_at dksX2_words_1 16 rfl rfl)
theorem dX2_words_41 : decode cX2_words 41 = .ok (.iconst 1, 1) := dk_4 (dk_at dksX2_words_1 19 rfl rfl)
theorem dX2_words_42 : decode cX2_words 42 = .ok (.goto 4, 3) := dk_167 0 4 (dk_at dksX2_words_1 20 rfl rfl)
theorem dX2_words_45 : decode cX2_words 45 = .ok (.iconst 0, 1) := dk_3 (dk_at dksX2_words_1 23 rfl rfl)
theorem dX2_words_46 : decode cX2_words 46 = .ok (.istore_n 3, 1) := dk_62 (dk_at dksX2_words_2 0 rfl rfl)
theorem dX2_words_47 : decode cX2_words 47 = .ok (.bipush 96, 2) := dk_16 96 (dk_at dksX2_words_2 1 rfl rfl)
theorem dX2_words_49 : decode cX2_words 49 = .ok (.istore 4, 2) := dk_54 4 (dk_at dksX2_words_2 3 rfl rfl)
theorem dX2_words_51 : decode cX2_words 51 = .ok (.aload_n 0, 1) := dk_42 (dk_at dksX2_words_2 5 rfl rfl)
theorem dX2_words_52 : decode cX2_words 52 = .ok (.getfield 128, 3) := dk_180 0 128 (dk_at dksX2_words_2 6 rfl rfl)
theorem dX2_words_55 : decode cX2_words 55 = .ok (.istore 5, 2) := dk_54 5 (dk_at dksX2_words_2 9 rfl rfl)
theorem dX2_words_57 : decode cX2_words 57 = .ok (.iload 5, 2) := dk_21 5 (dk_at dksX2_words_2 11 rfl rfl)
theorem dX2_words_59 : decode cX2_words 59 = .ok (.aload_n 0, 1) := dk_42 (dk_at dksX2_words_2 13 rfl rfl)
theorem dX2_words_60 : decode cX2_words 60 = .ok (.getfield 125, 3) := dk_180 0 125 (dk_at dksX2_words_2 14 rfl rfl)
theorem dX2_words_63 : decode cX2_words 63 = .ok (.if_icmp .ge 75, 3) := dk_162 0 75 (dk_at dksX2_words_2 17 rfl rfl)
theorem dX2_words_66 : decode cX2_words 66 = .ok (.iload_n 3, 1) := dk_29 (dk_at dksX2_words_2 20 rfl rfl)
theorem dX2_words_67 : decode cX2_words 67 = .ok (.ifCond .eq 71, 3) := dk_153 0 71 (dk_at dksX2_words_2 21 rfl rfl)
theorem dX2_words_70 : decode cX2_words 70 = .ok (.aload_n 0, 1) := dk_42 (dk_at dksX2_words_3 0 rfl rfl)
theorem dX2_words_71 : decode cX2_words 71 = .ok (.getfield 17, 3) := dk_180 0 17 (dk_at dksX2_words_3 1 rfl rfl)
theorem dX2_words_74 : decode cX2_words 74 = .ok (.iload 5, 2) := dk_21 5 (dk_at dksX2_words_3 4 rfl rfl)
theorem dX2_words_76 : decode cX2_words 76 = .ok (.iaload, 1) := dk_46 (dk_at dksX2_words_3 6 rfl rfl)
theorem dX2_words_77 : decode cX2_words 77 = .ok (.iload 4, 2) := dk_21 4 (dk_at dksX2_words_3 7 rfl rfl)
theorem dX2_words_79 : decode cX2_words 79 = .ok (.if_icmp .le 19, 3) := dk_164 0 19 (dk_at dksX2_words_3 9 rfl rfl)
theorem dX2_words_82 : decode cX2_words 82 = .ok (.aload_n 0, 1) := dk_42 (dk_at dksX2_words_3 12 rfl rfl)
theorem dX2_words_83 : decode cX2_words 83 = .ok (.getfield 17, 3) := dk_180 0 17 (dk_at dksX2_words_3 13 rfl rfl)
theorem dX2_words_86 : decode cX2_words 86 = .ok (.iload 5, 2) := dk_21 5 (dk_at dksX2_words_3 16 rfl rfl)
theorem dX2_words_88 : decode cX2_words 88 = .ok (.iaload, 1) := dk_46 (dk_at dksX2_words_3 18 rfl rfl)
theorem dX2_words_89 : decode cX2_words 89 = .ok (.bipush 107, 2) := dk_16 107 (dk_at dksX2_words_3 19 rfl rfl)
theorem dX2_words_91 : decode cX2_words 91 = .ok (.if_icmp .ge 7, 3) := dk_162 0 7 (dk_at dksX2_words_3 21 rfl rfl)
theorem dX2_words_94 : decode cX2_words 94 = .ok (.iconst 1, 1) := dk_4 (dk_at dksX2_words_4 0 rfl rfl)
theorem dX2_words_95 : decode cX2_words 95 = .ok (.goto 4, 3) := dk_167 0 4 (dk_at dksX2_words_4 1 rfl rfl)
theorem dX2_words_98 : decode cX2_words 98 = .ok (.iconst 0, 1) := dk_3 (dk_at dksX2_words_4 4 rfl rfl)
theorem dX2_words_99 : decode cX2_words 99 = .ok (.istore_n 3, 1) := dk_62 (dk_at dksX2_words_4 5 rfl rfl)
theorem dX2_words_100 : decode cX2_words 100 = .ok (.aload_n 0, 1) := dk_42 (dk_at dksX2_words_4 6 rfl rfl)
theorem dX2_words_101 : decode cX2_words 101 = .ok (.getfield 17, 3) := dk_180 0 17 (dk_at dksX2_words_4 7 rfl rfl)
theorem dX2_words_104 : decode cX2_words 104 = .ok (.iload 5, 2) := dk_21 5 (dk_at dksX2_words_4 10 rfl rfl)
theorem dX2_words_106 : decode cX2_words 106 = .ok (.iaload, 1) := dk_46 (dk_at dksX2_words_4 12 rfl rfl)
theorem dX2_words_107 : decode cX2_words 107 = .ok (.istore 4, 2) := dk_54 4 (dk_at dksX2_words_4 13 rfl rfl)
theorem dX2_words_109 : decode cX2_words 109 = .ok (.iload_n 2, 1) := dk_28 (dk_at dksX2_words_4 15 rfl rfl)
theorem dX2_words_110 : decode cX2_words 110 = .ok (.iload_n 3, 1) := dk_29 (dk_at dksX2_words_4 16 rfl rfl)
theorem dX2_words_111 : decode cX2_words 111 = .ok (.ifCond .eq 18, 3) := dk_153 0 18 (dk_at dksX2_words_4 17 rfl rfl)
theorem dX2_words_114 : decode cX2_words 114 = .ok (.iconst 1, 1) := dk_4 (dk_at dksX2_words_4 20 rfl rfl)
theorem dX2_words_115 : decode cX2_words 115 = .ok (.aload_n 0, 1) := dk_42 (dk_at dksX2_words_4 21 rfl rfl)
theorem dX2_words_116 : decode cX2_words 116 = .ok (.getfield 17, 3) := dk_180 0 17 (dk_at dksX2_words_5 0 rfl rfl)
theorem dX2_words_119 : decode cX2_words 119 = .ok (.iload 5, 2) := dk_21 5 (dk_at dksX2_words_5 3 rfl rfl)
theorem dX2_words_121 : decode cX2_words 121 = .ok (.iaload, 1) := dk_46 (dk_at dksX2_words_5 5 rfl rfl)
theorem dX2_words_122 : decode cX2_words 122 = .ok (.bipush 97, 2) := dk_16 97 (dk_at dksX2_words_5 6 rfl rfl)
theorem dX2_words_124 : decode cX2_words 124 = .ok (.isub, 1) := dk_100 (dk_at dksX2_words_5 8 rfl rfl)
theorem dX2_words_125 : decode cX2_words 125 = .ok (.ishl, 1) := dk_120 (dk_at dksX2_words_5 9 rfl rfl)
theorem dX2_words_126 : decode cX2_words 126 = .ok (.goto 4, 3) := dk_167 0 4 (dk_at dksX2_words_5 10 rfl rfl)
theorem dX2_words_129 : decode cX2_words 129 = .ok (.iconst 0, 1) := dk_3 (dk_at dksX2_words_5 13 rfl rfl)
theorem dX2_words_130 : decode cX2_words 130 = .ok (.ior, 1) := dk_128 (dk_at dksX2_words_5 14 rfl rfl)
theorem dX2_words_131 : decode cX2_words 131 = .ok (.istore_n 2, 1) := dk_61 (dk_at dksX2_words_5 15 rfl rfl)
theorem dX2_words_132 : decode cX2_words 132 = .ok (.iinc 5 1, 3) := dk_132 5 1 (dk_at dksX2_words_5 16 rfl rfl)
theorem dX2_words_135 : decode cX2_words 135 = .ok (.goto (-78), 3) := dk_167 255 178 (dk_at dksX2_words_5 19 rfl rfl)
theorem dX2_words_138 : decode cX2_words 138 = .ok (.iload_n 3, 1) := dk_29 (dk_at dksX2_words_5 22 rfl rfl)
theorem dX2_words_139 : decode cX2_words 139 = .ok (.ifCond .eq 7, 3) := dk_153 0 7 (dk_at dksX2_words_6 0 rfl rfl)
theorem dX2_words_142 : decode cX2_words 142 = .ok (.aload_n 0, 1) := dk_42 (dk_at dksX2_words_6 3 rfl rfl)
theorem dX2_words_143 : decode cX2_words 143 = .ok (.invokevirtual 142, 3) := dk_182 0 142 (dk_at dksX2_words_6 4 rfl rfl)
theorem dX2_words_146 : decode cX2_words 146 = .ok (.iload_n 3, 1) := dk_29 (dk_at dksX2_words_6 7 rfl rfl)
theorem dX2_words_147 : decode cX2_words 147 = .ok (.ifCond .eq 7, 3) := dk_153 0 7 (dk_at dksX2_words_6 8 rfl rfl)
theorem dX2_words_150 : decode cX2_words 150 = .ok (.iload_n 2, 1) := dk_28 (dk_at dksX2_words_6 11 rfl rfl)
theorem dX2_words_151 : decode cX2_words 151 = .ok (.goto 4, 3) := dk_167 0 4 (dk_at dksX2_words_6 12 rfl rfl)
theorem dX2_words_154 : decode cX2_words 154 = .ok (.iconst 0, 1) := dk_3 (dk_at dksX2_words_6 15 rfl rfl)
theorem dX2_words_155 : decode cX2_words 155 = .ok (.ireturn, 1) := dk_172 (dk_at dksX2_words_6 16 rfl rfl)
abbrev cX2_readsHarbour : ByteArray := prog_18_method_20_code
def yX2_readsHarbour : MethodName := ⟨RX2, "readsHarbour", "()Z"⟩
def dkwX2_readsHarbour_1 : List UInt8 := [180, 0, 155, 153, 0, 19, 42, 180, 0, 7, 16, 108, 27, 96, 3, 79, 132, 1, 1, 167, 255, 230, 4, 172]
abbrev dktX2_readsHarbour_1 : List UInt8 := dkwX2_readsHarbour_1 ++ []
def dkwX2_readsHarbour_0 : List UInt8 := [42, 182, 0, 142, 42, 3, 181, 0, 149, 42, 3, 181, 0, 159, 3, 60, 27, 16, 108, 162, 0, 26, 42]
abbrev dktX2_readsHarbour_0 : List UInt8 := dkwX2_readsHarbour_0 ++ dktX2_readsHarbour_1
theorem dksX2_readsHarbour_0 : cX2_readsHarbour.data.toList.drop 0 = dktX2_readsHarbour_0 := by decide +kernel
theorem dksX2_readsHarbour_1 : cX2_readsHarbour.data.toList.drop 23 = dktX2_readsHarbour_1 := dk_seg dksX2_readsHarbour_0 23 rfl rfl
theorem dX2_readsHarbour_0 : decode cX2_readsHarbour 0 = .ok (.aload_n 0, 1) := dk_42 (dk_at dksX2_readsHarbour_0 0 rfl rfl)
theorem dX2_readsHarbour_1 : decode cX2_readsHarbour 1 = .ok (.invokevirtual 142, 3) := dk_182 0 142 (dk_at dksX2_readsHarbour_0 1 rfl rfl)
theorem dX2_readsHarbour_4 : decode cX2_readsHarbour 4 = .ok (.aload_n 0, 1) := dk_42 (dk_at dksX2_readsHarbour_0 4 rfl rfl)
theorem dX2_readsHarbour_5 : decode cX2_readsHarbour 5 = .ok (.iconst 0, 1) := dk_3 (dk_at dksX2_readsHarbour_0 5 rfl rfl)
theorem dX2_readsHarbour_6 : decode cX2_readsHarbour 6 = .ok (.putfield 149, 3) := dk_181 0 149 (dk_at dksX2_readsHarbour_0 6 rfl rfl)
theorem dX2_readsHarbour_9 : decode cX2_readsHarbour 9 = .ok (.aload_n 0, 1) := dk_42 (dk_at dksX2_readsHarbour_0 9 rfl rfl)
theorem dX2_readsHarbour_10 : decode cX2_readsHarbour 10 = .ok (.iconst 0, 1) := dk_3 (dk_at dksX2_readsHarbour_0 10 rfl rfl)
theorem dX2_readsHarbour_11 : decode cX2_readsHarbour 11 = .ok (.putfield 159, 3) := dk_181 0 159 (dk_at dksX2_readsHarbour_0 11 rfl rfl)
theorem dX2_readsHarbour_14 : decode cX2_readsHarbour 14 = .ok (.iconst 0, 1) := dk_3 (dk_at dksX2_readsHarbour_0 14 rfl rfl)
theorem dX2_readsHarbour_15 : decode cX2_readsHarbour 15 = .ok (.istore_n 1, 1) := dk_60 (dk_at dksX2_readsHarbour_0 15 rfl rfl)
theorem dX2_readsHarbour_16 : decode cX2_readsHarbour 16 = .ok (.iload_n 1, 1) := dk_27 (dk_at dksX2_readsHarbour_0 16 rfl rfl)
theorem dX2_readsHarbour_17 : decode cX2_readsHarbour 17 = .ok (.bipush 108, 2) := dk_16 108 (dk_at dksX2_readsHarbour_0 17 rfl rfl)
theorem dX2_readsHarbour_19 : decode cX2_readsHarbour 19 = .ok (.if_icmp .ge 26, 3) := dk_162 0 26 (dk_at dksX2_readsHarbour_0 19 rfl rfl)
theorem dX2_readsHarbour_22 : decode cX2_readsHarbour 22 = .ok (.aload_n 0, 1) := dk_42 (dk_at dksX2_readsHarbour_0 22 rfl rfl)
theorem dX2_readsHarbour_23 : decode cX2_readsHarbour 23 = .ok (.getfield 155, 3) := dk_180 0 155 (dk_at dksX2_readsHarbour_1 0 rfl rfl)
theorem dX2_readsHarbour_26 : decode cX2_readsHarbour 26 = .ok (.ifCond .eq 19, 3) := dk_153 0 19 (dk_at dksX2_readsHarbour_1 3 rfl rfl)
theorem dX2_readsHarbour_29 : decode cX2_readsHarbour 29 = .ok (.aload_n 0, 1) := dk_42 (dk_at dksX2_readsHarbour_1 6 rfl rfl)
theorem dX2_readsHarbour_30 : decode cX2_readsHarbour 30 = .ok (.getfield 7, 3) := dk_180 0 7 (dk_at dksX2_readsHarbour_1 7 rfl rfl)
theorem dX2_readsHarbour_33 : decode cX2_readsHarbour 33 = .ok (.bipush 108, 2) := dk_16 108 (dk_at dksX2_readsHarbour_1 10 rfl rfl)
theorem dX2_readsHarbour_35 : decode cX2_readsHarbour 35 = .ok (.iload_n 1, 1) := dk_27 (dk_at dksX2_readsHarbour_1 12 rfl rfl)
theorem dX2_readsHarbour_36 : decode cX2_readsHarbour 36 = .ok (.iadd, 1) := dk_96 (dk_at dksX2_readsHarbour_1 13 rfl rfl)
theorem dX2_readsHarbour_37 : decode cX2_readsHarbour 37 = .ok (.iconst 0, 1) := dk_3 (dk_at dksX2_readsHarbour_1 14 rfl rfl)
theorem dX2_readsHarbour_38 : decode cX2_readsHarbour 38 = .ok (.iastore, 1) := dk_79 (dk_at dksX2_readsHarbour_1 15 rfl rfl)
theorem dX2_readsHarbour_39 : decode cX2_readsHarbour 39 = .ok (.iinc 1 1, 3) := dk_132 1 1 (dk_at dksX2_readsHarbour_1 16 rfl rfl)
theorem dX2_readsHarbour_42 : decode cX2_readsHarbour 42 = .ok (.goto (-26), 3) := dk_167 255 230 (dk_at dksX2_readsHarbour_1 19 rfl rfl)
theorem dX2_readsHarbour_45 : decode cX2_readsHarbour 45 = .ok (.iconst 1, 1) := dk_4 (dk_at dksX2_readsHarbour_1 22 rfl rfl)
theorem dX2_readsHarbour_46 : decode cX2_readsHarbour 46 = .ok (.ireturn, 1) := dk_172 (dk_at dksX2_readsHarbour_1 23 rfl rfl)
abbrev cX2_readsKnows : ByteArray := prog_18_method_17_code
def yX2_readsKnows : MethodName := ⟨RX2, "readsKnows", "()Z"⟩
def dkwX2_readsKnows_5 : List UInt8 := [172]
abbrev dktX2_readsKnows_5 : List UInt8 := dkwX2_readsKnows_5 ++ []
def dkwX2_readsKnows_4 : List UInt8 := [42, 180, 0, 7, 17, 0, 128, 16, 10, 27, 104, 96, 21, 4, 96, 46, 79, 132, 4, 1, 167, 255, 194, 4]
abbrev dktX2_readsKnows_4 : List UInt8 := dkwX2_readsKnows_4 ++ dktX2_readsKnows_5
def dkwX2_readsKnows_3 : List UInt8 := [17, 0, 128, 16, 10, 27, 104, 96, 21, 4, 96, 28, 21, 4, 184, 0, 165, 153, 0, 7, 29, 167, 0, 19]
abbrev dktX2_readsKnows_3 : List UInt8 := dkwX2_readsKnows_3 ++ dktX2_readsKnows_4
def dkwX2_readsKnows_2 : List UInt8 := [3, 172, 3, 54, 4, 21, 4, 16, 10, 162, 0, 61, 42, 180, 0, 155, 153, 0, 54, 42, 180, 0, 7]
abbrev dktX2_readsKnows_2 : List UInt8 := dkwX2_readsKnows_2 ++ dktX2_readsKnows_3
def dkwX2_readsKnows_1 : List UInt8 := [182, 0, 162, 61, 28, 154, 0, 7, 2, 167, 0, 9, 42, 16, 10, 182, 0, 152, 62, 29, 2, 160, 0, 5]
abbrev dktX2_readsKnows_1 : List UInt8 := dkwX2_readsKnows_1 ++ dktX2_readsKnows_2
def dkwX2_readsKnows_0 : List UInt8 := [42, 182, 0, 142, 42, 42, 180, 0, 149, 182, 0, 152, 60, 27, 2, 160, 0, 7, 3, 167, 0, 8, 42, 4]
abbrev dktX2_readsKnows_0 : List UInt8 := dkwX2_readsKnows_0 ++ dktX2_readsKnows_1
theorem dksX2_readsKnows_0 : cX2_readsKnows.data.toList.drop 0 = dktX2_readsKnows_0 := by decide +kernel
theorem dksX2_readsKnows_1 : cX2_readsKnows.data.toList.drop 24 = dktX2_readsKnows_1 := dk_seg dksX2_readsKnows_0 24 rfl rfl
theorem dksX2_readsKnows_2 : cX2_readsKnows.data.toList.drop 48 = dktX2_readsKnows_2 := dk_seg dksX2_readsKnows_1 24 rfl rfl
theorem dksX2_readsKnows_3 : cX2_readsKnows.data.toList.drop 71 = dktX2_readsKnows_3 := dk_seg dksX2_readsKnows_2 23 rfl rfl
theorem dksX2_readsKnows_4 : cX2_readsKnows.data.toList.drop 95 = dktX2_readsKnows_4 := dk_seg dksX2_readsKnows_3 24 rfl rfl
theorem dksX2_readsKnows_5 : cX2_readsKnows.data.toList.drop 119 = dktX2_readsKnows_5 := dk_seg dksX2_readsKnows_4 24 rfl rfl
theorem dX2_readsKnows_0 : decode cX2_readsKnows 0 = .ok (.aload_n 0, 1) := dk_42 (dk_at dksX2_readsKnows_0 0 rfl rfl)
theorem dX2_readsKnows_1 : decode cX2_readsKnows 1 = .ok (.invokevirtual 142, 3) := dk_182 0 142 (dk_at dksX2_readsKnows_0 1 rfl rfl)
theorem dX2_readsKnows_4 : decode cX2_readsKnows 4 = .ok (.aload_n 0, 1) := dk_42 (dk_at dksX2_readsKnows_0 4 rfl rfl)
theorem dX2_readsKnows_5 : decode cX2_readsKnows 5 = .ok (.aload_n 0, 1) := dk_42 (dk_at dksX2_readsKnows_0 5 rfl rfl)
theorem dX2_readsKnows_6 : decode cX2_readsKnows 6 = .ok (.getfield 149, 3) := dk_180 0 149 (dk_at dksX2_readsKnows_0 6 rfl rfl)
theorem dX2_readsKnows_9 : decode cX2_readsKnows 9 = .ok (.invokevirtual 152, 3) := dk_182 0 152 (dk_at dksX2_readsKnows_0 9 rfl rfl)
theorem dX2_readsKnows_12 : decode cX2_readsKnows 12 = .ok (.istore_n 1, 1) := dk_60 (dk_at dksX2_readsKnows_0 12 rfl rfl)
theorem dX2_readsKnows_13 : decode cX2_readsKnows 13 = .ok (.iload_n 1, 1) := dk_27 (dk_at dksX2_readsKnows_0 13 rfl rfl)
theorem dX2_readsKnows_14 : decode cX2_readsKnows 14 = .ok (.iconst (-1), 1) := dk_2 (dk_at dksX2_readsKnows_0 14 rfl rfl)
theorem dX2_readsKnows_15 : decode cX2_readsKnows 15 = .ok (.if_icmp .ne 7, 3) := dk_160 0 7 (dk_at dksX2_readsKnows_0 15 rfl rfl)
theorem dX2_readsKnows_18 : decode cX2_readsKnows 18 = .ok (.iconst 0, 1) := dk_3 (dk_at dksX2_readsKnows_0 18 rfl rfl)
theorem dX2_readsKnows_19 : decode cX2_readsKnows 19 = .ok (.goto 8, 3) := dk_167 0 8 (dk_at dksX2_readsKnows_0 19 rfl rfl)
theorem dX2_readsKnows_22 : decode cX2_readsKnows 22 = .ok (.aload_n 0, 1) := dk_42 (dk_at dksX2_readsKnows_0 22 rfl rfl)
theorem dX2_readsKnows_23 : decode cX2_readsKnows 23 = .ok (.iconst 1, 1) := dk_4 (dk_at dksX2_readsKnows_0 23 rfl rfl)
theorem dX2_readsKnows_24 : decode cX2_readsKnows 24 = .ok (.invokevirtual 162, 3) := dk_182 0 162 (dk_at dksX2_readsKnows_1 0 rfl rfl)
theorem dX2_readsKnows_27 : decode cX2_readsKnows 27 = .ok (.istore_n 2, 1) := dk_61 (dk_at dksX2_readsKnows_1 3 rfl rfl)
theorem dX2_readsKnows_28 : decode cX2_readsKnows 28 = .ok (.iload_n 2, 1) := dk_28 (dk_at dksX2_readsKnows_1 4 rfl rfl)
theorem dX2_readsKnows_29 : decode cX2_readsKnows 29 = .ok (.ifCond .ne 7, 3) := dk_154 0 7 (dk_at dksX2_readsKnows_1 5 rfl rfl)
theorem dX2_readsKnows_32 : decode cX2_readsKnows 32 = .ok (.iconst (-1), 1) := dk_2 (dk_at dksX2_readsKnows_1 8 rfl rfl)
theorem dX2_readsKnows_33 : decode cX2_readsKnows 33 = .ok (.goto 9, 3) := dk_167 0 9 (dk_at dksX2_readsKnows_1 9 rfl rfl)
theorem dX2_readsKnows_36 : decode cX2_readsKnows 36 = .ok (.aload_n 0, 1) := dk_42 (dk_at dksX2_readsKnows_1 12 rfl rfl)
theorem dX2_readsKnows_37 : decode cX2_readsKnows 37 = .ok (.bipush 10, 2) := dk_16 10 (dk_at dksX2_readsKnows_1 13 rfl rfl)
theorem dX2_readsKnows_39 : decode cX2_readsKnows 39 = .ok (.invokevirtual 152, 3) := dk_182 0 152 (dk_at dksX2_readsKnows_1 15 rfl rfl)
theorem dX2_readsKnows_42 : decode cX2_readsKnows 42 = .ok (.istore_n 3, 1) := dk_62 (dk_at dksX2_readsKnows_1 18 rfl rfl)
theorem dX2_readsKnows_43 : decode cX2_readsKnows 43 = .ok (.iload_n 3, 1) := dk_29 (dk_at dksX2_readsKnows_1 19 rfl rfl)
theorem dX2_readsKnows_44 : decode cX2_readsKnows 44 = .ok (.iconst (-1), 1) := dk_2 (dk_at dksX2_readsKnows_1 20 rfl rfl)
theorem dX2_readsKnows_45 : decode cX2_readsKnows 45 = .ok (.if_icmp .ne 5, 3) := dk_160 0 5 (dk_at dksX2_readsKnows_1 21 rfl rfl)
theorem dX2_readsKnows_48 : decode cX2_readsKnows 48 = .ok (.iconst 0, 1) := dk_3 (dk_at dksX2_readsKnows_2 0 rfl rfl)
theorem dX2_readsKnows_49 : decode cX2_readsKnows 49 = .ok (.ireturn, 1) := dk_172 (dk_at dksX2_readsKnows_2 1 rfl rfl)
theorem dX2_readsKnows_50 : decode cX2_readsKnows 50 = .ok (.iconst 0, 1) := dk_3 (dk_at dksX2_readsKnows_2 2 rfl rfl)
theorem dX2_readsKnows_51 : decode cX2_readsKnows 51 = .ok (.istore 4, 2) := dk_54 4 (dk_at dksX2_readsKnows_2 3 rfl rfl)
theorem dX2_readsKnows_53 : decode cX2_readsKnows 53 = .ok (.iload 4, 2) := dk_21 4 (dk_at dksX2_readsKnows_2 5 rfl rfl)
theorem dX2_readsKnows_55 : decode cX2_readsKnows 55 = .ok (.bipush 10, 2) := dk_16 10 (dk_at dksX2_readsKnows_2 7 rfl rfl)
theorem dX2_readsKnows_57 : decode cX2_readsKnows 57 = .ok (.if_icmp .ge 61, 3) := dk_162 0 61 (dk_at dksX2_readsKnows_2 9 rfl rfl)
theorem dX2_readsKnows_60 : decode cX2_readsKnows 60 = .ok (.aload_n 0, 1) := dk_42 (dk_at dksX2_readsKnows_2 12 rfl rfl)
theorem dX2_readsKnows_61 : decode cX2_readsKnows 61 = .ok (.getfield 155, 3) := dk_180 0 155 (dk_at dksX2_readsKnows_2 13 rfl rfl)
theorem dX2_readsKnows_64 : decode cX2_readsKnows 64 = .ok (.ifCond .eq 54, 3) := dk_153 0 54 (dk_at dksX2_readsKnows_2 16 rfl rfl)
theorem dX2_readsKnows_67 : decode cX2_readsKnows 67 = .ok (.aload_n 0, 1) := dk_42 (dk_at dksX2_readsKnows_2 19 rfl rfl)
theorem dX2_readsKnows_68 : decode cX2_readsKnows 68 = .ok (.getfield 7, 3) := dk_180 0 7 (dk_at dksX2_readsKnows_2 20 rfl rfl)
theorem dX2_readsKnows_71 : decode cX2_readsKnows 71 = .ok (.sipush 128, 3) := dk_17 0 128 (dk_at dksX2_readsKnows_3 0 rfl rfl)
theorem dX2_readsKnows_74 : decode cX2_readsKnows 74 = .ok (.bipush 10, 2) := dk_16 10 (dk_at dksX2_readsKnows_3 3 rfl rfl)
theorem dX2_readsKnows_76 : decode cX2_readsKnows 76 = .ok (.iload_n 1, 1) := dk_27 (dk_at dksX2_readsKnows_3 5 rfl rfl)
theorem dX2_readsKnows_77 : decode cX2_readsKnows 77 = .ok (.imul, 1) := dk_104 (dk_at dksX2_readsKnows_3 6 rfl rfl)
theorem dX2_readsKnows_78 : decode cX2_readsKnows 78 = .ok (.iadd, 1) := dk_96 (dk_at dksX2_readsKnows_3 7 rfl rfl)
theorem dX2_readsKnows_79 : decode cX2_readsKnows 79 = .ok (.iload 4, 2) := dk_21 4 (dk_at dksX2_readsKnows_3 8 rfl rfl)
theorem dX2_readsKnows_81 : decode cX2_readsKnows 81 = .ok (.iadd, 1) := dk_96 (dk_at dksX2_readsKnows_3 10 rfl rfl)
theorem dX2_readsKnows_82 : decode cX2_readsKnows 82 = .ok (.iload_n 2, 1) := dk_28 (dk_at dksX2_readsKnows_3 11 rfl rfl)
theorem dX2_readsKnows_83 : decode cX2_readsKnows 83 = .ok (.iload 4, 2) := dk_21 4 (dk_at dksX2_readsKnows_3 12 rfl rfl)
theorem dX2_readsKnows_85 : decode cX2_readsKnows 85 = .ok (.invokestatic 165, 3) := dk_184 0 165 (dk_at dksX2_readsKnows_3 14 rfl rfl)
theorem dX2_readsKnows_88 : decode cX2_readsKnows 88 = .ok (.ifCond .eq 7, 3) := dk_153 0 7 (dk_at dksX2_readsKnows_3 17 rfl rfl)
theorem dX2_readsKnows_91 : decode cX2_readsKnows 91 = .ok (.iload_n 3, 1) := dk_29 (dk_at dksX2_readsKnows_3 20 rfl rfl)
theorem dX2_readsKnows_92 : decode cX2_readsKnows 92 = .ok (.goto 19, 3) := dk_167 0 19 (dk_at dksX2_readsKnows_3 21 rfl rfl)
theorem dX2_readsKnows_95 : decode cX2_readsKnows 95 = .ok (.aload_n 0, 1) := dk_42 (dk_at dksX2_readsKnows_4 0 rfl rfl)
theorem dX2_readsKnows_96 : decode cX2_readsKnows 96 = .ok (.getfield 7, 3) := dk_180 0 7 (dk_at dksX2_readsKnows_4 1 rfl rfl)
theorem dX2_readsKnows_99 : decode cX2_readsKnows 99 = .ok (.sipush 128, 3) := dk_17 0 128 (dk_at dksX2_readsKnows_4 4 rfl rfl)
theorem dX2_readsKnows_102 : decode cX2_readsKnows 102 = .ok (.bipush 10, 2) := dk_16 10 (dk_at dksX2_readsKnows_4 7 rfl rfl)
theorem dX2_readsKnows_104 : decode cX2_readsKnows 104 = .ok (.iload_n 1, 1) := dk_27 (dk_at dksX2_readsKnows_4 9 rfl rfl)
theorem dX2_readsKnows_105 : decode cX2_readsKnows 105 = .ok (.imul, 1) := dk_104 (dk_at dksX2_readsKnows_4 10 rfl rfl)
theorem dX2_readsKnows_106 : decode cX2_readsKnows 106 = .ok (.iadd, 1) := dk_96 (dk_at dksX2_readsKnows_4 11 rfl rfl)
theorem dX2_readsKnows_107 : decode cX2_readsKnows 107 = .ok (.iload 4, 2) := dk_21 4 (dk_at dksX2_readsKnows_4 12 rfl rfl)
theorem dX2_readsKnows_109 : decode cX2_readsKnows 109 = .ok (.iadd, 1) := dk_96 (dk_at dksX2_readsKnows_4 14 rfl rfl)
theorem dX2_readsKnows_110 : decode cX2_readsKnows 110 = .ok (.iaload, 1) := dk_46 (dk_at dksX2_readsKnows_4 15 rfl rfl)
theorem dX2_readsKnows_111 : decode cX2_readsKnows 111 = .ok (.iastore, 1) := dk_79 (dk_at dksX2_readsKnows_4 16 rfl rfl)
theorem dX2_readsKnows_112 : decode cX2_readsKnows 112 = .ok (.iinc 4 1, 3) := dk_132 4 1 (dk_at dksX2_readsKnows_4 17 rfl rfl)
theorem dX2_readsKnows_115 : decode cX2_readsKnows 115 = .ok (.goto (-62), 3) := dk_167 255 194 (dk_at dksX2_readsKnows_4 20 rfl rfl)
theorem dX2_readsKnows_118 : decode cX2_readsKnows 118 = .ok (.iconst 1, 1) := dk_4 (dk_at dksX2_readsKnows_4 23 rfl rfl)
theorem dX2_readsKnows_119 : decode cX2_readsKnows 119 = .ok (.ireturn, 1) := dk_172 (dk_at dksX2_readsKnows_5 0 rfl rfl)
abbrev cX2_has : ByteArray := prog_18_method_3_code
def yX2_has : MethodName := ⟨RX2, "has", "(II)Z"⟩
def dkwX2_has_0 : List UInt8 := [26, 27, 122, 4, 126, 4, 160, 0, 7, 4, 167, 0, 4, 3, 172]
abbrev dktX2_has_0 : List UInt8 := dkwX2_has_0 ++ []
theorem dksX2_has_0 : cX2_has.data.toList.drop 0 = dktX2_has_0 := by decide +kernel
theorem dX2_has_0 : decode cX2_has 0 = .ok (.iload_n 0, 1) := dk_26 (dk_at dksX2_has_0 0 rfl rfl)
theorem dX2_has_1 : decode cX2_has 1 = .ok (.iload_n 1, 1) := dk_27 (dk_at dksX2_has_0 1 rfl rfl)
theorem dX2_has_2 : decode cX2_has 2 = .ok (.ishr, 1) := dk_122 (dk_at dksX2_has_0 2 rfl rfl)
theorem dX2_has_3 : decode cX2_has 3 = .ok (.iconst 1, 1) := dk_4 (dk_at dksX2_has_0 3 rfl rfl)
theorem dX2_has_4 : decode cX2_has 4 = .ok (.iand, 1) := dk_126 (dk_at dksX2_has_0 4 rfl rfl)
theorem dX2_has_5 : decode cX2_has 5 = .ok (.iconst 1, 1) := dk_4 (dk_at dksX2_has_0 5 rfl rfl)
theorem dX2_has_6 : decode cX2_has 6 = .ok (.if_icmp .ne 7, 3) := dk_160 0 7 (dk_at dksX2_has_0 6 rfl rfl)
theorem dX2_has_9 : decode cX2_has 9 = .ok (.iconst 1, 1) := dk_4 (dk_at dksX2_has_0 9 rfl rfl)
theorem dX2_has_10 : decode cX2_has 10 = .ok (.goto 4, 3) := dk_167 0 4 (dk_at dksX2_has_0 10 rfl rfl)
theorem dX2_has_13 : decode cX2_has 13 = .ok (.iconst 0, 1) := dk_3 (dk_at dksX2_has_0 13 rfl rfl)
theorem dX2_has_14 : decode cX2_has 14 = .ok (.ireturn, 1) := dk_172 (dk_at dksX2_has_0 14 rfl rfl)
abbrev cX2_readsSits : ByteArray := prog_18_method_18_code
def yX2_readsSits : MethodName := ⟨RX2, "readsSits", "()Z"⟩
def dkwX2_readsSits_5 : List UInt8 := [153, 0, 7, 28, 167, 0, 13, 42, 180, 0, 7, 17, 0, 212, 27, 96, 46, 79, 4, 172]
abbrev dktX2_readsSits_5 : List UInt8 := dkwX2_readsSits_5 ++ []
def dkwX2_readsSits_4 : List UInt8 := [182, 0, 142, 42, 180, 0, 47, 27, 28, 79, 42, 180, 0, 7, 17, 0, 212, 27, 96, 42, 180, 0, 155]
abbrev dktX2_readsSits_4 : List UInt8 := dkwX2_readsSits_4 ++ dktX2_readsSits_5
def dkwX2_readsSits_3 : List UInt8 := [159, 0, 7, 4, 167, 0, 4, 3, 62, 132, 4, 1, 167, 255, 217, 29, 154, 0, 5, 3, 172, 42]
abbrev dktX2_readsSits_3 : List UInt8 := dkwX2_readsSits_3 ++ dktX2_readsSits_4
def dkwX2_readsSits_2 : List UInt8 := [180, 0, 159, 162, 0, 36, 29, 153, 0, 32, 21, 4, 27, 159, 0, 14, 42, 180, 0, 47, 21, 4, 46, 28]
abbrev dktX2_readsSits_2 : List UInt8 := dkwX2_readsSits_2 ++ dktX2_readsSits_3
def dkwX2_readsSits_1 : List UInt8 := [180, 0, 149, 182, 0, 138, 61, 28, 2, 159, 0, 7, 4, 167, 0, 4, 3, 62, 3, 54, 4, 21, 4, 42]
abbrev dktX2_readsSits_1 : List UInt8 := dkwX2_readsSits_1 ++ dktX2_readsSits_2
def dkwX2_readsSits_0 : List UInt8 := [42, 182, 0, 142, 42, 42, 180, 0, 159, 182, 0, 152, 60, 27, 2, 160, 0, 7, 2, 167, 0, 11, 42, 42]
abbrev dktX2_readsSits_0 : List UInt8 := dkwX2_readsSits_0 ++ dktX2_readsSits_1
theorem dksX2_readsSits_0 : cX2_readsSits.data.toList.drop 0 = dktX2_readsSits_0 := by decide +kernel
theorem dksX2_readsSits_1 : cX2_readsSits.data.toList.drop 24 = dktX2_readsSits_1 := dk_seg dksX2_readsSits_0 24 rfl rfl
theorem dksX2_readsSits_2 : cX2_readsSits.data.toList.drop 48 = dktX2_readsSits_2 := dk_seg dksX2_readsSits_1 24 rfl rfl
theorem dksX2_readsSits_3 : cX2_readsSits.data.toList.drop 72 = dktX2_readsSits_3 := dk_seg dksX2_readsSits_2 24 rfl rfl
theorem dksX2_readsSits_4 : cX2_readsSits.data.toList.drop 94 = dktX2_readsSits_4 := dk_seg dksX2_readsSits_3 22 rfl rfl
theorem dksX2_readsSits_5 : cX2_readsSits.data.toList.drop 117 = dktX2_readsSits_5 := dk_seg dksX2_readsSits_4 23 rfl rfl
theorem dX2_readsSits_0 : decode cX2_readsSits 0 = .ok (.aload_n 0, 1) := dk_42 (dk_at dksX2_readsSits_0 0 rfl rfl)
theorem dX2_readsSits_1 : decode cX2_readsSits 1 = .ok (.invokevirtual 142, 3) := dk_182 0 142 (dk_at dksX2_readsSits_0 1 rfl rfl)
theorem dX2_readsSits_4 : decode cX2_readsSits 4 = .ok (.aload_n 0, 1) := dk_42 (dk_at dksX2_readsSits_0 4 rfl rfl)
theorem dX2_readsSits_5 : decode cX2_readsSits 5 = .ok (.aload_n 0, 1) := dk_42 (dk_at dksX2_readsSits_0 5 rfl rfl)
theorem dX2_readsSits_6 : decode cX2_readsSits 6 = .ok (.getfield 159, 3) := dk_180 0 159 (dk_at dksX2_readsSits_0 6 rfl rfl)
theorem dX2_readsSits_9 : decode cX2_readsSits 9 = .ok (.invokevirtual 152, 3) := dk_182 0 152 (dk_at dksX2_readsSits_0 9 rfl rfl)
theorem dX2_readsSits_12 : decode cX2_readsSits 12 = .ok (.istore_n 1, 1) := dk_60 (dk_at dksX2_readsSits_0 12 rfl rfl)
theorem dX2_readsSits_13 : decode cX2_readsSits 13 = .ok (.iload_n 1, 1) := dk_27 (dk_at dksX2_readsSits_0 13 rfl rfl)
theorem dX2_readsSits_14 : decode cX2_readsSits 14 = .ok (.iconst (-1), 1) := dk_2 (dk_at dksX2_readsSits_0 14 rfl rfl)
theorem dX2_readsSits_15 : decode cX2_readsSits 15 = .ok (.if_icmp .ne 7, 3) := dk_160 0 7 (dk_at dksX2_readsSits_0 15 rfl rfl)
theorem dX2_readsSits_18 : decode cX2_readsSits 18 = .ok (.iconst (-1), 1) := dk_2 (dk_at dksX2_readsSits_0 18 rfl rfl)
theorem dX2_readsSits_19 : decode cX2_readsSits 19 = .ok (.goto 11, 3) := dk_167 0 11 (dk_at dksX2_readsSits_0 19 rfl rfl)
theorem dX2_readsSits_22 : decode cX2_readsSits 22 = .ok (.aload_n 0, 1) := dk_42 (dk_at dksX2_readsSits_0 22 rfl rfl)
theorem dX2_readsSits_23 : decode cX2_readsSits 23 = .ok (.aload_n 0, 1) := dk_42 (dk_at dksX2_readsSits_0 23 rfl rfl)
theorem dX2_readsSits_24 : decode cX2_readsSits 24 = .ok (.getfield 149, 3) := dk_180 0 149 (dk_at dksX2_readsSits_1 0 rfl rfl)
theorem dX2_readsSits_27 : decode cX2_readsSits 27 = .ok (.invokevirtual 138, 3) := dk_182 0 138 (dk_at dksX2_readsSits_1 3 rfl rfl)
theorem dX2_readsSits_30 : decode cX2_readsSits 30 = .ok (.istore_n 2, 1) := dk_61 (dk_at dksX2_readsSits_1 6 rfl rfl)
theorem dX2_readsSits_31 : decode cX2_readsSits 31 = .ok (.iload_n 2, 1) := dk_28 (dk_at dksX2_readsSits_1 7 rfl rfl)
theorem dX2_readsSits_32 : decode cX2_readsSits 32 = .ok (.iconst (-1), 1) := dk_2 (dk_at dksX2_readsSits_1 8 rfl rfl)
theorem dX2_readsSits_33 : decode cX2_readsSits 33 = .ok (.if_icmp .eq 7, 3) := dk_159 0 7 (dk_at dksX2_readsSits_1 9 rfl rfl)
theorem dX2_readsSits_36 : decode cX2_readsSits 36 = .ok (.iconst 1, 1) := dk_4 (dk_at dksX2_readsSits_1 12 rfl rfl)
theorem dX2_readsSits_37 : decode cX2_readsSits 37 = .ok (.goto 4, 3) := dk_167 0 4 (dk_at dksX2_readsSits_1 13 rfl rfl)
theorem dX2_readsSits_40 : decode cX2_readsSits 40 = .ok (.iconst 0, 1) := dk_3 (dk_at dksX2_readsSits_1 16 rfl rfl)
theorem dX2_readsSits_41 : decode cX2_readsSits 41 = .ok (.istore_n 3, 1) := dk_62 (dk_at dksX2_readsSits_1 17 rfl rfl)
theorem dX2_readsSits_42 : decode cX2_readsSits 42 = .ok (.iconst 0, 1) := dk_3 (dk_at dksX2_readsSits_1 18 rfl rfl)
theorem dX2_readsSits_43 : decode cX2_readsSits 43 = .ok (.istore 4, 2) := dk_54 4 (dk_at dksX2_readsSits_1 19 rfl rfl)
theorem dX2_readsSits_45 : decode cX2_readsSits 45 = .ok (.iload 4, 2) := dk_21 4 (dk_at dksX2_readsSits_1 21 rfl rfl)
theorem dX2_readsSits_47 : decode cX2_readsSits 47 = .ok (.aload_n 0, 1) := dk_42 (dk_at dksX2_readsSits_1 23 rfl rfl)
theorem dX2_readsSits_48 : decode cX2_readsSits 48 = .ok (.getfield 159, 3) := dk_180 0 159 (dk_at dksX2_readsSits_2 0 rfl rfl)
theorem dX2_readsSits_51 : decode cX2_readsSits 51 = .ok (.if_icmp .ge 36, 3) := dk_162 0 36 (dk_at dksX2_readsSits_2 3 rfl rfl)
theorem dX2_readsSits_54 : decode cX2_readsSits 54 = .ok (.iload_n 3, 1) := dk_29 (dk_at dksX2_readsSits_2 6 rfl rfl)
theorem dX2_readsSits_55 : decode cX2_readsSits 55 = .ok (.ifCond .eq 32, 3) := dk_153 0 32 (dk_at dksX2_readsSits_2 7 rfl rfl)
theorem dX2_readsSits_58 : decode cX2_readsSits 58 = .ok (.iload 4, 2) := dk_21 4 (dk_at dksX2_readsSits_2 10 rfl rfl)
theorem dX2_readsSits_60 : decode cX2_readsSits 60 = .ok (.iload_n 1, 1) := dk_27 (dk_at dksX2_readsSits_2 12 rfl rfl)
theorem dX2_readsSits_61 : decode cX2_readsSits 61 = .ok (.if_icmp .eq 14, 3) := dk_159 0 14 (dk_at dksX2_readsSits_2 13 rfl rfl)
theorem dX2_readsSits_64 : decode cX2_readsSits 64 = .ok (.aload_n 0, 1) := dk_42 (dk_at dksX2_readsSits_2 16 rfl rfl)
theorem dX2_readsSits_65 : decode cX2_readsSits 65 = .ok (.getfield 47, 3) := dk_180 0 47 (dk_at dksX2_readsSits_2 17 rfl rfl)
theorem dX2_readsSits_68 : decode cX2_readsSits 68 = .ok (.iload 4, 2) := dk_21 4 (dk_at dksX2_readsSits_2 20 rfl rfl)
theorem dX2_readsSits_70 : decode cX2_readsSits 70 = .ok (.iaload, 1) := dk_46 (dk_at dksX2_readsSits_2 22 rfl rfl)
theorem dX2_readsSits_71 : decode cX2_readsSits 71 = .ok (.iload_n 2, 1) := dk_28 (dk_at dksX2_readsSits_2 23 rfl rfl)
theorem dX2_readsSits_72 : decode cX2_readsSits 72 = .ok (.if_icmp .eq 7, 3) := dk_159 0 7 (dk_at dksX2_readsSits_3 0 rfl rfl)
theorem dX2_readsSits_75 : decode cX2_readsSits 75 = .ok (.iconst 1, 1) := dk_4 (dk_at dksX2_readsSits_3 3 rfl rfl)
theorem dX2_readsSits_76 : decode cX2_readsSits 76 = .ok (.goto 4, 3) := dk_167 0 4 (dk_at dksX2_readsSits_3 4 rfl rfl)
theorem dX2_readsSits_79 : decode cX2_readsSits 79 = .ok (.iconst 0, 1) := dk_3 (dk_at dksX2_readsSits_3 7 rfl rfl)
theorem dX2_readsSits_80 : decode cX2_readsSits 80 = .ok (.istore_n 3, 1) := dk_62 (dk_at dksX2_readsSits_3 8 rfl rfl)
theorem dX2_readsSits_81 : decode cX2_readsSits 81 = .ok (.iinc 4 1, 3) := dk_132 4 1 (dk_at dksX2_readsSits_3 9 rfl rfl)
theorem dX2_readsSits_84 : decode cX2_readsSits 84 = .ok (.goto (-39), 3) := dk_167 255 217 (dk_at dksX2_readsSits_3 12 rfl rfl)
theorem dX2_readsSits_87 : decode cX2_readsSits 87 = .ok (.iload_n 3, 1) := dk_29 (dk_at dksX2_readsSits_3 15 rfl rfl)
theorem dX2_readsSits_88 : decode cX2_readsSits 88 = .ok (.ifCond .ne 5, 3) := dk_154 0 5 (dk_at dksX2_readsSits_3 16 rfl rfl)
theorem dX2_readsSits_91 : decode cX2_readsSits 91 = .ok (.iconst 0, 1) := dk_3 (dk_at dksX2_readsSits_3 19 rfl rfl)
theorem dX2_readsSits_92 : decode cX2_readsSits 92 = .ok (.ireturn, 1) := dk_172 (dk_at dksX2_readsSits_3 20 rfl rfl)
theorem dX2_readsSits_93 : decode cX2_readsSits 93 = .ok (.aload_n 0, 1) := dk_42 (dk_at dksX2_readsSits_3 21 rfl rfl)
theorem dX2_readsSits_94 : decode cX2_readsSits 94 = .ok (.invokevirtual 142, 3) := dk_182 0 142 (dk_at dksX2_readsSits_4 0 rfl rfl)
theorem dX2_readsSits_97 : decode cX2_readsSits 97 = .ok (.aload_n 0, 1) := dk_42 (dk_at dksX2_readsSits_4 3 rfl rfl)
theorem dX2_readsSits_98 : decode cX2_readsSits 98 = .ok (.getfield 47, 3) := dk_180 0 47 (dk_at dksX2_readsSits_4 4 rfl rfl)
theorem dX2_readsSits_101 : decode cX2_readsSits 101 = .ok (.iload_n 1, 1) := dk_27 (dk_at dksX2_readsSits_4 7 rfl rfl)
theorem dX2_readsSits_102 : decode cX2_readsSits 102 = .ok (.iload_n 2, 1) := dk_28 (dk_at dksX2_readsSits_4 8 rfl rfl)
theorem dX2_readsSits_103 : decode cX2_readsSits 103 = .ok (.iastore, 1) := dk_79 (dk_at dksX2_readsSits_4 9 rfl rfl)
theorem dX2_readsSits_104 : decode cX2_readsSits 104 = .ok (.aload_n 0, 1) := dk_42 (dk_at dksX2_readsSits_4 10 rfl rfl)
theorem dX2_readsSits_105 : decode cX2_readsSits 105 = .ok (.getfield 7, 3) := dk_180 0 7 (dk_at dksX2_readsSits_4 11 rfl rfl)
theorem dX2_readsSits_108 : decode cX2_readsSits 108 = .ok (.sipush 212, 3) := dk_17 0 212 (dk_at dksX2_readsSits_4 14 rfl rfl)
theorem dX2_readsSits_111 : decode cX2_readsSits 111 = .ok (.iload_n 1, 1) := dk_27 (dk_at dksX2_readsSits_4 17 rfl rfl)
theorem dX2_readsSits_112 : decode cX2_readsSits 112 = .ok (.iadd, 1) := dk_96 (dk_at dksX2_readsSits_4 18 rfl rfl)
theorem dX2_readsSits_113 : decode cX2_readsSits 113 = .ok (.aload_n 0, 1) := dk_42 (dk_at dksX2_readsSits_4 19 rfl rfl)
theorem dX2_readsSits_114 : decode cX2_readsSits 114 = .ok (.getfield 155, 3) := dk_180 0 155 (dk_at dksX2_readsSits_4 20 rfl rfl)
theorem dX2_readsSits_117 : decode cX2_readsSits 117 = .ok (.ifCond .eq 7, 3) := dk_153 0 7 (dk_at dksX2_readsSits_5 0 rfl rfl)
theorem dX2_readsSits_120 : decode cX2_readsSits 120 = .ok (.iload_n 2, 1) := dk_28 (dk_at dksX2_readsSits_5 3 rfl rfl)
theorem dX2_readsSits_121 : decode cX2_readsSits 121 = .ok (.goto 13, 3) := dk_167 0 13 (dk_at dksX2_readsSits_5 4 rfl rfl)
theorem dX2_readsSits_124 : decode cX2_readsSits 124 = .ok (.aload_n 0, 1) := dk_42 (dk_at dksX2_readsSits_5 7 rfl rfl)
theorem dX2_readsSits_125 : decode cX2_readsSits 125 = .ok (.getfield 7, 3) := dk_180 0 7 (dk_at dksX2_readsSits_5 8 rfl rfl)
theorem dX2_readsSits_128 : decode cX2_readsSits 128 = .ok (.sipush 212, 3) := dk_17 0 212 (dk_at dksX2_readsSits_5 11 rfl rfl)
theorem dX2_readsSits_131 : decode cX2_readsSits 131 = .ok (.iload_n 1, 1) := dk_27 (dk_at dksX2_readsSits_5 14 rfl rfl)
theorem dX2_readsSits_132 : decode cX2_readsSits 132 = .ok (.iadd, 1) := dk_96 (dk_at dksX2_readsSits_5 15 rfl rfl)
theorem dX2_readsSits_133 : decode cX2_readsSits 133 = .ok (.iaload, 1) := dk_46 (dk_at dksX2_readsSits_5 16 rfl rfl)
theorem dX2_readsSits_134 : decode cX2_readsSits 134 = .ok (.iastore, 1) := dk_79 (dk_at dksX2_readsSits_5 17 rfl rfl)
theorem dX2_readsSits_135 : decode cX2_readsSits 135 = .ok (.iconst 1, 1) := dk_4 (dk_at dksX2_readsSits_5 18 rfl rfl)
theorem dX2_readsSits_136 : decode cX2_readsSits 136 = .ok (.ireturn, 1) := dk_172 (dk_at dksX2_readsSits_5 19 rfl rfl)
abbrev cX2_readsCover : ByteArray := prog_18_method_19_code
def yX2_readsCover : MethodName := ⟨RX2, "readsCover", "()Z"⟩
def dkwX2_readsCover_2 : List UInt8 := [159, 0, 7, 4, 167, 0, 4, 3, 172]
abbrev dktX2_readsCover_2 : List UInt8 := dkwX2_readsCover_2 ++ []
def dkwX2_readsCover_1 : List UInt8 := [180, 0, 155, 153, 0, 14, 27, 2, 159, 0, 9, 4, 27, 120, 167, 0, 4, 3, 128, 79, 27, 2]
abbrev dktX2_readsCover_1 : List UInt8 := dkwX2_readsCover_1 ++ dktX2_readsCover_2
def dkwX2_readsCover_0 : List UInt8 := [42, 182, 0, 142, 42, 42, 180, 0, 149, 182, 0, 152, 60, 42, 180, 0, 7, 16, 111, 92, 46, 42]
abbrev dktX2_readsCover_0 : List UInt8 := dkwX2_readsCover_0 ++ dktX2_readsCover_1
theorem dksX2_readsCover_0 : cX2_readsCover.data.toList.drop 0 = dktX2_readsCover_0 := by decide +kernel
theorem dksX2_readsCover_1 : cX2_readsCover.data.toList.drop 22 = dktX2_readsCover_1 := dk_seg dksX2_readsCover_0 22 rfl rfl
theorem dksX2_readsCover_2 : cX2_readsCover.data.toList.drop 44 = dktX2_readsCover_2 := dk_seg dksX2_readsCover_1 22 rfl rfl
theorem dX2_readsCover_0 : decode cX2_readsCover 0 = .ok (.aload_n 0, 1) := dk_42 (dk_at dksX2_readsCover_0 0 rfl rfl)
theorem dX2_readsCover_1 : decode cX2_readsCover 1 = .ok (.invokevirtual 142, 3) := dk_182 0 142 (dk_at dksX2_readsCover_0 1 rfl rfl)
theorem dX2_readsCover_4 : decode cX2_readsCover 4 = .ok (.aload_n 0, 1) := dk_42 (dk_at dksX2_readsCover_0 4 rfl rfl)
theorem dX2_readsCover_5 : decode cX2_readsCover 5 = .ok (.aload_n 0, 1) := dk_42 (dk_at dksX2_readsCover_0 5 rfl rfl)
theorem dX2_readsCover_6 : decode cX2_readsCover 6 = .ok (.getfield 149, 3) := dk_180 0 149 (dk_at dksX2_readsCover_0 6 rfl rfl)
theorem dX2_readsCover_9 : decode cX2_readsCover 9 = .ok (.invokevirtual 152, 3) := dk_182 0 152 (dk_at dksX2_readsCover_0 9 rfl rfl)
theorem dX2_readsCover_12 : decode cX2_readsCover 12 = .ok (.istore_n 1, 1) := dk_60 (dk_at dksX2_readsCover_0 12 rfl rfl)
theorem dX2_readsCover_13 : decode cX2_readsCover 13 = .ok (.aload_n 0, 1) := dk_42 (dk_at dksX2_readsCover_0 13 rfl rfl)
theorem dX2_readsCover_14 : decode cX2_readsCover 14 = .ok (.getfield 7, 3) := dk_180 0 7 (dk_at dksX2_readsCover_0 14 rfl rfl)
theorem dX2_readsCover_17 : decode cX2_readsCover 17 = .ok (.bipush 111, 2) := dk_16 111 (dk_at dksX2_readsCover_0 17 rfl rfl)
theorem dX2_readsCover_19 : decode cX2_readsCover 19 = .ok (.dup2, 1) := dk_92 (dk_at dksX2_readsCover_0 19 rfl rfl)
theorem dX2_readsCover_20 : decode cX2_readsCover 20 = .ok (.iaload, 1) := dk_46 (dk_at dksX2_readsCover_0 20 rfl rfl)
theorem dX2_readsCover_21 : decode cX2_readsCover 21 = .ok (.aload_n 0, 1) := dk_42 (dk_at dksX2_readsCover_0 21 rfl rfl)
theorem dX2_readsCover_22 : decode cX2_readsCover 22 = .ok (.getfield 155, 3) := dk_180 0 155 (dk_at dksX2_readsCover_1 0 rfl rfl)
theorem dX2_readsCover_25 : decode cX2_readsCover 25 = .ok (.ifCond .eq 14, 3) := dk_153 0 14 (dk_at dksX2_readsCover_1 3 rfl rfl)
theorem dX2_readsCover_28 : decode cX2_readsCover 28 = .ok (.iload_n 1, 1) := dk_27 (dk_at dksX2_readsCover_1 6 rfl rfl)
theorem dX2_readsCover_29 : decode cX2_readsCover 29 = .ok (.iconst (-1), 1) := dk_2 (dk_at dksX2_readsCover_1 7 rfl rfl)
theorem dX2_readsCover_30 : decode cX2_readsCover 30 = .ok (.if_icmp .eq 9, 3) := dk_159 0 9 (dk_at dksX2_readsCover_1 8 rfl rfl)
theorem dX2_readsCover_33 : decode cX2_readsCover 33 = .ok (.iconst 1, 1) := dk_4 (dk_at dksX2_readsCover_1 11 rfl rfl)
theorem dX2_readsCover_34 : decode cX2_readsCover 34 = .ok (.iload_n 1, 1) := dk_27 (dk_at dksX2_readsCover_1 12 rfl rfl)
theorem dX2_readsCover_35 : decode cX2_readsCover 35 = .ok (.ishl, 1) := dk_120 (dk_at dksX2_readsCover_1 13 rfl rfl)
theorem dX2_readsCover_36 : decode cX2_readsCover 36 = .ok (.goto 4, 3) := dk_167 0 4 (dk_at dksX2_readsCover_1 14 rfl rfl)
theorem dX2_readsCover_39 : decode cX2_readsCover 39 = .ok (.iconst 0, 1) := dk_3 (dk_at dksX2_readsCover_1 17 rfl rfl)
theorem dX2_readsCover_40 : decode cX2_readsCover 40 = .ok (.ior, 1) := dk_128 (dk_at dksX2_readsCover_1 18 rfl rfl)
theorem dX2_readsCover_41 : decode cX2_readsCover 41 = .ok (.iastore, 1) := dk_79 (dk_at dksX2_readsCover_1 19 rfl rfl)
theorem dX2_readsCover_42 : decode cX2_readsCover 42 = .ok (.iload_n 1, 1) := dk_27 (dk_at dksX2_readsCover_1 20 rfl rfl)
theorem dX2_readsCover_43 : decode cX2_readsCover 43 = .ok (.iconst (-1), 1) := dk_2 (dk_at dksX2_readsCover_1 21 rfl rfl)
theorem dX2_readsCover_44 : decode cX2_readsCover 44 = .ok (.if_icmp .eq 7, 3) := dk_159 0 7 (dk_at dksX2_readsCover_2 0 rfl rfl)
theorem dX2_readsCover_47 : decode cX2_readsCover 47 = .ok (.iconst 1, 1) := dk_4 (dk_at dksX2_readsCover_2 3 rfl rfl)
theorem dX2_readsCover_48 : decode cX2_readsCover 48 = .ok (.goto 4, 3) := dk_167 0 4 (dk_at dksX2_readsCover_2 4 rfl rfl)
theorem dX2_readsCover_51 : decode cX2_readsCover 51 = .ok (.iconst 0, 1) := dk_3 (dk_at dksX2_readsCover_2 7 rfl rfl)
theorem dX2_readsCover_52 : decode cX2_readsCover 52 = .ok (.ireturn, 1) := dk_172 (dk_at dksX2_readsCover_2 8 rfl rfl)
abbrev cX2_copyHarbour : ByteArray := prog_18_method_23_code
def yX2_copyHarbour : MethodName := ⟨RX2, "copyHarbour", "(II)V"⟩
def dkwX2_copyHarbour_1 : List UInt8 := [132, 3, 1, 167, 255, 231, 177]
abbrev dktX2_copyHarbour_1 : List UInt8 := dkwX2_copyHarbour_1 ++ []
def dkwX2_copyHarbour_0 : List UInt8 := [3, 62, 29, 16, 108, 162, 0, 25, 42, 180, 0, 7, 28, 29, 96, 42, 180, 0, 7, 27, 29, 96, 46, 79]
abbrev dktX2_copyHarbour_0 : List UInt8 := dkwX2_copyHarbour_0 ++ dktX2_copyHarbour_1
theorem dksX2_copyHarbour_0 : cX2_copyHarbour.data.toList.drop 0 = dktX2_copyHarbour_0 := by decide +kernel
theorem dksX2_copyHarbour_1 : cX2_copyHarbour.data.toList.drop 24 = dktX2_copyHarbour_1 := dk_seg dksX2_copyHarbour_0 24 rfl rfl
theorem dX2_copyHarbour_0 : decode cX2_copyHarbour 0 = .ok (.iconst 0, 1) := dk_3 (dk_at dksX2_copyHarbour_0 0 rfl rfl)
theorem dX2_copyHarbour_1 : decode cX2_copyHarbour 1 = .ok (.istore_n 3, 1) := dk_62 (dk_at dksX2_copyHarbour_0 1 rfl rfl)
theorem dX2_copyHarbour_2 : decode cX2_copyHarbour 2 = .ok (.iload_n 3, 1) := dk_29 (dk_at dksX2_copyHarbour_0 2 rfl rfl)
theorem dX2_copyHarbour_3 : decode cX2_copyHarbour 3 = .ok (.bipush 108, 2) := dk_16 108 (dk_at dksX2_copyHarbour_0 3 rfl rfl)
theorem dX2_copyHarbour_5 : decode cX2_copyHarbour 5 = .ok (.if_icmp .ge 25, 3) := dk_162 0 25 (dk_at dksX2_copyHarbour_0 5 rfl rfl)
theorem dX2_copyHarbour_8 : decode cX2_copyHarbour 8 = .ok (.aload_n 0, 1) := dk_42 (dk_at dksX2_copyHarbour_0 8 rfl rfl)
theorem dX2_copyHarbour_9 : decode cX2_copyHarbour 9 = .ok (.getfield 7, 3) := dk_180 0 7 (dk_at dksX2_copyHarbour_0 9 rfl rfl)
theorem dX2_copyHarbour_12 : decode cX2_copyHarbour 12 = .ok (.iload_n 2, 1) := dk_28 (dk_at dksX2_copyHarbour_0 12 rfl rfl)
theorem dX2_copyHarbour_13 : decode cX2_copyHarbour 13 = .ok (.iload_n 3, 1) := dk_29 (dk_at dksX2_copyHarbour_0 13 rfl rfl)
theorem dX2_copyHarbour_14 : decode cX2_copyHarbour 14 = .ok (.iadd, 1) := dk_96 (dk_at dksX2_copyHarbour_0 14 rfl rfl)
theorem dX2_copyHarbour_15 : decode cX2_copyHarbour 15 = .ok (.aload_n 0, 1) := dk_42 (dk_at dksX2_copyHarbour_0 15 rfl rfl)
theorem dX2_copyHarbour_16 : decode cX2_copyHarbour 16 = .ok (.getfield 7, 3) := dk_180 0 7 (dk_at dksX2_copyHarbour_0 16 rfl rfl)
theorem dX2_copyHarbour_19 : decode cX2_copyHarbour 19 = .ok (.iload_n 1, 1) := dk_27 (dk_at dksX2_copyHarbour_0 19 rfl rfl)
theorem dX2_copyHarbour_20 : decode cX2_copyHarbour 20 = .ok (.iload_n 3, 1) := dk_29 (dk_at dksX2_copyHarbour_0 20 rfl rfl)
theorem dX2_copyHarbour_21 : decode cX2_copyHarbour 21 = .ok (.iadd, 1) := dk_96 (dk_at dksX2_copyHarbour_0 21 rfl rfl)
theorem dX2_copyHarbour_22 : decode cX2_copyHarbour 22 = .ok (.iaload, 1) := dk_46 (dk_at dksX2_copyHarbour_0 22 rfl rfl)
theorem dX2_copyHarbour_23 : decode cX2_copyHarbour 23 = .ok (.iastore, 1) := dk_79 (dk_at dksX2_copyHarbour_0 23 rfl rfl)
theorem dX2_copyHarbour_24 : decode cX2_copyHarbour 24 = .ok (.iinc 3 1, 3) := dk_132 3 1 (dk_at dksX2_copyHarbour_1 0 rfl rfl)
theorem dX2_copyHarbour_27 : decode cX2_copyHarbour 27 = .ok (.goto (-25), 3) := dk_167 255 231 (dk_at dksX2_copyHarbour_1 3 rfl rfl)
theorem dX2_copyHarbour_30 : decode cX2_copyHarbour 30 = .ok (.return_, 1) := dk_177 (dk_at dksX2_copyHarbour_1 6 rfl rfl)
abbrev cX2_fault : ByteArray := prog_18_method_26_code
def yX2_fault : MethodName := ⟨RX2, "fault", "(I)I"⟩
def dkwX2_fault_1 : List UInt8 := [3, 182, 0, 198, 153, 0, 7, 2, 167, 0, 7, 42, 180, 0, 128, 172]
abbrev dktX2_fault_1 : List UInt8 := dkwX2_fault_1 ++ []
def dkwX2_fault_0 : List UInt8 := [27, 133, 9, 10, 184, 0, 109, 154, 0, 6, 16, 253, 172, 27, 4, 160, 0, 8, 42, 182, 0, 214, 172, 42]
abbrev dktX2_fault_0 : List UInt8 := dkwX2_fault_0 ++ dktX2_fault_1
theorem dksX2_fault_0 : cX2_fault.data.toList.drop 0 = dktX2_fault_0 := by decide +kernel
theorem dksX2_fault_1 : cX2_fault.data.toList.drop 24 = dktX2_fault_1 := dk_seg dksX2_fault_0 24 rfl rfl
theorem dX2_fault_0 : decode cX2_fault 0 = .ok (.iload_n 1, 1) := dk_27 (dk_at dksX2_fault_0 0 rfl rfl)
theorem dX2_fault_1 : decode cX2_fault 1 = .ok (.i2l, 1) := dk_133 (dk_at dksX2_fault_0 1 rfl rfl)
theorem dX2_fault_2 : decode cX2_fault 2 = .ok (.lconst 0, 1) := dk_9 (dk_at dksX2_fault_0 2 rfl rfl)
theorem dX2_fault_3 : decode cX2_fault 3 = .ok (.lconst 1, 1) := dk_10 (dk_at dksX2_fault_0 3 rfl rfl)
theorem dX2_fault_4 : decode cX2_fault 4 = .ok (.invokestatic 109, 3) := dk_184 0 109 (dk_at dksX2_fault_0 4 rfl rfl)
theorem dX2_fault_7 : decode cX2_fault 7 = .ok (.ifCond .ne 6, 3) := dk_154 0 6 (dk_at dksX2_fault_0 7 rfl rfl)
theorem dX2_fault_10 : decode cX2_fault 10 = .ok (.bipush (-3), 2) := dk_16 253 (dk_at dksX2_fault_0 10 rfl rfl)
theorem dX2_fault_12 : decode cX2_fault 12 = .ok (.ireturn, 1) := dk_172 (dk_at dksX2_fault_0 12 rfl rfl)
theorem dX2_fault_13 : decode cX2_fault 13 = .ok (.iload_n 1, 1) := dk_27 (dk_at dksX2_fault_0 13 rfl rfl)
theorem dX2_fault_14 : decode cX2_fault 14 = .ok (.iconst 1, 1) := dk_4 (dk_at dksX2_fault_0 14 rfl rfl)
theorem dX2_fault_15 : decode cX2_fault 15 = .ok (.if_icmp .ne 8, 3) := dk_160 0 8 (dk_at dksX2_fault_0 15 rfl rfl)
theorem dX2_fault_18 : decode cX2_fault 18 = .ok (.aload_n 0, 1) := dk_42 (dk_at dksX2_fault_0 18 rfl rfl)
theorem dX2_fault_19 : decode cX2_fault 19 = .ok (.invokevirtual 214, 3) := dk_182 0 214 (dk_at dksX2_fault_0 19 rfl rfl)
theorem dX2_fault_22 : decode cX2_fault 22 = .ok (.ireturn, 1) := dk_172 (dk_at dksX2_fault_0 22 rfl rfl)
theorem dX2_fault_23 : decode cX2_fault 23 = .ok (.aload_n 0, 1) := dk_42 (dk_at dksX2_fault_0 23 rfl rfl)
theorem dX2_fault_24 : decode cX2_fault 24 = .ok (.iconst 0, 1) := dk_3 (dk_at dksX2_fault_1 0 rfl rfl)
theorem dX2_fault_25 : decode cX2_fault 25 = .ok (.invokevirtual 198, 3) := dk_182 0 198 (dk_at dksX2_fault_1 1 rfl rfl)
theorem dX2_fault_28 : decode cX2_fault 28 = .ok (.ifCond .eq 7, 3) := dk_153 0 7 (dk_at dksX2_fault_1 4 rfl rfl)
theorem dX2_fault_31 : decode cX2_fault 31 = .ok (.iconst (-1), 1) := dk_2 (dk_at dksX2_fault_1 7 rfl rfl)
theorem dX2_fault_32 : decode cX2_fault 32 = .ok (.goto 7, 3) := dk_167 0 7 (dk_at dksX2_fault_1 8 rfl rfl)
theorem dX2_fault_35 : decode cX2_fault 35 = .ok (.aload_n 0, 1) := dk_42 (dk_at dksX2_fault_1 11 rfl rfl)
theorem dX2_fault_36 : decode cX2_fault 36 = .ok (.getfield 128, 3) := dk_180 0 128 (dk_at dksX2_fault_1 12 rfl rfl)
theorem dX2_fault_39 : decode cX2_fault 39 = .ok (.ireturn, 1) := dk_172 (dk_at dksX2_fault_1 15 rfl rfl)
abbrev cX2_tongueFault : ByteArray := prog_18_method_25_code
def yX2_tongueFault : MethodName := ⟨RX2, "tongueFault", "()I"⟩
def dkwX2_tongueFault_9 : List UInt8 := [167, 0, 4, 2, 172]
abbrev dktX2_tongueFault_9 : List UInt8 := dkwX2_tongueFault_9 ++ []
def dkwX2_tongueFault_8 : List UInt8 := [167, 0, 4, 3, 61, 132, 4, 1, 167, 255, 69, 27, 154, 0, 7, 29, 158, 0, 10, 42, 180, 0, 113]
abbrev dktX2_tongueFault_8 : List UInt8 := dkwX2_tongueFault_8 ++ dktX2_tongueFault_9
def dkwX2_tongueFault_7 : List UInt8 := [16, 124, 160, 0, 7, 4, 167, 0, 4, 3, 60, 21, 6, 154, 0, 10, 21, 5, 16, 41, 160, 0, 7, 4]
abbrev dktX2_tongueFault_7 : List UInt8 := dkwX2_tongueFault_7 ++ dktX2_tongueFault_8
def dkwX2_tongueFault_6 : List UInt8 := [21, 5, 16, 41, 160, 0, 7, 2, 167, 0, 4, 3, 96, 62, 21, 5, 16, 40, 159, 0, 10, 21, 5]
abbrev dktX2_tongueFault_6 : List UInt8 := dkwX2_tongueFault_6 ++ dktX2_tongueFault_7
def dkwX2_tongueFault_5 : List UInt8 := [3, 54, 7, 21, 7, 154, 0, 6, 21, 4, 172, 29, 21, 5, 16, 40, 160, 0, 7, 4, 167, 0, 15]
abbrev dktX2_tongueFault_5 : List UInt8 := dkwX2_tongueFault_5 ++ dktX2_tongueFault_6
def dkwX2_tongueFault_4 : List UInt8 := [16, 41, 160, 0, 7, 29, 157, 0, 14, 21, 5, 16, 42, 160, 0, 11, 28, 153, 0, 7, 4, 167, 0, 4]
abbrev dktX2_tongueFault_4 : List UInt8 := dkwX2_tongueFault_4 ++ dktX2_tongueFault_5
def dkwX2_tongueFault_3 : List UInt8 := [16, 40, 160, 0, 9, 29, 16, 6, 161, 0, 36, 27, 154, 0, 36, 21, 5, 16, 124, 159, 0, 25, 21, 5]
abbrev dktX2_tongueFault_3 : List UInt8 := dkwX2_tongueFault_3 ++ dktX2_tongueFault_4
def dkwX2_tongueFault_2 : List UInt8 := [154, 0, 10, 21, 5, 16, 46, 160, 0, 7, 4, 167, 0, 4, 3, 54, 6, 21, 6, 154, 0, 49, 21, 5]
abbrev dktX2_tongueFault_2 : List UInt8 := dkwX2_tongueFault_2 ++ dktX2_tongueFault_3
def dkwX2_tongueFault_1 : List UInt8 := [46, 54, 5, 21, 5, 16, 32, 159, 0, 162, 21, 5, 133, 20, 0, 117, 20, 0, 212, 184, 0, 109]
abbrev dktX2_tongueFault_1 : List UInt8 := dkwX2_tongueFault_1 ++ dktX2_tongueFault_2
def dkwX2_tongueFault_0 : List UInt8 := [4, 60, 3, 61, 3, 62, 3, 54, 4, 21, 4, 42, 180, 0, 113, 162, 0, 184, 42, 180, 0, 17, 21, 4]
abbrev dktX2_tongueFault_0 : List UInt8 := dkwX2_tongueFault_0 ++ dktX2_tongueFault_1
theorem dksX2_tongueFault_0 : cX2_tongueFault.data.toList.drop 0 = dktX2_tongueFault_0 := by decide +kernel
theorem dksX2_tongueFault_1 : cX2_tongueFault.data.toList.drop 24 = dktX2_tongueFault_1 := dk_seg dksX2_tongueFault_0 24 rfl rfl
theorem dksX2_tongueFault_2 : cX2_tongueFault.data.toList.drop 46 = dktX2_tongueFault_2 := dk_seg dksX2_tongueFault_1 22 rfl rfl
theorem dksX2_tongueFault_3 : cX2_tongueFault.data.toList.drop 70 = dktX2_tongueFault_3 := dk_seg dksX2_tongueFault_2 24 rfl rfl
theorem dksX2_tongueFault_4 : cX2_tongueFault.data.toList.drop 94 = dktX2_tongueFault_4 := dk_seg dksX2_tongueFault_3 24 rfl rfl
theorem dksX2_tongueFault_5 : cX2_tongueFault.data.toList.drop 118 = dktX2_tongueFault_5 := dk_seg dksX2_tongueFault_4 24 rfl rfl
theorem dksX2_tongueFault_6 : cX2_tongueFault.data.toList.drop 141 = dktX2_tongueFault_6 := dk_seg dksX2_tongueFault_5 23 rfl rfl
theorem dksX2_tongueFault_7 : cX2_tongueFault.data.toList.drop 164 = dktX2_tongueFault_7 := dk_seg dksX2_tongueFault_6 23 rfl rfl
theorem dksX2_tongueFault_8 : cX2_tongueFault.data.toList.drop 188 = dktX2_tongueFault_8 := dk_seg dksX2_tongueFault_7 24 rfl rfl
theorem dksX2_tongueFault_9 : cX2_tongueFault.data.toList.drop 211 = dktX2_tongueFault_9 := dk_seg dksX2_tongueFault_8 23 rfl rfl
theorem dX2_tongueFault_0 : decode cX2_tongueFault 0 = .ok (.iconst 1, 1) := dk_4 (dk_at dksX2_tongueFault_0 0 rfl rfl)
theorem dX2_tongueFault_1 : decode cX2_tongueFault 1 = .ok (.istore_n 1, 1) := dk_60 (dk_at dksX2_tongueFault_0 1 rfl rfl)
theorem dX2_tongueFault_2 : decode cX2_tongueFault 2 = .ok (.iconst 0, 1) := dk_3 (dk_at dksX2_tongueFault_0 2 rfl rfl)
theorem dX2_tongueFault_3 : decode cX2_tongueFault 3 = .ok (.istore_n 2, 1) := dk_61 (dk_at dksX2_tongueFault_0 3 rfl rfl)
theorem dX2_tongueFault_4 : decode cX2_tongueFault 4 = .ok (.iconst 0, 1) := dk_3 (dk_at dksX2_tongueFault_0 4 rfl rfl)
theorem dX2_tongueFault_5 : decode cX2_tongueFault 5 = .ok (.istore_n 3, 1) := dk_62 (dk_at dksX2_tongueFault_0 5 rfl rfl)
theorem dX2_tongueFault_6 : decode cX2_tongueFault 6 = .ok (.iconst 0, 1) := dk_3 (dk_at dksX2_tongueFault_0 6 rfl rfl)
theorem dX2_tongueFault_7 : decode cX2_tongueFault 7 = .ok (.istore 4, 2) := dk_54 4 (dk_at dksX2_tongueFault_0 7 rfl rfl)
theorem dX2_tongueFault_9 : decode cX2_tongueFault 9 = .ok (.iload 4, 2) := dk_21 4 (dk_at dksX2_tongueFault_0 9 rfl rfl)
theorem dX2_tongueFault_11 : decode cX2_tongueFault 11 = .ok (.aload_n 0, 1) := dk_42 (dk_at dksX2_tongueFault_0 11 rfl rfl)
theorem dX2_tongueFault_12 : decode cX2_tongueFault 12 = .ok (.getfield 113, 3) := dk_180 0 113 (dk_at dksX2_tongueFault_0 12 rfl rfl)
theorem dX2_tongueFault_15 : decode cX2_tongueFault 15 = .ok (.if_icmp .ge 184, 3) := dk_162 0 184 (dk_at dksX2_tongueFault_0 15 rfl rfl)
theorem dX2_tongueFault_18 : decode cX2_tongueFault 18 = .ok (.aload_n 0, 1) := dk_42 (dk_at dksX2_tongueFault_0 18 rfl rfl)
theorem dX2_tongueFault_19 : decode cX2_tongueFault 19 = .ok (.getfield 17, 3) := dk_180 0 17 (dk_at dksX2_tongueFault_0 19 rfl rfl)
theorem dX2_tongueFault_22 : decode cX2_tongueFault 22 = .ok (.iload 4, 2) := dk_21 4 (dk_at dksX2_tongueFault_0 22 rfl rfl)
theorem dX2_tongueFault_24 : decode cX2_tongueFault 24 = .ok (.iaload, 1) := dk_46 (dk_at dksX2_tongueFault_1 0 rfl rfl)
theorem dX2_tongueFault_25 : decode cX2_tongueFault 25 = .ok (.istore 5, 2) := dk_54 5 (dk_at dksX2_tongueFault_1 1 rfl rfl)
theorem dX2_tongueFault_27 : decode cX2_tongueFault 27 = .ok (.iload 5, 2) := dk_21 5 (dk_at dksX2_tongueFault_1 3 rfl rfl)
theorem dX2_tongueFault_29 : decode cX2_tongueFault 29 = .ok (.bipush 32, 2) := dk_16 32 (dk_at dksX2_tongueFault_1 5 rfl rfl)
theorem dX2_tongueFault_31 : decode cX2_tongueFault 31 = .ok (.if_icmp .eq 162, 3) := dk_159 0 162 (dk_at dksX2_tongueFault_1 7 rfl rfl)
theorem dX2_tongueFault_34 : decode cX2_tongueFault 34 = .ok (.iload 5, 2) := dk_21 5 (dk_at dksX2_tongueFault_1 10 rfl rfl)
theorem dX2_tongueFault_36 : decode cX2_tongueFault 36 = .ok (.i2l, 1) := dk_133 (dk_at dksX2_tongueFault_1 12 rfl rfl)
theorem dX2_tongueFault_37 : decode cX2_tongueFault 37 = .ok (.ldc2_w 117, 3) := dk_20 0 117 (dk_at dksX2_tongueFault_1 13 rfl rfl)
theorem dX2_tongueFault_40 : decode cX2_tongueFault 40 = .ok (.ldc2_w 212, 3) := dk_20 0 212 (dk_at dksX2_tongueFault_1 16 rfl rfl)
theorem dX2_tongueFault_43 : decode cX2_tongueFault 43 = .ok (.invokestatic 109, 3) := dk_184 0 109 (dk_at dksX2_tongueFault_1 19 rfl rfl)
theorem dX2_tongueFault_46 : decode cX2_tongueFault 46 = .ok (.ifCond .ne 10, 3) := dk_154 0 10 (dk_at dksX2_tongueFault_2 0 rfl rfl)
theorem dX2_tongueFault_49 : decode cX2_tongueFault 49 = .ok (.iload 5, 2) := dk_21 5 (dk_at dksX2_tongueFault_2 3 rfl rfl)
theorem dX2_tongueFault_51 : decode cX2_tongueFault 51 = .ok (.bipush 46, 2) := dk_16 46 (dk_at dksX2_tongueFault_2 5 rfl rfl)
theorem dX2_tongueFault_53 : decode cX2_tongueFault 53 = .ok (.if_icmp .ne 7, 3) := dk_160 0 7 (dk_at dksX2_tongueFault_2 7 rfl rfl)
theorem dX2_tongueFault_56 : decode cX2_tongueFault 56 = .ok (.iconst 1, 1) := dk_4 (dk_at dksX2_tongueFault_2 10 rfl rfl)
theorem dX2_tongueFault_57 : decode cX2_tongueFault 57 = .ok (.goto 4, 3) := dk_167 0 4 (dk_at dksX2_tongueFault_2 11 rfl rfl)
theorem dX2_tongueFault_60 : decode cX2_tongueFault 60 = .ok (.iconst 0, 1) := dk_3 (dk_at dksX2_tongueFault_2 14 rfl rfl)
theorem dX2_tongueFault_61 : decode cX2_tongueFault 61 = .ok (.istore 6, 2) := dk_54 6 (dk_at dksX2_tongueFault_2 15 rfl rfl)
theorem dX2_tongueFault_63 : decode cX2_tongueFault 63 = .ok (.iload 6, 2) := dk_21 6 (dk_at dksX2_tongueFault_2 17 rfl rfl)
theorem dX2_tongueFault_65 : decode cX2_tongueFault 65 = .ok (.ifCond .ne 49, 3) := dk_154 0 49 (dk_at dksX2_tongueFault_2 19 rfl rfl)
theorem dX2_tongueFault_68 : decode cX2_tongueFault 68 = .ok (.iload 5, 2) := dk_21 5 (dk_at dksX2_tongueFault_2 22 rfl rfl)
theorem dX2_tongueFault_70 : decode cX2_tongueFault 70 = .ok (.bipush 40, 2) := dk_16 40 (dk_at dksX2_tongueFault_3 0 rfl rfl)
theorem dX2_tongueFault_72 : decode cX2_tongueFault 72 = .ok (.if_icmp .ne 9, 3) := dk_160 0 9 (dk_at dksX2_tongueFault_3 2 rfl rfl)
theorem dX2_tongueFault_75 : decode cX2_tongueFault 75 = .ok (.iload_n 3, 1) := dk_29 (dk_at dksX2_tongueFault_3 5 rfl rfl)
theorem dX2_tongueFault_76 : decode cX2_tongueFault 76 = .ok (.bipush 6, 2) := dk_16 6 (dk_at dksX2_tongueFault_3 6 rfl rfl)
theorem dX2_tongueFault_78 : decode cX2_tongueFault 78 = .ok (.if_icmp .lt 36, 3) := dk_161 0 36 (dk_at dksX2_tongueFault_3 8 rfl rfl)
theorem dX2_tongueFault_81 : decode cX2_tongueFault 81 = .ok (.iload_n 1, 1) := dk_27 (dk_at dksX2_tongueFault_3 11 rfl rfl)
theorem dX2_tongueFault_82 : decode cX2_tongueFault 82 = .ok (.ifCond .ne 36, 3) := dk_154 0 36 (dk_at dksX2_tongueFault_3 12 rfl rfl)
theorem dX2_tongueFault_85 : decode cX2_tongueFault 85 = .ok (.iload 5, 2) := dk_21 5 (dk_at dksX2_tongueFault_3 15 rfl rfl)
theorem dX2_tongueFault_87 : decode cX2_tongueFault 87 = .ok (.bipush 124, 2) := dk_16 124 (dk_at dksX2_tongueFault_3 17 rfl rfl)
theorem dX2_tongueFault_89 : decode cX2_tongueFault 89 = .ok (.if_icmp .eq 25, 3) := dk_159 0 25 (dk_at dksX2_tongueFault_3 19 rfl rfl)
theorem dX2_tongueFault_92 : decode cX2_tongueFault 92 = .ok (.iload 5, 2) := dk_21 5 (dk_at dksX2_tongueFault_3 22 rfl rfl)
theorem dX2_tongueFault_94 : decode cX2_tongueFault 94 = .ok (.bipush 41, 2) := dk_16 41 (dk_at dksX2_tongueFault_4 0 rfl rfl)
theorem dX2_tongueFault_96 : decode cX2_tongueFault 96 = .ok (.if_icmp .ne 7, 3) := dk_160 0 7 (dk_at dksX2_tongueFault_4 2 rfl rfl)
theorem dX2_tongueFault_99 : decode cX2_tongueFault 99 = .ok (.iload_n 3, 1) := dk_29 (dk_at dksX2_tongueFault_4 5 rfl rfl)
theorem dX2_tongueFault_100 : decode cX2_tongueFault 100 = .ok (.ifCond .gt 14, 3) := dk_157 0 14 (dk_at dksX2_tongueFault_4 6 rfl rfl)
theorem dX2_tongueFault_103 : decode cX2_tongueFault 103 = .ok (.iload 5, 2) := dk_21 5 (dk_at dksX2_tongueFault_4 9 rfl rfl)
theorem dX2_tongueFault_105 : decode cX2_tongueFault 105 = .ok (.bipush 42, 2) := dk_16 42 (dk_at dksX2_tongueFault_4 11 rfl rfl)
theorem dX2_tongueFault_107 : decode cX2_tongueFault 107 = .ok (.if_icmp .ne 11, 3) := dk_160 0 11 (dk_at dksX2_tongueFault_4 13 rfl rfl)
theorem dX2_tongueFault_110 : decode cX2_tongueFault 110 = .ok (.iload_n 2, 1) := dk_28 (dk_at dksX2_tongueFault_4 16 rfl rfl)
theorem dX2_tongueFault_111 : decode cX2_tongueFault 111 = .ok (.ifCond .eq 7, 3) := dk_153 0 7 (dk_at dksX2_tongueFault_4 17 rfl rfl)
theorem dX2_tongueFault_114 : decode cX2_tongueFault 114 = .ok (.iconst 1, 1) := dk_4 (dk_at dksX2_tongueFault_4 20 rfl rfl)
theorem dX2_tongueFault_115 : decode cX2_tongueFault 115 = .ok (.goto 4, 3) := dk_167 0 4 (dk_at dksX2_tongueFault_4 21 rfl rfl)
theorem dX2_tongueFault_118 : decode cX2_tongueFault 118 = .ok (.iconst 0, 1) := dk_3 (dk_at dksX2_tongueFault_5 0 rfl rfl)
theorem dX2_tongueFault_119 : decode cX2_tongueFault 119 = .ok (.istore 7, 2) := dk_54 7 (dk_at dksX2_tongueFault_5 1 rfl rfl)
theorem dX2_tongueFault_121 : decode cX2_tongueFault 121 = .ok (.iload 7, 2) := dk_21 7 (dk_at dksX2_tongueFault_5 3 rfl rfl)
theorem dX2_tongueFault_123 : decode cX2_tongueFault 123 = .ok (.ifCond .ne 6, 3) := dk_154 0 6 (dk_at dksX2_tongueFault_5 5 rfl rfl)
theorem dX2_tongueFault_126 : decode cX2_tongueFault 126 = .ok (.iload 4, 2) := dk_21 4 (dk_at dksX2_tongueFault_5 8 rfl rfl)
theorem dX2_tongueFault_128 : decode cX2_tongueFault 128 = .ok (.ireturn, 1) := dk_172 (dk_at dksX2_tongueFault_5 10 rfl rfl)
theorem dX2_tongueFault_129 : decode cX2_tongueFault 129 = .ok (.iload_n 3, 1) := dk_29 (dk_at dksX2_tongueFault_5 11 rfl rfl)
theorem dX2_tongueFault_130 : decode cX2_tongueFault 130 = .ok (.iload 5, 2) := dk_21 5 (dk_at dksX2_tongueFault_5 12 rfl rfl)
theorem dX2_tongueFault_132 : decode cX2_tongueFault 132 = .ok (.bipush 40, 2) := dk_16 40 (dk_at dksX2_tongueFault_5 14 rfl rfl)
theorem dX2_tongueFault_134 : decode cX2_tongueFault 134 = .ok (.if_icmp .ne 7, 3) := dk_160 0 7 (dk_at dksX2_tongueFault_5 16 rfl rfl)
theorem dX2_tongueFault_137 : decode cX2_tongueFault 137 = .ok (.iconst 1, 1) := dk_4 (dk_at dksX2_tongueFault_5 19 rfl rfl)
theorem dX2_tongueFault_138 : decode cX2_tongueFault 138 = .ok (.goto 15, 3) := dk_167 0 15 (dk_at dksX2_tongueFault_5 20 rfl rfl)
theorem dX2_tongueFault_141 : decode cX2_tongueFault 141 = .ok (.iload 5, 2) := dk_21 5 (dk_at dksX2_tongueFault_6 0 rfl rfl)
theorem dX2_tongueFault_143 : decode cX2_tongueFault 143 = .ok (.bipush 41, 2) := dk_16 41 (dk_at dksX2_tongueFault_6 2 rfl rfl)
theorem dX2_tongueFault_145 : decode cX2_tongueFault 145 = .ok (.if_icmp .ne 7, 3) := dk_160 0 7 (dk_at dksX2_tongueFault_6 4 rfl rfl)
theorem dX2_tongueFault_148 : decode cX2_tongueFault 148 = .ok (.iconst (-1), 1) := dk_2 (dk_at dksX2_tongueFault_6 7 rfl rfl)
theorem dX2_tongueFault_149 : decode cX2_tongueFault 149 = .ok (.goto 4, 3) := dk_167 0 4 (dk_at dksX2_tongueFault_6 8 rfl rfl)
theorem dX2_tongueFault_152 : decode cX2_tongueFault 152 = .ok (.iconst 0, 1) := dk_3 (dk_at dksX2_tongueFault_6 11 rfl rfl)
theorem dX2_tongueFault_153 : decode cX2_tongueFault 153 = .ok (.iadd, 1) := dk_96 (dk_at dksX2_tongueFault_6 12 rfl rfl)
theorem dX2_tongueFault_154 : decode cX2_tongueFault 154 = .ok (.istore_n 3, 1) := dk_62 (dk_at dksX2_tongueFault_6 13 rfl rfl)
theorem dX2_tongueFault_155 : decode cX2_tongueFault 155 = .ok (.iload 5, 2) := dk_21 5 (dk_at dksX2_tongueFault_6 14 rfl rfl)
theorem dX2_tongueFault_157 : decode cX2_tongueFault 157 = .ok (.bipush 40, 2) := dk_16 40 (dk_at dksX2_tongueFault_6 16 rfl rfl)
theorem dX2_tongueFault_159 : decode cX2_tongueFault 159 = .ok (.if_icmp .eq 10, 3) := dk_159 0 10 (dk_at dksX2_tongueFault_6 18 rfl rfl)
theorem dX2_tongueFault_162 : decode cX2_tongueFault 162 = .ok (.iload 5, 2) := dk_21 5 (dk_at dksX2_tongueFault_6 21 rfl rfl)
theorem dX2_tongueFault_164 : decode cX2_tongueFault 164 = .ok (.bipush 124, 2) := dk_16 124 (dk_at dksX2_tongueFault_7 0 rfl rfl)
theorem dX2_tongueFault_166 : decode cX2_tongueFault 166 = .ok (.if_icmp .ne 7, 3) := dk_160 0 7 (dk_at dksX2_tongueFault_7 2 rfl rfl)
theorem dX2_tongueFault_169 : decode cX2_tongueFault 169 = .ok (.iconst 1, 1) := dk_4 (dk_at dksX2_tongueFault_7 5 rfl rfl)
theorem dX2_tongueFault_170 : decode cX2_tongueFault 170 = .ok (.goto 4, 3) := dk_167 0 4 (dk_at dksX2_tongueFault_7 6 rfl rfl)
theorem dX2_tongueFault_173 : decode cX2_tongueFault 173 = .ok (.iconst 0, 1) := dk_3 (dk_at dksX2_tongueFault_7 9 rfl rfl)
theorem dX2_tongueFault_174 : decode cX2_tongueFault 174 = .ok (.istore_n 1, 1) := dk_60 (dk_at dksX2_tongueFault_7 10 rfl rfl)
theorem dX2_tongueFault_175 : decode cX2_tongueFault 175 = .ok (.iload 6, 2) := dk_21 6 (dk_at dksX2_tongueFault_7 11 rfl rfl)
theorem dX2_tongueFault_177 : decode cX2_tongueFault 177 = .ok (.ifCond .ne 10, 3) := dk_154 0 10 (dk_at dksX2_tongueFault_7 13 rfl rfl)
theorem dX2_tongueFault_180 : decode cX2_tongueFault 180 = .ok (.iload 5, 2) := dk_21 5 (dk_at dksX2_tongueFault_7 16 rfl rfl)
theorem dX2_tongueFault_182 : decode cX2_tongueFault 182 = .ok (.bipush 41, 2) := dk_16 41 (dk_at dksX2_tongueFault_7 18 rfl rfl)
theorem dX2_tongueFault_184 : decode cX2_tongueFault 184 = .ok (.if_icmp .ne 7, 3) := dk_160 0 7 (dk_at dksX2_tongueFault_7 20 rfl rfl)
theorem dX2_tongueFault_187 : decode cX2_tongueFault 187 = .ok (.iconst 1, 1) := dk_4 (dk_at dksX2_tongueFault_7 23 rfl rfl)
theorem dX2_tongueFault_188 : decode cX2_tongueFault 188 = .ok (.goto 4, 3) := dk_167 0 4 (dk_at dksX2_tongueFault_8 0 rfl rfl)
theorem dX2_tongueFault_191 : decode cX2_tongueFault 191 = .ok (.iconst 0, 1) := dk_3 (dk_at dksX2_tongueFault_8 3 rfl rfl)
theorem dX2_tongueFault_192 : decode cX2_tongueFault 192 = .ok (.istore_n 2, 1) := dk_61 (dk_at dksX2_tongueFault_8 4 rfl rfl)
theorem dX2_tongueFault_193 : decode cX2_tongueFault 193 = .ok (.iinc 4 1, 3) := dk_132 4 1 (dk_at dksX2_tongueFault_8 5 rfl rfl)
theorem dX2_tongueFault_196 : decode cX2_tongueFault 196 = .ok (.goto (-187), 3) := dk_167 255 69 (dk_at dksX2_tongueFault_8 8 rfl rfl)
theorem dX2_tongueFault_199 : decode cX2_tongueFault 199 = .ok (.iload_n 1, 1) := dk_27 (dk_at dksX2_tongueFault_8 11 rfl rfl)
theorem dX2_tongueFault_200 : decode cX2_tongueFault 200 = .ok (.ifCond .ne 7, 3) := dk_154 0 7 (dk_at dksX2_tongueFault_8 12 rfl rfl)
theorem dX2_tongueFault_203 : decode cX2_tongueFault 203 = .ok (.iload_n 3, 1) := dk_29 (dk_at dksX2_tongueFault_8 15 rfl rfl)
theorem dX2_tongueFault_204 : decode cX2_tongueFault 204 = .ok (.ifCond .le 10, 3) := dk_158 0 10 (dk_at dksX2_tongueFault_8 16 rfl rfl)
theorem dX2_tongueFault_207 : decode cX2_tongueFault 207 = .ok (.aload_n 0, 1) := dk_42 (dk_at dksX2_tongueFault_8 19 rfl rfl)
theorem dX2_tongueFault_208 : decode cX2_tongueFault 208 = .ok (.getfield 113, 3) := dk_180 0 113 (dk_at dksX2_tongueFault_8 20 rfl rfl)
theorem dX2_tongueFault_211 : decode cX2_tongueFault 211 = .ok (.goto 4, 3) := dk_167 0 4 (dk_at dksX2_tongueFault_9 0 rfl rfl)
theorem dX2_tongueFault_214 : decode cX2_tongueFault 214 = .ok (.iconst (-1), 1) := dk_2 (dk_at dksX2_tongueFault_9 3 rfl rfl)
theorem dX2_tongueFault_215 : decode cX2_tongueFault 215 = .ok (.ireturn, 1) := dk_172 (dk_at dksX2_tongueFault_9 4 rfl rfl)
abbrev cX2_tongue : ByteArray := prog_18_method_28_code
def yX2_tongue : MethodName := ⟨RX2, "tongue", "()I"⟩
def dkwX2_tongue_6 : List UInt8 := [42, 3, 181, 0, 113, 27, 172]
abbrev dktX2_tongue_6 : List UInt8 := dkwX2_tongue_6 ++ []
def dkwX2_tongue_5 : List UInt8 := [180, 0, 29, 42, 180, 0, 217, 16, 41, 79, 42, 89, 180, 0, 217, 4, 96, 181, 0, 217, 42, 182, 0, 220]
abbrev dktX2_tongue_5 : List UInt8 := dkwX2_tongue_5 ++ dktX2_tongue_6
def dkwX2_tongue_4 : List UInt8 := [180, 0, 17, 28, 46, 16, 46, 160, 0, 7, 4, 167, 0, 4, 3, 96, 60, 132, 2, 1, 167, 255, 171, 42]
abbrev dktX2_tongue_4 : List UInt8 := dkwX2_tongue_4 ++ dktX2_tongue_5
def dkwX2_tongue_3 : List UInt8 := [181, 0, 217, 27, 42, 180, 0, 17, 28, 46, 133, 20, 0, 117, 20, 0, 212, 184, 0, 109, 154, 0, 14, 42]
abbrev dktX2_tongue_3 : List UInt8 := dkwX2_tongue_3 ++ dktX2_tongue_4
def dkwX2_tongue_2 : List UInt8 := [42, 180, 0, 29, 42, 180, 0, 217, 42, 180, 0, 17, 28, 46, 79, 42, 89, 180, 0, 217, 4, 96]
abbrev dktX2_tongue_2 : List UInt8 := dkwX2_tongue_2 ++ dktX2_tongue_3
def dkwX2_tongue_1 : List UInt8 := [181, 0, 217, 3, 61, 28, 42, 180, 0, 113, 162, 0, 83, 42, 180, 0, 17, 28, 46, 16, 32, 159, 0, 66]
abbrev dktX2_tongue_1 : List UInt8 := dkwX2_tongue_1 ++ dktX2_tongue_2
def dkwX2_tongue_0 : List UInt8 := [42, 182, 0, 214, 2, 159, 0, 6, 16, 252, 172, 3, 60, 42, 180, 0, 29, 3, 16, 40, 79, 42, 4]
abbrev dktX2_tongue_0 : List UInt8 := dkwX2_tongue_0 ++ dktX2_tongue_1
theorem dksX2_tongue_0 : cX2_tongue.data.toList.drop 0 = dktX2_tongue_0 := by decide +kernel
theorem dksX2_tongue_1 : cX2_tongue.data.toList.drop 23 = dktX2_tongue_1 := dk_seg dksX2_tongue_0 23 rfl rfl
theorem dksX2_tongue_2 : cX2_tongue.data.toList.drop 47 = dktX2_tongue_2 := dk_seg dksX2_tongue_1 24 rfl rfl
theorem dksX2_tongue_3 : cX2_tongue.data.toList.drop 69 = dktX2_tongue_3 := dk_seg dksX2_tongue_2 22 rfl rfl
theorem dksX2_tongue_4 : cX2_tongue.data.toList.drop 93 = dktX2_tongue_4 := dk_seg dksX2_tongue_3 24 rfl rfl
theorem dksX2_tongue_5 : cX2_tongue.data.toList.drop 117 = dktX2_tongue_5 := dk_seg dksX2_tongue_4 24 rfl rfl
theorem dksX2_tongue_6 : cX2_tongue.data.toList.drop 141 = dktX2_tongue_6 := dk_seg dksX2_tongue_5 24 rfl rfl
theorem dX2_tongue_0 : decode cX2_tongue 0 = .ok (.aload_n 0, 1) := dk_42 (dk_at dksX2_tongue_0 0 rfl rfl)
theorem dX2_tongue_1 : decode cX2_tongue 1 = .ok (.invokevirtual 214, 3) := dk_182 0 214 (dk_at dksX2_tongue_0 1 rfl rfl)
theorem dX2_tongue_4 : decode cX2_tongue 4 = .ok (.iconst (-1), 1) := dk_2 (dk_at dksX2_tongue_0 4 rfl rfl)
theorem dX2_tongue_5 : decode cX2_tongue 5 = .ok (.if_icmp .eq 6, 3) := dk_159 0 6 (dk_at dksX2_tongue_0 5 rfl rfl)
theorem dX2_tongue_8 : decode cX2_tongue 8 = .ok (.bipush (-4), 2) := dk_16 252 (dk_at dksX2_tongue_0 8 rfl rfl)
theorem dX2_tongue_10 : decode cX2_tongue 10 = .ok (.ireturn, 1) := dk_172 (dk_at dksX2_tongue_0 10 rfl rfl)
theorem dX2_tongue_11 : decode cX2_tongue 11 = .ok (.iconst 0, 1) := dk_3 (dk_at dksX2_tongue_0 11 rfl rfl)
theorem dX2_tongue_12 : decode cX2_tongue 12 = .ok (.istore_n 1, 1) := dk_60 (dk_at dksX2_tongue_0 12 rfl rfl)
theorem dX2_tongue_13 : decode cX2_tongue 13 = .ok (.aload_n 0, 1) := dk_42 (dk_at dksX2_tongue_0 13 rfl rfl)
theorem dX2_tongue_14 : decode cX2_tongue 14 = .ok (.getfield 29, 3) := dk_180 0 29 (dk_at dksX2_tongue_0 14 rfl rfl)
theorem dX2_tongue_17 : decode cX2_tongue 17 = .ok (.iconst 0, 1) := dk_3 (dk_at dksX2_tongue_0 17 rfl rfl)
theorem dX2_tongue_18 : decode cX2_tongue 18 = .ok (.bipush 40, 2) := dk_16 40 (dk_at dksX2_tongue_0 18 rfl rfl)
theorem dX2_tongue_20 : decode cX2_tongue 20 = .ok (.iastore, 1) := dk_79 (dk_at dksX2_tongue_0 20 rfl rfl)
theorem dX2_tongue_21 : decode cX2_tongue 21 = .ok (.aload_n 0, 1) := dk_42 (dk_at dksX2_tongue_0 21 rfl rfl)
theorem dX2_tongue_22 : decode cX2_tongue 22 = .ok (.iconst 1, 1) := dk_4 (dk_at dksX2_tongue_0 22 rfl rfl)
theorem dX2_tongue_23 : decode cX2_tongue 23 = .ok (.putfield 217, 3) := dk_181 0 217 (dk_at dksX2_tongue_1 0 rfl rfl)
theorem dX2_tongue_26 : decode cX2_tongue 26 = .ok (.iconst 0, 1) := dk_3 (dk_at dksX2_tongue_1 3 rfl rfl)
theorem dX2_tongue_27 : decode cX2_tongue 27 = .ok (.istore_n 2, 1) := dk_61 (dk_at dksX2_tongue_1 4 rfl rfl)
theorem dX2_tongue_28 : decode cX2_tongue 28 = .ok (.iload_n 2, 1) := dk_28 (dk_at dksX2_tongue_1 5 rfl rfl)
theorem dX2_tongue_29 : decode cX2_tongue 29 = .ok (.aload_n 0, 1) := dk_42 (dk_at dksX2_tongue_1 6 rfl rfl)
theorem dX2_tongue_30 : decode cX2_tongue 30 = .ok (.getfield 113, 3) := dk_180 0 113 (dk_at dksX2_tongue_1 7 rfl rfl)
theorem dX2_tongue_33 : decode cX2_tongue 33 = .ok (.if_icmp .ge 83, 3) := dk_162 0 83 (dk_at dksX2_tongue_1 10 rfl rfl)
theorem dX2_tongue_36 : decode cX2_tongue 36 = .ok (.aload_n 0, 1) := dk_42 (dk_at dksX2_tongue_1 13 rfl rfl)
theorem dX2_tongue_37 : decode cX2_tongue 37 = .ok (.getfield 17, 3) := dk_180 0 17 (dk_at dksX2_tongue_1 14 rfl rfl)
theorem dX2_tongue_40 : decode cX2_tongue 40 = .ok (.iload_n 2, 1) := dk_28 (dk_at dksX2_tongue_1 17 rfl rfl)
theorem dX2_tongue_41 : decode cX2_tongue 41 = .ok (.iaload, 1) := dk_46 (dk_at dksX2_tongue_1 18 rfl rfl)
theorem dX2_tongue_42 : decode cX2_tongue 42 = .ok (.bipush 32, 2) := dk_16 32 (dk_at dksX2_tongue_1 19 rfl rfl)
theorem dX2_tongue_44 : decode cX2_tongue 44 = .ok (.if_icmp .eq 66, 3) := dk_159 0 66 (dk_at dksX2_tongue_1 21 rfl rfl)
theorem dX2_tongue_47 : decode cX2_tongue 47 = .ok (.aload_n 0, 1) := dk_42 (dk_at dksX2_tongue_2 0 rfl rfl)
theorem dX2_tongue_48 : decode cX2_tongue 48 = .ok (.getfield 29, 3) := dk_180 0 29 (dk_at dksX2_tongue_2 1 rfl rfl)
theorem dX2_tongue_51 : decode cX2_tongue 51 = .ok (.aload_n 0, 1) := dk_42 (dk_at dksX2_tongue_2 4 rfl rfl)
theorem dX2_tongue_52 : decode cX2_tongue 52 = .ok (.getfield 217, 3) := dk_180 0 217 (dk_at dksX2_tongue_2 5 rfl rfl)
theorem dX2_tongue_55 : decode cX2_tongue 55 = .ok (.aload_n 0, 1) := dk_42 (dk_at dksX2_tongue_2 8 rfl rfl)
theorem dX2_tongue_56 : decode cX2_tongue 56 = .ok (.getfield 17, 3) := dk_180 0 17 (dk_at dksX2_tongue_2 9 rfl rfl)
theorem dX2_tongue_59 : decode cX2_tongue 59 = .ok (.iload_n 2, 1) := dk_28 (dk_at dksX2_tongue_2 12 rfl rfl)
theorem dX2_tongue_60 : decode cX2_tongue 60 = .ok (.iaload, 1) := dk_46 (dk_at dksX2_tongue_2 13 rfl rfl)
theorem dX2_tongue_61 : decode cX2_tongue 61 = .ok (.iastore, 1) := dk_79 (dk_at dksX2_tongue_2 14 rfl rfl)
theorem dX2_tongue_62 : decode cX2_tongue 62 = .ok (.aload_n 0, 1) := dk_42 (dk_at dksX2_tongue_2 15 rfl rfl)
theorem dX2_tongue_63 : decode cX2_tongue 63 = .ok (.dup, 1) := dk_89 (dk_at dksX2_tongue_2 16 rfl rfl)
theorem dX2_tongue_64 : decode cX2_tongue 64 = .ok (.getfield 217, 3) := dk_180 0 217 (dk_at dksX2_tongue_2 17 rfl rfl)
theorem dX2_tongue_67 : decode cX2_tongue 67 = .ok (.iconst 1, 1) := dk_4 (dk_at dksX2_tongue_2 20 rfl rfl)
theorem dX2_tongue_68 : decode cX2_tongue 68 = .ok (.iadd, 1) := dk_96 (dk_at dksX2_tongue_2 21 rfl rfl)
theorem dX2_tongue_69 : decode cX2_tongue 69 = .ok (.putfield 217, 3) := dk_181 0 217 (dk_at dksX2_tongue_3 0 rfl rfl)
theorem dX2_tongue_72 : decode cX2_tongue 72 = .ok (.iload_n 1, 1) := dk_27 (dk_at dksX2_tongue_3 3 rfl rfl)
theorem dX2_tongue_73 : decode cX2_tongue 73 = .ok (.aload_n 0, 1) := dk_42 (dk_at dksX2_tongue_3 4 rfl rfl)
theorem dX2_tongue_74 : decode cX2_tongue 74 = .ok (.getfield 17, 3) := dk_180 0 17 (dk_at dksX2_tongue_3 5 rfl rfl)
theorem dX2_tongue_77 : decode cX2_tongue 77 = .ok (.iload_n 2, 1) := dk_28 (dk_at dksX2_tongue_3 8 rfl rfl)
theorem dX2_tongue_78 : decode cX2_tongue 78 = .ok (.iaload, 1) := dk_46 (dk_at dksX2_tongue_3 9 rfl rfl)
theorem dX2_tongue_79 : decode cX2_tongue 79 = .ok (.i2l, 1) := dk_133 (dk_at dksX2_tongue_3 10 rfl rfl)
theorem dX2_tongue_80 : decode cX2_tongue 80 = .ok (.ldc2_w 117, 3) := dk_20 0 117 (dk_at dksX2_tongue_3 11 rfl rfl)
theorem dX2_tongue_83 : decode cX2_tongue 83 = .ok (.ldc2_w 212, 3) := dk_20 0 212 (dk_at dksX2_tongue_3 14 rfl rfl)
theorem dX2_tongue_86 : decode cX2_tongue 86 = .ok (.invokestatic 109, 3) := dk_184 0 109 (dk_at dksX2_tongue_3 17 rfl rfl)
theorem dX2_tongue_89 : decode cX2_tongue 89 = .ok (.ifCond .ne 14, 3) := dk_154 0 14 (dk_at dksX2_tongue_3 20 rfl rfl)
theorem dX2_tongue_92 : decode cX2_tongue 92 = .ok (.aload_n 0, 1) := dk_42 (dk_at dksX2_tongue_3 23 rfl rfl)
theorem dX2_tongue_93 : decode cX2_tongue 93 = .ok (.getfield 17, 3) := dk_180 0 17 (dk_at dksX2_tongue_4 0 rfl rfl)
theorem dX2_tongue_96 : decode cX2_tongue 96 = .ok (.iload_n 2, 1) := dk_28 (dk_at dksX2_tongue_4 3 rfl rfl)
theorem dX2_tongue_97 : decode cX2_tongue 97 = .ok (.iaload, 1) := dk_46 (dk_at dksX2_tongue_4 4 rfl rfl)
theorem dX2_tongue_98 : decode cX2_tongue 98 = .ok (.bipush 46, 2) := dk_16 46 (dk_at dksX2_tongue_4 5 rfl rfl)
theorem dX2_tongue_100 : decode cX2_tongue 100 = .ok (.if_icmp .ne 7, 3) := dk_160 0 7 (dk_at dksX2_tongue_4 7 rfl rfl)
theorem dX2_tongue_103 : decode cX2_tongue 103 = .ok (.iconst 1, 1) := dk_4 (dk_at dksX2_tongue_4 10 rfl rfl)
theorem dX2_tongue_104 : decode cX2_tongue 104 = .ok (.goto 4, 3) := dk_167 0 4 (dk_at dksX2_tongue_4 11 rfl rfl)
theorem dX2_tongue_107 : decode cX2_tongue 107 = .ok (.iconst 0, 1) := dk_3 (dk_at dksX2_tongue_4 14 rfl rfl)
theorem dX2_tongue_108 : decode cX2_tongue 108 = .ok (.iadd, 1) := dk_96 (dk_at dksX2_tongue_4 15 rfl rfl)
theorem dX2_tongue_109 : decode cX2_tongue 109 = .ok (.istore_n 1, 1) := dk_60 (dk_at dksX2_tongue_4 16 rfl rfl)
theorem dX2_tongue_110 : decode cX2_tongue 110 = .ok (.iinc 2 1, 3) := dk_132 2 1 (dk_at dksX2_tongue_4 17 rfl rfl)
theorem dX2_tongue_113 : decode cX2_tongue 113 = .ok (.goto (-85), 3) := dk_167 255 171 (dk_at dksX2_tongue_4 20 rfl rfl)
theorem dX2_tongue_116 : decode cX2_tongue 116 = .ok (.aload_n 0, 1) := dk_42 (dk_at dksX2_tongue_4 23 rfl rfl)
theorem dX2_tongue_117 : decode cX2_tongue 117 = .ok (.getfield 29, 3) := dk_180 0 29 (dk_at dksX2_tongue_5 0 rfl rfl)
theorem dX2_tongue_120 : decode cX2_tongue 120 = .ok (.aload_n 0, 1) := dk_42 (dk_at dksX2_tongue_5 3 rfl rfl)
theorem dX2_tongue_121 : decode cX2_tongue 121 = .ok (.getfield 217, 3) := dk_180 0 217 (dk_at dksX2_tongue_5 4 rfl rfl)
theorem dX2_tongue_124 : decode cX2_tongue 124 = .ok (.bipush 41, 2) := dk_16 41 (dk_at dksX2_tongue_5 7 rfl rfl)
theorem dX2_tongue_126 : decode cX2_tongue 126 = .ok (.iastore, 1) := dk_79 (dk_at dksX2_tongue_5 9 rfl rfl)
theorem dX2_tongue_127 : decode cX2_tongue 127 = .ok (.aload_n 0, 1) := dk_42 (dk_at dksX2_tongue_5 10 rfl rfl)
theorem dX2_tongue_128 : decode cX2_tongue 128 = .ok (.dup, 1) := dk_89 (dk_at dksX2_tongue_5 11 rfl rfl)
theorem dX2_tongue_129 : decode cX2_tongue 129 = .ok (.getfield 217, 3) := dk_180 0 217 (dk_at dksX2_tongue_5 12 rfl rfl)
theorem dX2_tongue_132 : decode cX2_tongue 132 = .ok (.iconst 1, 1) := dk_4 (dk_at dksX2_tongue_5 15 rfl rfl)
theorem dX2_tongue_133 : decode cX2_tongue 133 = .ok (.iadd, 1) := dk_96 (dk_at dksX2_tongue_5 16 rfl rfl)
theorem dX2_tongue_134 : decode cX2_tongue 134 = .ok (.putfield 217, 3) := dk_181 0 217 (dk_at dksX2_tongue_5 17 rfl rfl)
theorem dX2_tongue_137 : decode cX2_tongue 137 = .ok (.aload_n 0, 1) := dk_42 (dk_at dksX2_tongue_5 20 rfl rfl)
theorem dX2_tongue_138 : decode cX2_tongue 138 = .ok (.invokevirtual 220, 3) := dk_182 0 220 (dk_at dksX2_tongue_5 21 rfl rfl)
theorem dX2_tongue_141 : decode cX2_tongue 141 = .ok (.aload_n 0, 1) := dk_42 (dk_at dksX2_tongue_6 0 rfl rfl)
theorem dX2_tongue_142 : decode cX2_tongue 142 = .ok (.iconst 0, 1) := dk_3 (dk_at dksX2_tongue_6 1 rfl rfl)
theorem dX2_tongue_143 : decode cX2_tongue 143 = .ok (.putfield 113, 3) := dk_181 0 113 (dk_at dksX2_tongue_6 2 rfl rfl)
theorem dX2_tongue_146 : decode cX2_tongue 146 = .ok (.iload_n 1, 1) := dk_27 (dk_at dksX2_tongue_6 5 rfl rfl)
theorem dX2_tongue_147 : decode cX2_tongue 147 = .ok (.ireturn, 1) := dk_172 (dk_at dksX2_tongue_6 6 rfl rfl)
abbrev cX2_layTongue : ByteArray := prog_18_method_27_code
def yX2_layTongue : MethodName := ⟨RX2, "layTongue", "()V"⟩
def dkwX2_layTongue_5 : List UInt8 := [180, 0, 35, 28, 4, 100, 46, 79, 132, 2, 1, 167, 255, 133, 177]
abbrev dktX2_layTongue_5 : List UInt8 := dkwX2_layTongue_5 ++ []
def dkwX2_layTongue_4 : List UInt8 := [180, 0, 80, 27, 4, 100, 46, 79, 167, 0, 23, 29, 16, 42, 160, 0, 17, 42, 180, 0, 35, 28, 42]
abbrev dktX2_layTongue_4 : List UInt8 := dkwX2_layTongue_4 ++ dktX2_layTongue_5
def dkwX2_layTongue_3 : List UInt8 := [180, 0, 80, 27, 46, 28, 79, 167, 0, 46, 29, 16, 124, 160, 0, 20, 42, 180, 0, 35, 28, 42]
abbrev dktX2_layTongue_3 : List UInt8 := dkwX2_layTongue_3 ++ dktX2_layTongue_4
def dkwX2_layTongue_2 : List UInt8 := [160, 0, 33, 132, 1, 255, 42, 180, 0, 35, 28, 42, 180, 0, 80, 27, 46, 79, 42, 180, 0, 32, 42]
abbrev dktX2_layTongue_2 : List UInt8 := dkwX2_layTongue_2 ++ dktX2_layTongue_3
def dkwX2_layTongue_1 : List UInt8 := [28, 79, 29, 16, 40, 160, 0, 16, 42, 180, 0, 80, 27, 28, 79, 132, 1, 1, 167, 0, 82, 29, 16, 41]
abbrev dktX2_layTongue_1 : List UInt8 := dkwX2_layTongue_1 ++ dktX2_layTongue_2
def dkwX2_layTongue_0 : List UInt8 := [3, 60, 3, 61, 28, 42, 180, 0, 217, 162, 0, 121, 42, 180, 0, 29, 28, 46, 62, 42, 180, 0, 35, 28]
abbrev dktX2_layTongue_0 : List UInt8 := dkwX2_layTongue_0 ++ dktX2_layTongue_1
theorem dksX2_layTongue_0 : cX2_layTongue.data.toList.drop 0 = dktX2_layTongue_0 := by decide +kernel
theorem dksX2_layTongue_1 : cX2_layTongue.data.toList.drop 24 = dktX2_layTongue_1 := dk_seg dksX2_layTongue_0 24 rfl rfl
theorem dksX2_layTongue_2 : cX2_layTongue.data.toList.drop 48 = dktX2_layTongue_2 := dk_seg dksX2_layTongue_1 24 rfl rfl
theorem dksX2_layTongue_3 : cX2_layTongue.data.toList.drop 71 = dktX2_layTongue_3 := dk_seg dksX2_layTongue_2 23 rfl rfl
theorem dksX2_layTongue_4 : cX2_layTongue.data.toList.drop 93 = dktX2_layTongue_4 := dk_seg dksX2_layTongue_3 22 rfl rfl
theorem dksX2_layTongue_5 : cX2_layTongue.data.toList.drop 116 = dktX2_layTongue_5 := dk_seg dksX2_layTongue_4 23 rfl rfl
theorem dX2_layTongue_0 : decode cX2_layTongue 0 = .ok (.iconst 0, 1) := dk_3 (dk_at dksX2_layTongue_0 0 rfl rfl)
theorem dX2_layTongue_1 : decode cX2_layTongue 1 = .ok (.istore_n 1, 1) := dk_60 (dk_at dksX2_layTongue_0 1 rfl rfl)
theorem dX2_layTongue_2 : decode cX2_layTongue 2 = .ok (.iconst 0, 1) := dk_3 (dk_at dksX2_layTongue_0 2 rfl rfl)
theorem dX2_layTongue_3 : decode cX2_layTongue 3 = .ok (.istore_n 2, 1) := dk_61 (dk_at dksX2_layTongue_0 3 rfl rfl)
theorem dX2_layTongue_4 : decode cX2_layTongue 4 = .ok (.iload_n 2, 1) := dk_28 (dk_at dksX2_layTongue_0 4 rfl rfl)
theorem dX2_layTongue_5 : decode cX2_layTongue 5 = .ok (.aload_n 0, 1) := dk_42 (dk_at dksX2_layTongue_0 5 rfl rfl)
theorem dX2_layTongue_6 : decode cX2_layTongue 6 = .ok (.getfield 217, 3) := dk_180 0 217 (dk_at dksX2_layTongue_0 6 rfl rfl)
theorem dX2_layTongue_9 : decode cX2_layTongue 9 = .ok (.if_icmp .ge 121, 3) := dk_162 0 121 (dk_at dksX2_layTongue_0 9 rfl rfl)
theorem dX2_layTongue_12 : decode cX2_layTongue 12 = .ok (.aload_n 0, 1) := dk_42 (dk_at dksX2_layTongue_0 12 rfl rfl)
theorem dX2_layTongue_13 : decode cX2_layTongue 13 = .ok (.getfield 29, 3) := dk_180 0 29 (dk_at dksX2_layTongue_0 13 rfl rfl)
theorem dX2_layTongue_16 : decode cX2_layTongue 16 = .ok (.iload_n 2, 1) := dk_28 (dk_at dksX2_layTongue_0 16 rfl rfl)
theorem dX2_layTongue_17 : decode cX2_layTongue 17 = .ok (.iaload, 1) := dk_46 (dk_at dksX2_layTongue_0 17 rfl rfl)
theorem dX2_layTongue_18 : decode cX2_layTongue 18 = .ok (.istore_n 3, 1) := dk_62 (dk_at dksX2_layTongue_0 18 rfl rfl)
theorem dX2_layTongue_19 : decode cX2_layTongue 19 = .ok (.aload_n 0, 1) := dk_42 (dk_at dksX2_layTongue_0 19 rfl rfl)
theorem dX2_layTongue_20 : decode cX2_layTongue 20 = .ok (.getfield 35, 3) := dk_180 0 35 (dk_at dksX2_layTongue_0 20 rfl rfl)
theorem dX2_layTongue_23 : decode cX2_layTongue 23 = .ok (.iload_n 2, 1) := dk_28 (dk_at dksX2_layTongue_0 23 rfl rfl)
theorem dX2_layTongue_24 : decode cX2_layTongue 24 = .ok (.iload_n 2, 1) := dk_28 (dk_at dksX2_layTongue_1 0 rfl rfl)
theorem dX2_layTongue_25 : decode cX2_layTongue 25 = .ok (.iastore, 1) := dk_79 (dk_at dksX2_layTongue_1 1 rfl rfl)
theorem dX2_layTongue_26 : decode cX2_layTongue 26 = .ok (.iload_n 3, 1) := dk_29 (dk_at dksX2_layTongue_1 2 rfl rfl)
theorem dX2_layTongue_27 : decode cX2_layTongue 27 = .ok (.bipush 40, 2) := dk_16 40 (dk_at dksX2_layTongue_1 3 rfl rfl)
theorem dX2_layTongue_29 : decode cX2_layTongue 29 = .ok (.if_icmp .ne 16, 3) := dk_160 0 16 (dk_at dksX2_layTongue_1 5 rfl rfl)
theorem dX2_layTongue_32 : decode cX2_layTongue 32 = .ok (.aload_n 0, 1) := dk_42 (dk_at dksX2_layTongue_1 8 rfl rfl)
theorem dX2_layTongue_33 : decode cX2_layTongue 33 = .ok (.getfield 80, 3) := dk_180 0 80 (dk_at dksX2_layTongue_1 9 rfl rfl)
theorem dX2_layTongue_36 : decode cX2_layTongue 36 = .ok (.iload_n 1, 1) := dk_27 (dk_at dksX2_layTongue_1 12 rfl rfl)
theorem dX2_layTongue_37 : decode cX2_layTongue 37 = .ok (.iload_n 2, 1) := dk_28 (dk_at dksX2_layTongue_1 13 rfl rfl)
theorem dX2_layTongue_38 : decode cX2_layTongue 38 = .ok (.iastore, 1) := dk_79 (dk_at dksX2_layTongue_1 14 rfl rfl)
theorem dX2_layTongue_39 : decode cX2_layTongue 39 = .ok (.iinc 1 1, 3) := dk_132 1 1 (dk_at dksX2_layTongue_1 15 rfl rfl)
theorem dX2_layTongue_42 : decode cX2_layTongue 42 = .ok (.goto 82, 3) := dk_167 0 82 (dk_at dksX2_layTongue_1 18 rfl rfl)
theorem dX2_layTongue_45 : decode cX2_layTongue 45 = .ok (.iload_n 3, 1) := dk_29 (dk_at dksX2_layTongue_1 21 rfl rfl)
theorem dX2_layTongue_46 : decode cX2_layTongue 46 = .ok (.bipush 41, 2) := dk_16 41 (dk_at dksX2_layTongue_1 22 rfl rfl)
theorem dX2_layTongue_48 : decode cX2_layTongue 48 = .ok (.if_icmp .ne 33, 3) := dk_160 0 33 (dk_at dksX2_layTongue_2 0 rfl rfl)
theorem dX2_layTongue_51 : decode cX2_layTongue 51 = .ok (.iinc 1 (-1), 3) := dk_132 1 255 (dk_at dksX2_layTongue_2 3 rfl rfl)
theorem dX2_layTongue_54 : decode cX2_layTongue 54 = .ok (.aload_n 0, 1) := dk_42 (dk_at dksX2_layTongue_2 6 rfl rfl)
theorem dX2_layTongue_55 : decode cX2_layTongue 55 = .ok (.getfield 35, 3) := dk_180 0 35 (dk_at dksX2_layTongue_2 7 rfl rfl)
theorem dX2_layTongue_58 : decode cX2_layTongue 58 = .ok (.iload_n 2, 1) := dk_28 (dk_at dksX2_layTongue_2 10 rfl rfl)
theorem dX2_layTongue_59 : decode cX2_layTongue 59 = .ok (.aload_n 0, 1) := dk_42 (dk_at dksX2_layTongue_2 11 rfl rfl)
theorem dX2_layTongue_60 : decode cX2_layTongue 60 = .ok (.getfield 80, 3) := dk_180 0 80 (dk_at dksX2_layTongue_2 12 rfl rfl)
theorem dX2_layTongue_63 : decode cX2_layTongue 63 = .ok (.iload_n 1, 1) := dk_27 (dk_at dksX2_layTongue_2 15 rfl rfl)
theorem dX2_layTongue_64 : decode cX2_layTongue 64 = .ok (.iaload, 1) := dk_46 (dk_at dksX2_layTongue_2 16 rfl rfl)
theorem dX2_layTongue_65 : decode cX2_layTongue 65 = .ok (.iastore, 1) := dk_79 (dk_at dksX2_layTongue_2 17 rfl rfl)
theorem dX2_layTongue_66 : decode cX2_layTongue 66 = .ok (.aload_n 0, 1) := dk_42 (dk_at dksX2_layTongue_2 18 rfl rfl)
theorem dX2_layTongue_67 : decode cX2_layTongue 67 = .ok (.getfield 32, 3) := dk_180 0 32 (dk_at dksX2_layTongue_2 19 rfl rfl)
theorem dX2_layTongue_70 : decode cX2_layTongue 70 = .ok (.aload_n 0, 1) := dk_42 (dk_at dksX2_layTongue_2 22 rfl rfl)
theorem dX2_layTongue_71 : decode cX2_layTongue 71 = .ok (.getfield 80, 3) := dk_180 0 80 (dk_at dksX2_layTongue_3 0 rfl rfl)
theorem dX2_layTongue_74 : decode cX2_layTongue 74 = .ok (.iload_n 1, 1) := dk_27 (dk_at dksX2_layTongue_3 3 rfl rfl)
theorem dX2_layTongue_75 : decode cX2_layTongue 75 = .ok (.iaload, 1) := dk_46 (dk_at dksX2_layTongue_3 4 rfl rfl)
theorem dX2_layTongue_76 : decode cX2_layTongue 76 = .ok (.iload_n 2, 1) := dk_28 (dk_at dksX2_layTongue_3 5 rfl rfl)
theorem dX2_layTongue_77 : decode cX2_layTongue 77 = .ok (.iastore, 1) := dk_79 (dk_at dksX2_layTongue_3 6 rfl rfl)
theorem dX2_layTongue_78 : decode cX2_layTongue 78 = .ok (.goto 46, 3) := dk_167 0 46 (dk_at dksX2_layTongue_3 7 rfl rfl)
theorem dX2_layTongue_81 : decode cX2_layTongue 81 = .ok (.iload_n 3, 1) := dk_29 (dk_at dksX2_layTongue_3 10 rfl rfl)
theorem dX2_layTongue_82 : decode cX2_layTongue 82 = .ok (.bipush 124, 2) := dk_16 124 (dk_at dksX2_layTongue_3 11 rfl rfl)
theorem dX2_layTongue_84 : decode cX2_layTongue 84 = .ok (.if_icmp .ne 20, 3) := dk_160 0 20 (dk_at dksX2_layTongue_3 13 rfl rfl)
theorem dX2_layTongue_87 : decode cX2_layTongue 87 = .ok (.aload_n 0, 1) := dk_42 (dk_at dksX2_layTongue_3 16 rfl rfl)
theorem dX2_layTongue_88 : decode cX2_layTongue 88 = .ok (.getfield 35, 3) := dk_180 0 35 (dk_at dksX2_layTongue_3 17 rfl rfl)
theorem dX2_layTongue_91 : decode cX2_layTongue 91 = .ok (.iload_n 2, 1) := dk_28 (dk_at dksX2_layTongue_3 20 rfl rfl)
theorem dX2_layTongue_92 : decode cX2_layTongue 92 = .ok (.aload_n 0, 1) := dk_42 (dk_at dksX2_layTongue_3 21 rfl rfl)
theorem dX2_layTongue_93 : decode cX2_layTongue 93 = .ok (.getfield 80, 3) := dk_180 0 80 (dk_at dksX2_layTongue_4 0 rfl rfl)
theorem dX2_layTongue_96 : decode cX2_layTongue 96 = .ok (.iload_n 1, 1) := dk_27 (dk_at dksX2_layTongue_4 3 rfl rfl)
theorem dX2_layTongue_97 : decode cX2_layTongue 97 = .ok (.iconst 1, 1) := dk_4 (dk_at dksX2_layTongue_4 4 rfl rfl)
theorem dX2_layTongue_98 : decode cX2_layTongue 98 = .ok (.isub, 1) := dk_100 (dk_at dksX2_layTongue_4 5 rfl rfl)
theorem dX2_layTongue_99 : decode cX2_layTongue 99 = .ok (.iaload, 1) := dk_46 (dk_at dksX2_layTongue_4 6 rfl rfl)
theorem dX2_layTongue_100 : decode cX2_layTongue 100 = .ok (.iastore, 1) := dk_79 (dk_at dksX2_layTongue_4 7 rfl rfl)
theorem dX2_layTongue_101 : decode cX2_layTongue 101 = .ok (.goto 23, 3) := dk_167 0 23 (dk_at dksX2_layTongue_4 8 rfl rfl)
theorem dX2_layTongue_104 : decode cX2_layTongue 104 = .ok (.iload_n 3, 1) := dk_29 (dk_at dksX2_layTongue_4 11 rfl rfl)
theorem dX2_layTongue_105 : decode cX2_layTongue 105 = .ok (.bipush 42, 2) := dk_16 42 (dk_at dksX2_layTongue_4 12 rfl rfl)
theorem dX2_layTongue_107 : decode cX2_layTongue 107 = .ok (.if_icmp .ne 17, 3) := dk_160 0 17 (dk_at dksX2_layTongue_4 14 rfl rfl)
theorem dX2_layTongue_110 : decode cX2_layTongue 110 = .ok (.aload_n 0, 1) := dk_42 (dk_at dksX2_layTongue_4 17 rfl rfl)
theorem dX2_layTongue_111 : decode cX2_layTongue 111 = .ok (.getfield 35, 3) := dk_180 0 35 (dk_at dksX2_layTongue_4 18 rfl rfl)
theorem dX2_layTongue_114 : decode cX2_layTongue 114 = .ok (.iload_n 2, 1) := dk_28 (dk_at dksX2_layTongue_4 21 rfl rfl)
theorem dX2_layTongue_115 : decode cX2_layTongue 115 = .ok (.aload_n 0, 1) := dk_42 (dk_at dksX2_layTongue_4 22 rfl rfl)
theorem dX2_layTongue_116 : decode cX2_layTongue 116 = .ok (.getfield 35, 3) := dk_180 0 35 (dk_at dksX2_layTongue_5 0 rfl rfl)
theorem dX2_layTongue_119 : decode cX2_layTongue 119 = .ok (.iload_n 2, 1) := dk_28 (dk_at dksX2_layTongue_5 3 rfl rfl)
theorem dX2_layTongue_120 : decode cX2_layTongue 120 = .ok (.iconst 1, 1) := dk_4 (dk_at dksX2_layTongue_5 4 rfl rfl)
theorem dX2_layTongue_121 : decode cX2_layTongue 121 = .ok (.isub, 1) := dk_100 (dk_at dksX2_layTongue_5 5 rfl rfl)
theorem dX2_layTongue_122 : decode cX2_layTongue 122 = .ok (.iaload, 1) := dk_46 (dk_at dksX2_layTongue_5 6 rfl rfl)
theorem dX2_layTongue_123 : decode cX2_layTongue 123 = .ok (.iastore, 1) := dk_79 (dk_at dksX2_layTongue_5 7 rfl rfl)
theorem dX2_layTongue_124 : decode cX2_layTongue 124 = .ok (.iinc 2 1, 3) := dk_132 2 1 (dk_at dksX2_layTongue_5 8 rfl rfl)
theorem dX2_layTongue_127 : decode cX2_layTongue 127 = .ok (.goto (-123), 3) := dk_167 255 133 (dk_at dksX2_layTongue_5 11 rfl rfl)
theorem dX2_layTongue_130 : decode cX2_layTongue 130 = .ok (.return_, 1) := dk_177 (dk_at dksX2_layTongue_5 14 rfl rfl)
abbrev cX2_bird : ByteArray := prog_18_method_44_code
def yX2_bird : MethodName := ⟨RX2, "bird", "(II)I"⟩
def dkwX2_bird_3 : List UInt8 := [46, 27, 122, 4, 126, 172, 42, 3, 27, 182, 0, 237, 172, 42, 3, 27, 182, 0, 241, 172, 16, 253, 172]
abbrev dktX2_bird_3 : List UInt8 := dkwX2_bird_3 ++ []
def dkwX2_bird_2 : List UInt8 := [42, 180, 0, 7, 7, 27, 96, 46, 172, 42, 180, 0, 7, 16, 12, 27, 96, 46, 172, 42, 180, 0, 7, 6]
abbrev dktX2_bird_2 : List UInt8 := dkwX2_bird_2 ++ dktX2_bird_3
def dkwX2_bird_1 : List UInt8 := [170, 0, 0, 0, 0, 0, 0, 80, 0, 0, 0, 0, 0, 0, 0, 4, 0, 0, 0, 36, 0, 0, 0, 45, 0, 0, 0, 55, 0, 0, 0, 66, 0, 0, 0, 73]
abbrev dktX2_bird_1 : List UInt8 := dkwX2_bird_1 ++ dktX2_bird_2
def dkwX2_bird_0 : List UInt8 := [42, 27, 182, 0, 234, 154, 0, 6, 16, 254, 172, 28]
abbrev dktX2_bird_0 : List UInt8 := dkwX2_bird_0 ++ dktX2_bird_1
theorem dksX2_bird_0 : cX2_bird.data.toList.drop 0 = dktX2_bird_0 := by decide +kernel
theorem dksX2_bird_1 : cX2_bird.data.toList.drop 12 = dktX2_bird_1 := dk_seg dksX2_bird_0 12 rfl rfl
theorem dksX2_bird_2 : cX2_bird.data.toList.drop 48 = dktX2_bird_2 := dk_seg dksX2_bird_1 36 rfl rfl
theorem dksX2_bird_3 : cX2_bird.data.toList.drop 72 = dktX2_bird_3 := dk_seg dksX2_bird_2 24 rfl rfl
theorem dX2_bird_0 : decode cX2_bird 0 = .ok (.aload_n 0, 1) := dk_42 (dk_at dksX2_bird_0 0 rfl rfl)
theorem dX2_bird_1 : decode cX2_bird 1 = .ok (.iload_n 1, 1) := dk_27 (dk_at dksX2_bird_0 1 rfl rfl)
theorem dX2_bird_2 : decode cX2_bird 2 = .ok (.invokevirtual 234, 3) := dk_182 0 234 (dk_at dksX2_bird_0 2 rfl rfl)
theorem dX2_bird_5 : decode cX2_bird 5 = .ok (.ifCond .ne 6, 3) := dk_154 0 6 (dk_at dksX2_bird_0 5 rfl rfl)
theorem dX2_bird_8 : decode cX2_bird 8 = .ok (.bipush (-2), 2) := dk_16 254 (dk_at dksX2_bird_0 8 rfl rfl)
theorem dX2_bird_10 : decode cX2_bird 10 = .ok (.ireturn, 1) := dk_172 (dk_at dksX2_bird_0 10 rfl rfl)
theorem dX2_bird_11 : decode cX2_bird 11 = .ok (.iload_n 2, 1) := dk_28 (dk_at dksX2_bird_0 11 rfl rfl)
theorem dX2_bird_12 : decode cX2_bird 12 = .ok (.tableswitch 80 0 4 #[36, 45, 55, 66, 73], 36) := by decide +kernel
theorem dX2_bird_48 : decode cX2_bird 48 = .ok (.aload_n 0, 1) := dk_42 (dk_at dksX2_bird_2 0 rfl rfl)
theorem dX2_bird_49 : decode cX2_bird 49 = .ok (.getfield 7, 3) := dk_180 0 7 (dk_at dksX2_bird_2 1 rfl rfl)
theorem dX2_bird_52 : decode cX2_bird 52 = .ok (.iconst 4, 1) := dk_7 (dk_at dksX2_bird_2 4 rfl rfl)
theorem dX2_bird_53 : decode cX2_bird 53 = .ok (.iload_n 1, 1) := dk_27 (dk_at dksX2_bird_2 5 rfl rfl)
theorem dX2_bird_54 : decode cX2_bird 54 = .ok (.iadd, 1) := dk_96 (dk_at dksX2_bird_2 6 rfl rfl)
theorem dX2_bird_55 : decode cX2_bird 55 = .ok (.iaload, 1) := dk_46 (dk_at dksX2_bird_2 7 rfl rfl)
theorem dX2_bird_56 : decode cX2_bird 56 = .ok (.ireturn, 1) := dk_172 (dk_at dksX2_bird_2 8 rfl rfl)
theorem dX2_bird_57 : decode cX2_bird 57 = .ok (.aload_n 0, 1) := dk_42 (dk_at dksX2_bird_2 9 rfl rfl)
theorem dX2_bird_58 : decode cX2_bird 58 = .ok (.getfield 7, 3) := dk_180 0 7 (dk_at dksX2_bird_2 10 rfl rfl)
theorem dX2_bird_61 : decode cX2_bird 61 = .ok (.bipush 12, 2) := dk_16 12 (dk_at dksX2_bird_2 13 rfl rfl)
theorem dX2_bird_63 : decode cX2_bird 63 = .ok (.iload_n 1, 1) := dk_27 (dk_at dksX2_bird_2 15 rfl rfl)
theorem dX2_bird_64 : decode cX2_bird 64 = .ok (.iadd, 1) := dk_96 (dk_at dksX2_bird_2 16 rfl rfl)
theorem dX2_bird_65 : decode cX2_bird 65 = .ok (.iaload, 1) := dk_46 (dk_at dksX2_bird_2 17 rfl rfl)
theorem dX2_bird_66 : decode cX2_bird 66 = .ok (.ireturn, 1) := dk_172 (dk_at dksX2_bird_2 18 rfl rfl)
theorem dX2_bird_67 : decode cX2_bird 67 = .ok (.aload_n 0, 1) := dk_42 (dk_at dksX2_bird_2 19 rfl rfl)
theorem dX2_bird_68 : decode cX2_bird 68 = .ok (.getfield 7, 3) := dk_180 0 7 (dk_at dksX2_bird_2 20 rfl rfl)
theorem dX2_bird_71 : decode cX2_bird 71 = .ok (.iconst 3, 1) := dk_6 (dk_at dksX2_bird_2 23 rfl rfl)
theorem dX2_bird_72 : decode cX2_bird 72 = .ok (.iaload, 1) := dk_46 (dk_at dksX2_bird_3 0 rfl rfl)
theorem dX2_bird_73 : decode cX2_bird 73 = .ok (.iload_n 1, 1) := dk_27 (dk_at dksX2_bird_3 1 rfl rfl)
theorem dX2_bird_74 : decode cX2_bird 74 = .ok (.ishr, 1) := dk_122 (dk_at dksX2_bird_3 2 rfl rfl)
theorem dX2_bird_75 : decode cX2_bird 75 = .ok (.iconst 1, 1) := dk_4 (dk_at dksX2_bird_3 3 rfl rfl)
theorem dX2_bird_76 : decode cX2_bird 76 = .ok (.iand, 1) := dk_126 (dk_at dksX2_bird_3 4 rfl rfl)
theorem dX2_bird_77 : decode cX2_bird 77 = .ok (.ireturn, 1) := dk_172 (dk_at dksX2_bird_3 5 rfl rfl)
theorem dX2_bird_78 : decode cX2_bird 78 = .ok (.aload_n 0, 1) := dk_42 (dk_at dksX2_bird_3 6 rfl rfl)
theorem dX2_bird_79 : decode cX2_bird 79 = .ok (.iconst 0, 1) := dk_3 (dk_at dksX2_bird_3 7 rfl rfl)
theorem dX2_bird_80 : decode cX2_bird 80 = .ok (.iload_n 1, 1) := dk_27 (dk_at dksX2_bird_3 8 rfl rfl)
theorem dX2_bird_81 : decode cX2_bird 81 = .ok (.invokevirtual 237, 3) := dk_182 0 237 (dk_at dksX2_bird_3 9 rfl rfl)
theorem dX2_bird_84 : decode cX2_bird 84 = .ok (.ireturn, 1) := dk_172 (dk_at dksX2_bird_3 12 rfl rfl)
theorem dX2_bird_85 : decode cX2_bird 85 = .ok (.aload_n 0, 1) := dk_42 (dk_at dksX2_bird_3 13 rfl rfl)
theorem dX2_bird_86 : decode cX2_bird 86 = .ok (.iconst 0, 1) := dk_3 (dk_at dksX2_bird_3 14 rfl rfl)
theorem dX2_bird_87 : decode cX2_bird 87 = .ok (.iload_n 1, 1) := dk_27 (dk_at dksX2_bird_3 15 rfl rfl)
theorem dX2_bird_88 : decode cX2_bird 88 = .ok (.invokevirtual 241, 3) := dk_182 0 241 (dk_at dksX2_bird_3 16 rfl rfl)
theorem dX2_bird_91 : decode cX2_bird 91 = .ok (.ireturn, 1) := dk_172 (dk_at dksX2_bird_3 19 rfl rfl)
theorem dX2_bird_92 : decode cX2_bird 92 = .ok (.bipush (-3), 2) := dk_16 253 (dk_at dksX2_bird_3 20 rfl rfl)
theorem dX2_bird_94 : decode cX2_bird 94 = .ok (.ireturn, 1) := dk_172 (dk_at dksX2_bird_3 22 rfl rfl)
abbrev cX2_isBird : ByteArray := prog_18_method_37_code
def yX2_isBird : MethodName := ⟨RX2, "isBird", "(I)Z"⟩
def dkwX2_isBird_0 : List UInt8 := [27, 133, 9, 42, 180, 0, 7, 3, 46, 4, 100, 133, 184, 0, 109, 172]
abbrev dktX2_isBird_0 : List UInt8 := dkwX2_isBird_0 ++ []
theorem dksX2_isBird_0 : cX2_isBird.data.toList.drop 0 = dktX2_isBird_0 := by decide +kernel
theorem dX2_isBird_0 : decode cX2_isBird 0 = .ok (.iload_n 1, 1) := dk_27 (dk_at dksX2_isBird_0 0 rfl rfl)
theorem dX2_isBird_1 : decode cX2_isBird 1 = .ok (.i2l, 1) := dk_133 (dk_at dksX2_isBird_0 1 rfl rfl)
theorem dX2_isBird_2 : decode cX2_isBird 2 = .ok (.lconst 0, 1) := dk_9 (dk_at dksX2_isBird_0 2 rfl rfl)
theorem dX2_isBird_3 : decode cX2_isBird 3 = .ok (.aload_n 0, 1) := dk_42 (dk_at dksX2_isBird_0 3 rfl rfl)
theorem dX2_isBird_4 : decode cX2_isBird 4 = .ok (.getfield 7, 3) := dk_180 0 7 (dk_at dksX2_isBird_0 4 rfl rfl)
theorem dX2_isBird_7 : decode cX2_isBird 7 = .ok (.iconst 0, 1) := dk_3 (dk_at dksX2_isBird_0 7 rfl rfl)
theorem dX2_isBird_8 : decode cX2_isBird 8 = .ok (.iaload, 1) := dk_46 (dk_at dksX2_isBird_0 8 rfl rfl)
theorem dX2_isBird_9 : decode cX2_isBird 9 = .ok (.iconst 1, 1) := dk_4 (dk_at dksX2_isBird_0 9 rfl rfl)
theorem dX2_isBird_10 : decode cX2_isBird 10 = .ok (.isub, 1) := dk_100 (dk_at dksX2_isBird_0 10 rfl rfl)
theorem dX2_isBird_11 : decode cX2_isBird 11 = .ok (.i2l, 1) := dk_133 (dk_at dksX2_isBird_0 11 rfl rfl)
theorem dX2_isBird_12 : decode cX2_isBird 12 = .ok (.invokestatic 109, 3) := dk_184 0 109 (dk_at dksX2_isBird_0 12 rfl rfl)
theorem dX2_isBird_15 : decode cX2_isBird 15 = .ok (.ireturn, 1) := dk_172 (dk_at dksX2_isBird_0 15 rfl rfl)
abbrev cX2_manOf : ByteArray := prog_18_method_42_code
def yX2_manOf : MethodName := ⟨RX2, "manOf", "(II)I"⟩
def dkwX2_manOf_2 : List UInt8 := [29, 172]
abbrev dktX2_manOf_2 : List UInt8 := dkwX2_manOf_2 ++ []
def dkwX2_manOf_1 : List UInt8 := [16, 104, 96, 21, 4, 96, 46, 28, 160, 0, 8, 21, 4, 167, 0, 4, 29, 62, 132, 4, 1, 167, 255, 217]
abbrev dktX2_manOf_1 : List UInt8 := dkwX2_manOf_1 ++ dktX2_manOf_2
def dkwX2_manOf_0 : List UInt8 := [2, 62, 3, 54, 4, 21, 4, 42, 180, 0, 7, 27, 4, 96, 46, 162, 0, 32, 42, 180, 0, 7, 27]
abbrev dktX2_manOf_0 : List UInt8 := dkwX2_manOf_0 ++ dktX2_manOf_1
theorem dksX2_manOf_0 : cX2_manOf.data.toList.drop 0 = dktX2_manOf_0 := by decide +kernel
theorem dksX2_manOf_1 : cX2_manOf.data.toList.drop 23 = dktX2_manOf_1 := dk_seg dksX2_manOf_0 23 rfl rfl
theorem dksX2_manOf_2 : cX2_manOf.data.toList.drop 47 = dktX2_manOf_2 := dk_seg dksX2_manOf_1 24 rfl rfl
theorem dX2_manOf_0 : decode cX2_manOf 0 = .ok (.iconst (-1), 1) := dk_2 (dk_at dksX2_manOf_0 0 rfl rfl)
theorem dX2_manOf_1 : decode cX2_manOf 1 = .ok (.istore_n 3, 1) := dk_62 (dk_at dksX2_manOf_0 1 rfl rfl)
theorem dX2_manOf_2 : decode cX2_manOf 2 = .ok (.iconst 0, 1) := dk_3 (dk_at dksX2_manOf_0 2 rfl rfl)
theorem dX2_manOf_3 : decode cX2_manOf 3 = .ok (.istore 4, 2) := dk_54 4 (dk_at dksX2_manOf_0 3 rfl rfl)
theorem dX2_manOf_5 : decode cX2_manOf 5 = .ok (.iload 4, 2) := dk_21 4 (dk_at dksX2_manOf_0 5 rfl rfl)
theorem dX2_manOf_7 : decode cX2_manOf 7 = .ok (.aload_n 0, 1) := dk_42 (dk_at dksX2_manOf_0 7 rfl rfl)
theorem dX2_manOf_8 : decode cX2_manOf 8 = .ok (.getfield 7, 3) := dk_180 0 7 (dk_at dksX2_manOf_0 8 rfl rfl)
theorem dX2_manOf_11 : decode cX2_manOf 11 = .ok (.iload_n 1, 1) := dk_27 (dk_at dksX2_manOf_0 11 rfl rfl)
theorem dX2_manOf_12 : decode cX2_manOf 12 = .ok (.iconst 1, 1) := dk_4 (dk_at dksX2_manOf_0 12 rfl rfl)
theorem dX2_manOf_13 : decode cX2_manOf 13 = .ok (.iadd, 1) := dk_96 (dk_at dksX2_manOf_0 13 rfl rfl)
theorem dX2_manOf_14 : decode cX2_manOf 14 = .ok (.iaload, 1) := dk_46 (dk_at dksX2_manOf_0 14 rfl rfl)
theorem dX2_manOf_15 : decode cX2_manOf 15 = .ok (.if_icmp .ge 32, 3) := dk_162 0 32 (dk_at dksX2_manOf_0 15 rfl rfl)
theorem dX2_manOf_18 : decode cX2_manOf 18 = .ok (.aload_n 0, 1) := dk_42 (dk_at dksX2_manOf_0 18 rfl rfl)
theorem dX2_manOf_19 : decode cX2_manOf 19 = .ok (.getfield 7, 3) := dk_180 0 7 (dk_at dksX2_manOf_0 19 rfl rfl)
theorem dX2_manOf_22 : decode cX2_manOf 22 = .ok (.iload_n 1, 1) := dk_27 (dk_at dksX2_manOf_0 22 rfl rfl)
theorem dX2_manOf_23 : decode cX2_manOf 23 = .ok (.bipush 104, 2) := dk_16 104 (dk_at dksX2_manOf_1 0 rfl rfl)
theorem dX2_manOf_25 : decode cX2_manOf 25 = .ok (.iadd, 1) := dk_96 (dk_at dksX2_manOf_1 2 rfl rfl)
theorem dX2_manOf_26 : decode cX2_manOf 26 = .ok (.iload 4, 2) := dk_21 4 (dk_at dksX2_manOf_1 3 rfl rfl)
theorem dX2_manOf_28 : decode cX2_manOf 28 = .ok (.iadd, 1) := dk_96 (dk_at dksX2_manOf_1 5 rfl rfl)
theorem dX2_manOf_29 : decode cX2_manOf 29 = .ok (.iaload, 1) := dk_46 (dk_at dksX2_manOf_1 6 rfl rfl)
theorem dX2_manOf_30 : decode cX2_manOf 30 = .ok (.iload_n 2, 1) := dk_28 (dk_at dksX2_manOf_1 7 rfl rfl)
theorem dX2_manOf_31 : decode cX2_manOf 31 = .ok (.if_icmp .ne 8, 3) := dk_160 0 8 (dk_at dksX2_manOf_1 8 rfl rfl)
theorem dX2_manOf_34 : decode cX2_manOf 34 = .ok (.iload 4, 2) := dk_21 4 (dk_at dksX2_manOf_1 11 rfl rfl)
theorem dX2_manOf_36 : decode cX2_manOf 36 = .ok (.goto 4, 3) := dk_167 0 4 (dk_at dksX2_manOf_1 13 rfl rfl)
theorem dX2_manOf_39 : decode cX2_manOf 39 = .ok (.iload_n 3, 1) := dk_29 (dk_at dksX2_manOf_1 16 rfl rfl)
theorem dX2_manOf_40 : decode cX2_manOf 40 = .ok (.istore_n 3, 1) := dk_62 (dk_at dksX2_manOf_1 17 rfl rfl)
theorem dX2_manOf_41 : decode cX2_manOf 41 = .ok (.iinc 4 1, 3) := dk_132 4 1 (dk_at dksX2_manOf_1 18 rfl rfl)
theorem dX2_manOf_44 : decode cX2_manOf 44 = .ok (.goto (-39), 3) := dk_167 255 217 (dk_at dksX2_manOf_1 21 rfl rfl)
theorem dX2_manOf_47 : decode cX2_manOf 47 = .ok (.iload_n 3, 1) := dk_29 (dk_at dksX2_manOf_2 0 rfl rfl)
theorem dX2_manOf_48 : decode cX2_manOf 48 = .ok (.ireturn, 1) := dk_172 (dk_at dksX2_manOf_2 1 rfl rfl)
abbrev cX2_wellKnown : ByteArray := prog_18_method_43_code
def yX2_wellKnown : MethodName := ⟨RX2, "wellKnown", "(II)I"⟩
def dkwX2_wellKnown_2 : List UInt8 := [167, 255, 214, 29, 172]
abbrev dktX2_wellKnown_2 : List UInt8 := dkwX2_wellKnown_2 ++ []
def dkwX2_wellKnown_1 : List UInt8 := [104, 96, 21, 4, 96, 46, 7, 164, 0, 10, 4, 21, 4, 120, 167, 0, 4, 3, 128, 62, 132, 4, 1]
abbrev dktX2_wellKnown_1 : List UInt8 := dkwX2_wellKnown_1 ++ dktX2_wellKnown_2
def dkwX2_wellKnown_0 : List UInt8 := [3, 62, 3, 54, 4, 21, 4, 16, 10, 162, 0, 41, 29, 42, 180, 0, 7, 27, 16, 20, 96, 16, 10, 28]
abbrev dktX2_wellKnown_0 : List UInt8 := dkwX2_wellKnown_0 ++ dktX2_wellKnown_1
theorem dksX2_wellKnown_0 : cX2_wellKnown.data.toList.drop 0 = dktX2_wellKnown_0 := by decide +kernel
theorem dksX2_wellKnown_1 : cX2_wellKnown.data.toList.drop 24 = dktX2_wellKnown_1 := dk_seg dksX2_wellKnown_0 24 rfl rfl
theorem dksX2_wellKnown_2 : cX2_wellKnown.data.toList.drop 47 = dktX2_wellKnown_2 := dk_seg dksX2_wellKnown_1 23 rfl rfl
theorem dX2_wellKnown_0 : decode cX2_wellKnown 0 = .ok (.iconst 0, 1) := dk_3 (dk_at dksX2_wellKnown_0 0 rfl rfl)
theorem dX2_wellKnown_1 : decode cX2_wellKnown 1 = .ok (.istore_n 3, 1) := dk_62 (dk_at dksX2_wellKnown_0 1 rfl rfl)
theorem dX2_wellKnown_2 : decode cX2_wellKnown 2 = .ok (.iconst 0, 1) := dk_3 (dk_at dksX2_wellKnown_0 2 rfl rfl)
theorem dX2_wellKnown_3 : decode cX2_wellKnown 3 = .ok (.istore 4, 2) := dk_54 4 (dk_at dksX2_wellKnown_0 3 rfl rfl)
theorem dX2_wellKnown_5 : decode cX2_wellKnown 5 = .ok (.iload 4, 2) := dk_21 4 (dk_at dksX2_wellKnown_0 5 rfl rfl)
theorem dX2_wellKnown_7 : decode cX2_wellKnown 7 = .ok (.bipush 10, 2) := dk_16 10 (dk_at dksX2_wellKnown_0 7 rfl rfl)
theorem dX2_wellKnown_9 : decode cX2_wellKnown 9 = .ok (.if_icmp .ge 41, 3) := dk_162 0 41 (dk_at dksX2_wellKnown_0 9 rfl rfl)
theorem dX2_wellKnown_12 : decode cX2_wellKnown 12 = .ok (.iload_n 3, 1) := dk_29 (dk_at dksX2_wellKnown_0 12 rfl rfl)
theorem dX2_wellKnown_13 : decode cX2_wellKnown 13 = .ok (.aload_n 0, 1) := dk_42 (dk_at dksX2_wellKnown_0 13 rfl rfl)
theorem dX2_wellKnown_14 : decode cX2_wellKnown 14 = .ok (.getfield 7, 3) := dk_180 0 7 (dk_at dksX2_wellKnown_0 14 rfl rfl)
theorem dX2_wellKnown_17 : decode cX2_wellKnown 17 = .ok (.iload_n 1, 1) := dk_27 (dk_at dksX2_wellKnown_0 17 rfl rfl)
theorem dX2_wellKnown_18 : decode cX2_wellKnown 18 = .ok (.bipush 20, 2) := dk_16 20 (dk_at dksX2_wellKnown_0 18 rfl rfl)
theorem dX2_wellKnown_20 : decode cX2_wellKnown 20 = .ok (.iadd, 1) := dk_96 (dk_at dksX2_wellKnown_0 20 rfl rfl)
theorem dX2_wellKnown_21 : decode cX2_wellKnown 21 = .ok (.bipush 10, 2) := dk_16 10 (dk_at dksX2_wellKnown_0 21 rfl rfl)
theorem dX2_wellKnown_23 : decode cX2_wellKnown 23 = .ok (.iload_n 2, 1) := dk_28 (dk_at dksX2_wellKnown_0 23 rfl rfl)
theorem dX2_wellKnown_24 : decode cX2_wellKnown 24 = .ok (.imul, 1) := dk_104 (dk_at dksX2_wellKnown_1 0 rfl rfl)
theorem dX2_wellKnown_25 : decode cX2_wellKnown 25 = .ok (.iadd, 1) := dk_96 (dk_at dksX2_wellKnown_1 1 rfl rfl)
theorem dX2_wellKnown_26 : decode cX2_wellKnown 26 = .ok (.iload 4, 2) := dk_21 4 (dk_at dksX2_wellKnown_1 2 rfl rfl)
theorem dX2_wellKnown_28 : decode cX2_wellKnown 28 = .ok (.iadd, 1) := dk_96 (dk_at dksX2_wellKnown_1 4 rfl rfl)
theorem dX2_wellKnown_29 : decode cX2_wellKnown 29 = .ok (.iaload, 1) := dk_46 (dk_at dksX2_wellKnown_1 5 rfl rfl)
theorem dX2_wellKnown_30 : decode cX2_wellKnown 30 = .ok (.iconst 4, 1) := dk_7 (dk_at dksX2_wellKnown_1 6 rfl rfl)
theorem dX2_wellKnown_31 : decode cX2_wellKnown 31 = .ok (.if_icmp .le 10, 3) := dk_164 0 10 (dk_at dksX2_wellKnown_1 7 rfl rfl)
theorem dX2_wellKnown_34 : decode cX2_wellKnown 34 = .ok (.iconst 1, 1) := dk_4 (dk_at dksX2_wellKnown_1 10 rfl rfl)
theorem dX2_wellKnown_35 : decode cX2_wellKnown 35 = .ok (.iload 4, 2) := dk_21 4 (dk_at dksX2_wellKnown_1 11 rfl rfl)
theorem dX2_wellKnown_37 : decode cX2_wellKnown 37 = .ok (.ishl, 1) := dk_120 (dk_at dksX2_wellKnown_1 13 rfl rfl)
theorem dX2_wellKnown_38 : decode cX2_wellKnown 38 = .ok (.goto 4, 3) := dk_167 0 4 (dk_at dksX2_wellKnown_1 14 rfl rfl)
theorem dX2_wellKnown_41 : decode cX2_wellKnown 41 = .ok (.iconst 0, 1) := dk_3 (dk_at dksX2_wellKnown_1 17 rfl rfl)
theorem dX2_wellKnown_42 : decode cX2_wellKnown 42 = .ok (.ior, 1) := dk_128 (dk_at dksX2_wellKnown_1 18 rfl rfl)
theorem dX2_wellKnown_43 : decode cX2_wellKnown 43 = .ok (.istore_n 3, 1) := dk_62 (dk_at dksX2_wellKnown_1 19 rfl rfl)
theorem dX2_wellKnown_44 : decode cX2_wellKnown 44 = .ok (.iinc 4 1, 3) := dk_132 4 1 (dk_at dksX2_wellKnown_1 20 rfl rfl)
theorem dX2_wellKnown_47 : decode cX2_wellKnown 47 = .ok (.goto (-42), 3) := dk_167 255 214 (dk_at dksX2_wellKnown_2 0 rfl rfl)
theorem dX2_wellKnown_50 : decode cX2_wellKnown 50 = .ok (.iload_n 3, 1) := dk_29 (dk_at dksX2_wellKnown_2 3 rfl rfl)
theorem dX2_wellKnown_51 : decode cX2_wellKnown 51 = .ok (.ireturn, 1) := dk_172 (dk_at dksX2_wellKnown_2 4 rfl rfl)
abbrev cX2_man : ByteArray := prog_18_method_45_code
def yX2_man : MethodName := ⟨RX2, "man", "(II)I"⟩
def dkwX2_man_1 : List UInt8 := [167, 0, 22, 28, 4, 160, 0, 15, 42, 180, 0, 7, 16, 104, 27, 96, 46, 167, 0, 5, 16, 253, 172]
abbrev dktX2_man_1 : List UInt8 := dkwX2_man_1 ++ []
def dkwX2_man_0 : List UInt8 := [42, 27, 182, 0, 244, 154, 0, 6, 16, 254, 172, 28, 154, 0, 15, 42, 180, 0, 7, 16, 100, 27, 96, 46]
abbrev dktX2_man_0 : List UInt8 := dkwX2_man_0 ++ dktX2_man_1
theorem dksX2_man_0 : cX2_man.data.toList.drop 0 = dktX2_man_0 := by decide +kernel
theorem dksX2_man_1 : cX2_man.data.toList.drop 24 = dktX2_man_1 := dk_seg dksX2_man_0 24 rfl rfl
theorem dX2_man_0 : decode cX2_man 0 = .ok (.aload_n 0, 1) := dk_42 (dk_at dksX2_man_0 0 rfl rfl)
theorem dX2_man_1 : decode cX2_man 1 = .ok (.iload_n 1, 1) := dk_27 (dk_at dksX2_man_0 1 rfl rfl)
theorem dX2_man_2 : decode cX2_man 2 = .ok (.invokevirtual 244, 3) := dk_182 0 244 (dk_at dksX2_man_0 2 rfl rfl)
theorem dX2_man_5 : decode cX2_man 5 = .ok (.ifCond .ne 6, 3) := dk_154 0 6 (dk_at dksX2_man_0 5 rfl rfl)
theorem dX2_man_8 : decode cX2_man 8 = .ok (.bipush (-2), 2) := dk_16 254 (dk_at dksX2_man_0 8 rfl rfl)
theorem dX2_man_10 : decode cX2_man 10 = .ok (.ireturn, 1) := dk_172 (dk_at dksX2_man_0 10 rfl rfl)
theorem dX2_man_11 : decode cX2_man 11 = .ok (.iload_n 2, 1) := dk_28 (dk_at dksX2_man_0 11 rfl rfl)
theorem dX2_man_12 : decode cX2_man 12 = .ok (.ifCond .ne 15, 3) := dk_154 0 15 (dk_at dksX2_man_0 12 rfl rfl)
theorem dX2_man_15 : decode cX2_man 15 = .ok (.aload_n 0, 1) := dk_42 (dk_at dksX2_man_0 15 rfl rfl)
theorem dX2_man_16 : decode cX2_man 16 = .ok (.getfield 7, 3) := dk_180 0 7 (dk_at dksX2_man_0 16 rfl rfl)
theorem dX2_man_19 : decode cX2_man 19 = .ok (.bipush 100, 2) := dk_16 100 (dk_at dksX2_man_0 19 rfl rfl)
theorem dX2_man_21 : decode cX2_man 21 = .ok (.iload_n 1, 1) := dk_27 (dk_at dksX2_man_0 21 rfl rfl)
theorem dX2_man_22 : decode cX2_man 22 = .ok (.iadd, 1) := dk_96 (dk_at dksX2_man_0 22 rfl rfl)
theorem dX2_man_23 : decode cX2_man 23 = .ok (.iaload, 1) := dk_46 (dk_at dksX2_man_0 23 rfl rfl)
theorem dX2_man_24 : decode cX2_man 24 = .ok (.goto 22, 3) := dk_167 0 22 (dk_at dksX2_man_1 0 rfl rfl)
theorem dX2_man_27 : decode cX2_man 27 = .ok (.iload_n 2, 1) := dk_28 (dk_at dksX2_man_1 3 rfl rfl)
theorem dX2_man_28 : decode cX2_man 28 = .ok (.iconst 1, 1) := dk_4 (dk_at dksX2_man_1 4 rfl rfl)
theorem dX2_man_29 : decode cX2_man 29 = .ok (.if_icmp .ne 15, 3) := dk_160 0 15 (dk_at dksX2_man_1 5 rfl rfl)
theorem dX2_man_32 : decode cX2_man 32 = .ok (.aload_n 0, 1) := dk_42 (dk_at dksX2_man_1 8 rfl rfl)
theorem dX2_man_33 : decode cX2_man 33 = .ok (.getfield 7, 3) := dk_180 0 7 (dk_at dksX2_man_1 9 rfl rfl)
theorem dX2_man_36 : decode cX2_man 36 = .ok (.bipush 104, 2) := dk_16 104 (dk_at dksX2_man_1 12 rfl rfl)
theorem dX2_man_38 : decode cX2_man 38 = .ok (.iload_n 1, 1) := dk_27 (dk_at dksX2_man_1 14 rfl rfl)
theorem dX2_man_39 : decode cX2_man 39 = .ok (.iadd, 1) := dk_96 (dk_at dksX2_man_1 15 rfl rfl)
theorem dX2_man_40 : decode cX2_man 40 = .ok (.iaload, 1) := dk_46 (dk_at dksX2_man_1 16 rfl rfl)
theorem dX2_man_41 : decode cX2_man 41 = .ok (.goto 5, 3) := dk_167 0 5 (dk_at dksX2_man_1 17 rfl rfl)
theorem dX2_man_44 : decode cX2_man 44 = .ok (.bipush (-3), 2) := dk_16 253 (dk_at dksX2_man_1 20 rfl rfl)
theorem dX2_man_46 : decode cX2_man 46 = .ok (.ireturn, 1) := dk_172 (dk_at dksX2_man_1 22 rfl rfl)
abbrev cX2_isMan : ByteArray := prog_18_method_38_code
def yX2_isMan : MethodName := ⟨RX2, "isMan", "(I)Z"⟩
def dkwX2_isMan_0 : List UInt8 := [27, 133, 9, 42, 180, 0, 7, 4, 46, 4, 100, 133, 184, 0, 109, 172]
abbrev dktX2_isMan_0 : List UInt8 := dkwX2_isMan_0 ++ []
theorem dksX2_isMan_0 : cX2_isMan.data.toList.drop 0 = dktX2_isMan_0 := by decide +kernel
theorem dX2_isMan_0 : decode cX2_isMan 0 = .ok (.iload_n 1, 1) := dk_27 (dk_at dksX2_isMan_0 0 rfl rfl)
theorem dX2_isMan_1 : decode cX2_isMan 1 = .ok (.i2l, 1) := dk_133 (dk_at dksX2_isMan_0 1 rfl rfl)
theorem dX2_isMan_2 : decode cX2_isMan 2 = .ok (.lconst 0, 1) := dk_9 (dk_at dksX2_isMan_0 2 rfl rfl)
theorem dX2_isMan_3 : decode cX2_isMan 3 = .ok (.aload_n 0, 1) := dk_42 (dk_at dksX2_isMan_0 3 rfl rfl)
theorem dX2_isMan_4 : decode cX2_isMan 4 = .ok (.getfield 7, 3) := dk_180 0 7 (dk_at dksX2_isMan_0 4 rfl rfl)
theorem dX2_isMan_7 : decode cX2_isMan 7 = .ok (.iconst 1, 1) := dk_4 (dk_at dksX2_isMan_0 7 rfl rfl)
theorem dX2_isMan_8 : decode cX2_isMan 8 = .ok (.iaload, 1) := dk_46 (dk_at dksX2_isMan_0 8 rfl rfl)
theorem dX2_isMan_9 : decode cX2_isMan 9 = .ok (.iconst 1, 1) := dk_4 (dk_at dksX2_isMan_0 9 rfl rfl)
theorem dX2_isMan_10 : decode cX2_isMan 10 = .ok (.isub, 1) := dk_100 (dk_at dksX2_isMan_0 10 rfl rfl)
theorem dX2_isMan_11 : decode cX2_isMan 11 = .ok (.i2l, 1) := dk_133 (dk_at dksX2_isMan_0 11 rfl rfl)
theorem dX2_isMan_12 : decode cX2_isMan 12 = .ok (.invokestatic 109, 3) := dk_184 0 109 (dk_at dksX2_isMan_0 12 rfl rfl)
theorem dX2_isMan_15 : decode cX2_isMan 15 = .ok (.ireturn, 1) := dk_172 (dk_at dksX2_isMan_0 15 rfl rfl)
abbrev cX2_as : ByteArray := prog_18_method_46_code
def yX2_as : MethodName := ⟨RX2, "as", "(II)I"⟩
def dkwX2_as_3 : List UInt8 := [54, 4, 21, 4, 153, 0, 10, 29, 184, 0, 249, 167, 0, 5, 16, 252, 172]
abbrev dktX2_as_3 : List UInt8 := dkwX2_as_3 ++ []
def dkwX2_as_2 : List UInt8 := [4, 160, 0, 8, 29, 6, 161, 0, 13, 28, 7, 160, 0, 12, 29, 7, 160, 0, 7, 4, 167, 0, 4, 3]
abbrev dktX2_as_2 : List UInt8 := dkwX2_as_2 ++ dktX2_as_3
def dkwX2_as_1 : List UInt8 := [16, 253, 172, 42, 180, 0, 7, 7, 27, 96, 46, 62, 28, 153, 0, 30, 28, 29, 4, 96, 159, 0, 23, 28]
abbrev dktX2_as_1 : List UInt8 := dkwX2_as_1 ++ dktX2_as_2
def dkwX2_as_0 : List UInt8 := [42, 27, 182, 0, 234, 154, 0, 6, 16, 254, 172, 28, 133, 9, 20, 0, 247, 184, 0, 109, 154, 0, 6]
abbrev dktX2_as_0 : List UInt8 := dkwX2_as_0 ++ dktX2_as_1
theorem dksX2_as_0 : cX2_as.data.toList.drop 0 = dktX2_as_0 := by decide +kernel
theorem dksX2_as_1 : cX2_as.data.toList.drop 23 = dktX2_as_1 := dk_seg dksX2_as_0 23 rfl rfl
theorem dksX2_as_2 : cX2_as.data.toList.drop 47 = dktX2_as_2 := dk_seg dksX2_as_1 24 rfl rfl
theorem dksX2_as_3 : cX2_as.data.toList.drop 71 = dktX2_as_3 := dk_seg dksX2_as_2 24 rfl rfl
theorem dX2_as_0 : decode cX2_as 0 = .ok (.aload_n 0, 1) := dk_42 (dk_at dksX2_as_0 0 rfl rfl)
theorem dX2_as_1 : decode cX2_as 1 = .ok (.iload_n 1, 1) := dk_27 (dk_at dksX2_as_0 1 rfl rfl)
theorem dX2_as_2 : decode cX2_as 2 = .ok (.invokevirtual 234, 3) := dk_182 0 234 (dk_at dksX2_as_0 2 rfl rfl)
theorem dX2_as_5 : decode cX2_as 5 = .ok (.ifCond .ne 6, 3) := dk_154 0 6 (dk_at dksX2_as_0 5 rfl rfl)
theorem dX2_as_8 : decode cX2_as 8 = .ok (.bipush (-2), 2) := dk_16 254 (dk_at dksX2_as_0 8 rfl rfl)
theorem dX2_as_10 : decode cX2_as 10 = .ok (.ireturn, 1) := dk_172 (dk_at dksX2_as_0 10 rfl rfl)
theorem dX2_as_11 : decode cX2_as 11 = .ok (.iload_n 2, 1) := dk_28 (dk_at dksX2_as_0 11 rfl rfl)
theorem dX2_as_12 : decode cX2_as 12 = .ok (.i2l, 1) := dk_133 (dk_at dksX2_as_0 12 rfl rfl)
theorem dX2_as_13 : decode cX2_as 13 = .ok (.lconst 0, 1) := dk_9 (dk_at dksX2_as_0 13 rfl rfl)
theorem dX2_as_14 : decode cX2_as 14 = .ok (.ldc2_w 247, 3) := dk_20 0 247 (dk_at dksX2_as_0 14 rfl rfl)
theorem dX2_as_17 : decode cX2_as 17 = .ok (.invokestatic 109, 3) := dk_184 0 109 (dk_at dksX2_as_0 17 rfl rfl)
theorem dX2_as_20 : decode cX2_as 20 = .ok (.ifCond .ne 6, 3) := dk_154 0 6 (dk_at dksX2_as_0 20 rfl rfl)
theorem dX2_as_23 : decode cX2_as 23 = .ok (.bipush (-3), 2) := dk_16 253 (dk_at dksX2_as_1 0 rfl rfl)
theorem dX2_as_25 : decode cX2_as 25 = .ok (.ireturn, 1) := dk_172 (dk_at dksX2_as_1 2 rfl rfl)
theorem dX2_as_26 : decode cX2_as 26 = .ok (.aload_n 0, 1) := dk_42 (dk_at dksX2_as_1 3 rfl rfl)
theorem dX2_as_27 : decode cX2_as 27 = .ok (.getfield 7, 3) := dk_180 0 7 (dk_at dksX2_as_1 4 rfl rfl)
theorem dX2_as_30 : decode cX2_as 30 = .ok (.iconst 4, 1) := dk_7 (dk_at dksX2_as_1 7 rfl rfl)
theorem dX2_as_31 : decode cX2_as 31 = .ok (.iload_n 1, 1) := dk_27 (dk_at dksX2_as_1 8 rfl rfl)
theorem dX2_as_32 : decode cX2_as 32 = .ok (.iadd, 1) := dk_96 (dk_at dksX2_as_1 9 rfl rfl)
theorem dX2_as_33 : decode cX2_as 33 = .ok (.iaload, 1) := dk_46 (dk_at dksX2_as_1 10 rfl rfl)
theorem dX2_as_34 : decode cX2_as 34 = .ok (.istore_n 3, 1) := dk_62 (dk_at dksX2_as_1 11 rfl rfl)
theorem dX2_as_35 : decode cX2_as 35 = .ok (.iload_n 2, 1) := dk_28 (dk_at dksX2_as_1 12 rfl rfl)
theorem dX2_as_36 : decode cX2_as 36 = .ok (.ifCond .eq 30, 3) := dk_153 0 30 (dk_at dksX2_as_1 13 rfl rfl)
theorem dX2_as_39 : decode cX2_as 39 = .ok (.iload_n 2, 1) := dk_28 (dk_at dksX2_as_1 16 rfl rfl)
theorem dX2_as_40 : decode cX2_as 40 = .ok (.iload_n 3, 1) := dk_29 (dk_at dksX2_as_1 17 rfl rfl)
theorem dX2_as_41 : decode cX2_as 41 = .ok (.iconst 1, 1) := dk_4 (dk_at dksX2_as_1 18 rfl rfl)
theorem dX2_as_42 : decode cX2_as 42 = .ok (.iadd, 1) := dk_96 (dk_at dksX2_as_1 19 rfl rfl)
theorem dX2_as_43 : decode cX2_as 43 = .ok (.if_icmp .eq 23, 3) := dk_159 0 23 (dk_at dksX2_as_1 20 rfl rfl)
theorem dX2_as_46 : decode cX2_as 46 = .ok (.iload_n 2, 1) := dk_28 (dk_at dksX2_as_1 23 rfl rfl)
theorem dX2_as_47 : decode cX2_as 47 = .ok (.iconst 1, 1) := dk_4 (dk_at dksX2_as_2 0 rfl rfl)
theorem dX2_as_48 : decode cX2_as 48 = .ok (.if_icmp .ne 8, 3) := dk_160 0 8 (dk_at dksX2_as_2 1 rfl rfl)
theorem dX2_as_51 : decode cX2_as 51 = .ok (.iload_n 3, 1) := dk_29 (dk_at dksX2_as_2 4 rfl rfl)
theorem dX2_as_52 : decode cX2_as 52 = .ok (.iconst 3, 1) := dk_6 (dk_at dksX2_as_2 5 rfl rfl)
theorem dX2_as_53 : decode cX2_as 53 = .ok (.if_icmp .lt 13, 3) := dk_161 0 13 (dk_at dksX2_as_2 6 rfl rfl)
theorem dX2_as_56 : decode cX2_as 56 = .ok (.iload_n 2, 1) := dk_28 (dk_at dksX2_as_2 9 rfl rfl)
theorem dX2_as_57 : decode cX2_as 57 = .ok (.iconst 4, 1) := dk_7 (dk_at dksX2_as_2 10 rfl rfl)
theorem dX2_as_58 : decode cX2_as 58 = .ok (.if_icmp .ne 12, 3) := dk_160 0 12 (dk_at dksX2_as_2 11 rfl rfl)
theorem dX2_as_61 : decode cX2_as 61 = .ok (.iload_n 3, 1) := dk_29 (dk_at dksX2_as_2 14 rfl rfl)
theorem dX2_as_62 : decode cX2_as 62 = .ok (.iconst 4, 1) := dk_7 (dk_at dksX2_as_2 15 rfl rfl)
theorem dX2_as_63 : decode cX2_as 63 = .ok (.if_icmp .ne 7, 3) := dk_160 0 7 (dk_at dksX2_as_2 16 rfl rfl)
theorem dX2_as_66 : decode cX2_as 66 = .ok (.iconst 1, 1) := dk_4 (dk_at dksX2_as_2 19 rfl rfl)
theorem dX2_as_67 : decode cX2_as 67 = .ok (.goto 4, 3) := dk_167 0 4 (dk_at dksX2_as_2 20 rfl rfl)
theorem dX2_as_70 : decode cX2_as 70 = .ok (.iconst 0, 1) := dk_3 (dk_at dksX2_as_2 23 rfl rfl)
theorem dX2_as_71 : decode cX2_as 71 = .ok (.istore 4, 2) := dk_54 4 (dk_at dksX2_as_3 0 rfl rfl)
theorem dX2_as_73 : decode cX2_as 73 = .ok (.iload 4, 2) := dk_21 4 (dk_at dksX2_as_3 2 rfl rfl)
theorem dX2_as_75 : decode cX2_as 75 = .ok (.ifCond .eq 10, 3) := dk_153 0 10 (dk_at dksX2_as_3 4 rfl rfl)
theorem dX2_as_78 : decode cX2_as 78 = .ok (.iload_n 3, 1) := dk_29 (dk_at dksX2_as_3 7 rfl rfl)
theorem dX2_as_79 : decode cX2_as 79 = .ok (.invokestatic 249, 3) := dk_184 0 249 (dk_at dksX2_as_3 8 rfl rfl)
theorem dX2_as_82 : decode cX2_as 82 = .ok (.goto 5, 3) := dk_167 0 5 (dk_at dksX2_as_3 11 rfl rfl)
theorem dX2_as_85 : decode cX2_as 85 = .ok (.bipush (-4), 2) := dk_16 252 (dk_at dksX2_as_3 14 rfl rfl)
theorem dX2_as_87 : decode cX2_as 87 = .ok (.ireturn, 1) := dk_172 (dk_at dksX2_as_3 16 rfl rfl)
abbrev cX2_gets : ByteArray := prog_18_method_34_code
def yX2_gets : MethodName := ⟨RX2, "gets", "(I)I"⟩
def dkwX2_gets_1 : List UInt8 := [172]
abbrev dktX2_gets_1 : List UInt8 := dkwX2_gets_1 ++ []
def dkwX2_gets_0 : List UInt8 := [26, 6, 159, 0, 8, 26, 7, 160, 0, 7, 3, 167, 0, 13, 26, 4, 160, 0, 7, 8, 167, 0, 4, 6]
abbrev dktX2_gets_0 : List UInt8 := dkwX2_gets_0 ++ dktX2_gets_1
theorem dksX2_gets_0 : cX2_gets.data.toList.drop 0 = dktX2_gets_0 := by decide +kernel
theorem dksX2_gets_1 : cX2_gets.data.toList.drop 24 = dktX2_gets_1 := dk_seg dksX2_gets_0 24 rfl rfl
theorem dX2_gets_0 : decode cX2_gets 0 = .ok (.iload_n 0, 1) := dk_26 (dk_at dksX2_gets_0 0 rfl rfl)
theorem dX2_gets_1 : decode cX2_gets 1 = .ok (.iconst 3, 1) := dk_6 (dk_at dksX2_gets_0 1 rfl rfl)
theorem dX2_gets_2 : decode cX2_gets 2 = .ok (.if_icmp .eq 8, 3) := dk_159 0 8 (dk_at dksX2_gets_0 2 rfl rfl)
theorem dX2_gets_5 : decode cX2_gets 5 = .ok (.iload_n 0, 1) := dk_26 (dk_at dksX2_gets_0 5 rfl rfl)
theorem dX2_gets_6 : decode cX2_gets 6 = .ok (.iconst 4, 1) := dk_7 (dk_at dksX2_gets_0 6 rfl rfl)
theorem dX2_gets_7 : decode cX2_gets 7 = .ok (.if_icmp .ne 7, 3) := dk_160 0 7 (dk_at dksX2_gets_0 7 rfl rfl)
theorem dX2_gets_10 : decode cX2_gets 10 = .ok (.iconst 0, 1) := dk_3 (dk_at dksX2_gets_0 10 rfl rfl)
theorem dX2_gets_11 : decode cX2_gets 11 = .ok (.goto 13, 3) := dk_167 0 13 (dk_at dksX2_gets_0 11 rfl rfl)
theorem dX2_gets_14 : decode cX2_gets 14 = .ok (.iload_n 0, 1) := dk_26 (dk_at dksX2_gets_0 14 rfl rfl)
theorem dX2_gets_15 : decode cX2_gets 15 = .ok (.iconst 1, 1) := dk_4 (dk_at dksX2_gets_0 15 rfl rfl)
theorem dX2_gets_16 : decode cX2_gets 16 = .ok (.if_icmp .ne 7, 3) := dk_160 0 7 (dk_at dksX2_gets_0 16 rfl rfl)
theorem dX2_gets_19 : decode cX2_gets 19 = .ok (.iconst 5, 1) := dk_8 (dk_at dksX2_gets_0 19 rfl rfl)
theorem dX2_gets_20 : decode cX2_gets 20 = .ok (.goto 4, 3) := dk_167 0 4 (dk_at dksX2_gets_0 20 rfl rfl)
theorem dX2_gets_23 : decode cX2_gets 23 = .ok (.iconst 3, 1) := dk_6 (dk_at dksX2_gets_0 23 rfl rfl)
theorem dX2_gets_24 : decode cX2_gets 24 = .ok (.ireturn, 1) := dk_172 (dk_at dksX2_gets_1 0 rfl rfl)
abbrev cX2_known : ByteArray := prog_18_method_56_code
def yX2_known : MethodName := ⟨RX2, "known", "(III)I"⟩
def dkwX2_known_2 : List UInt8 := [17, 5, 36, 16, 10, 27, 104, 96, 28, 96, 46, 172]
abbrev dktX2_known_2 : List UInt8 := dkwX2_known_2 ++ []
def dkwX2_known_1 : List UInt8 := [184, 0, 109, 154, 0, 6, 16, 253, 172, 42, 182, 1, 42, 42, 29, 182, 1, 45, 42, 180, 0, 7]
abbrev dktX2_known_1 : List UInt8 := dkwX2_known_1 ++ dktX2_known_2
def dkwX2_known_0 : List UInt8 := [42, 27, 182, 0, 234, 153, 0, 10, 28, 184, 1, 37, 154, 0, 6, 16, 254, 172, 29, 133, 9, 20, 1, 40]
abbrev dktX2_known_0 : List UInt8 := dkwX2_known_0 ++ dktX2_known_1
theorem dksX2_known_0 : cX2_known.data.toList.drop 0 = dktX2_known_0 := by decide +kernel
theorem dksX2_known_1 : cX2_known.data.toList.drop 24 = dktX2_known_1 := dk_seg dksX2_known_0 24 rfl rfl
theorem dksX2_known_2 : cX2_known.data.toList.drop 46 = dktX2_known_2 := dk_seg dksX2_known_1 22 rfl rfl
theorem dX2_known_0 : decode cX2_known 0 = .ok (.aload_n 0, 1) := dk_42 (dk_at dksX2_known_0 0 rfl rfl)
theorem dX2_known_1 : decode cX2_known 1 = .ok (.iload_n 1, 1) := dk_27 (dk_at dksX2_known_0 1 rfl rfl)
theorem dX2_known_2 : decode cX2_known 2 = .ok (.invokevirtual 234, 3) := dk_182 0 234 (dk_at dksX2_known_0 2 rfl rfl)
theorem dX2_known_5 : decode cX2_known 5 = .ok (.ifCond .eq 10, 3) := dk_153 0 10 (dk_at dksX2_known_0 5 rfl rfl)
theorem dX2_known_8 : decode cX2_known 8 = .ok (.iload_n 2, 1) := dk_28 (dk_at dksX2_known_0 8 rfl rfl)
theorem dX2_known_9 : decode cX2_known 9 = .ok (.invokestatic 293, 3) := dk_184 1 37 (dk_at dksX2_known_0 9 rfl rfl)
theorem dX2_known_12 : decode cX2_known 12 = .ok (.ifCond .ne 6, 3) := dk_154 0 6 (dk_at dksX2_known_0 12 rfl rfl)
theorem dX2_known_15 : decode cX2_known 15 = .ok (.bipush (-2), 2) := dk_16 254 (dk_at dksX2_known_0 15 rfl rfl)
theorem dX2_known_17 : decode cX2_known 17 = .ok (.ireturn, 1) := dk_172 (dk_at dksX2_known_0 17 rfl rfl)
theorem dX2_known_18 : decode cX2_known 18 = .ok (.iload_n 3, 1) := dk_29 (dk_at dksX2_known_0 18 rfl rfl)
theorem dX2_known_19 : decode cX2_known 19 = .ok (.i2l, 1) := dk_133 (dk_at dksX2_known_0 19 rfl rfl)
theorem dX2_known_20 : decode cX2_known 20 = .ok (.lconst 0, 1) := dk_9 (dk_at dksX2_known_0 20 rfl rfl)
theorem dX2_known_21 : decode cX2_known 21 = .ok (.ldc2_w 296, 3) := dk_20 1 40 (dk_at dksX2_known_0 21 rfl rfl)
theorem dX2_known_24 : decode cX2_known 24 = .ok (.invokestatic 109, 3) := dk_184 0 109 (dk_at dksX2_known_1 0 rfl rfl)
theorem dX2_known_27 : decode cX2_known 27 = .ok (.ifCond .ne 6, 3) := dk_154 0 6 (dk_at dksX2_known_1 3 rfl rfl)
theorem dX2_known_30 : decode cX2_known 30 = .ok (.bipush (-3), 2) := dk_16 253 (dk_at dksX2_known_1 6 rfl rfl)
theorem dX2_known_32 : decode cX2_known 32 = .ok (.ireturn, 1) := dk_172 (dk_at dksX2_known_1 8 rfl rfl)
theorem dX2_known_33 : decode cX2_known 33 = .ok (.aload_n 0, 1) := dk_42 (dk_at dksX2_known_1 9 rfl rfl)
theorem dX2_known_34 : decode cX2_known 34 = .ok (.invokevirtual 298, 3) := dk_182 1 42 (dk_at dksX2_known_1 10 rfl rfl)
theorem dX2_known_37 : decode cX2_known 37 = .ok (.aload_n 0, 1) := dk_42 (dk_at dksX2_known_1 13 rfl rfl)
theorem dX2_known_38 : decode cX2_known 38 = .ok (.iload_n 3, 1) := dk_29 (dk_at dksX2_known_1 14 rfl rfl)
theorem dX2_known_39 : decode cX2_known 39 = .ok (.invokevirtual 301, 3) := dk_182 1 45 (dk_at dksX2_known_1 15 rfl rfl)
theorem dX2_known_42 : decode cX2_known 42 = .ok (.aload_n 0, 1) := dk_42 (dk_at dksX2_known_1 18 rfl rfl)
theorem dX2_known_43 : decode cX2_known 43 = .ok (.getfield 7, 3) := dk_180 0 7 (dk_at dksX2_known_1 19 rfl rfl)
theorem dX2_known_46 : decode cX2_known 46 = .ok (.sipush 1316, 3) := dk_17 5 36 (dk_at dksX2_known_2 0 rfl rfl)
theorem dX2_known_49 : decode cX2_known 49 = .ok (.bipush 10, 2) := dk_16 10 (dk_at dksX2_known_2 3 rfl rfl)
theorem dX2_known_51 : decode cX2_known 51 = .ok (.iload_n 1, 1) := dk_27 (dk_at dksX2_known_2 5 rfl rfl)
theorem dX2_known_52 : decode cX2_known 52 = .ok (.imul, 1) := dk_104 (dk_at dksX2_known_2 6 rfl rfl)
theorem dX2_known_53 : decode cX2_known 53 = .ok (.iadd, 1) := dk_96 (dk_at dksX2_known_2 7 rfl rfl)
theorem dX2_known_54 : decode cX2_known 54 = .ok (.iload_n 2, 1) := dk_28 (dk_at dksX2_known_2 8 rfl rfl)
theorem dX2_known_55 : decode cX2_known 55 = .ok (.iadd, 1) := dk_96 (dk_at dksX2_known_2 9 rfl rfl)
theorem dX2_known_56 : decode cX2_known 56 = .ok (.iaload, 1) := dk_46 (dk_at dksX2_known_2 10 rfl rfl)
theorem dX2_known_57 : decode cX2_known 57 = .ok (.ireturn, 1) := dk_172 (dk_at dksX2_known_2 11 rfl rfl)
abbrev cX2_isWordNumber : ByteArray := prog_18_method_39_code
def yX2_isWordNumber : MethodName := ⟨RX2, "isWordNumber", "(I)Z"⟩
def dkwX2_isWordNumber_0 : List UInt8 := [26, 133, 9, 20, 0, 232, 184, 0, 109, 172]
abbrev dktX2_isWordNumber_0 : List UInt8 := dkwX2_isWordNumber_0 ++ []
theorem dksX2_isWordNumber_0 : cX2_isWordNumber.data.toList.drop 0 = dktX2_isWordNumber_0 := by decide +kernel
theorem dX2_isWordNumber_0 : decode cX2_isWordNumber 0 = .ok (.iload_n 0, 1) := dk_26 (dk_at dksX2_isWordNumber_0 0 rfl rfl)
theorem dX2_isWordNumber_1 : decode cX2_isWordNumber 1 = .ok (.i2l, 1) := dk_133 (dk_at dksX2_isWordNumber_0 1 rfl rfl)
theorem dX2_isWordNumber_2 : decode cX2_isWordNumber 2 = .ok (.lconst 0, 1) := dk_9 (dk_at dksX2_isWordNumber_0 2 rfl rfl)
theorem dX2_isWordNumber_3 : decode cX2_isWordNumber 3 = .ok (.ldc2_w 232, 3) := dk_20 0 232 (dk_at dksX2_isWordNumber_0 3 rfl rfl)
theorem dX2_isWordNumber_6 : decode cX2_isWordNumber 6 = .ok (.invokestatic 109, 3) := dk_184 0 109 (dk_at dksX2_isWordNumber_0 6 rfl rfl)
theorem dX2_isWordNumber_9 : decode cX2_isWordNumber 9 = .ok (.ireturn, 1) := dk_172 (dk_at dksX2_isWordNumber_0 9 rfl rfl)
abbrev cX2_layTried : ByteArray := prog_18_method_54_code
def yX2_layTried : MethodName := ⟨RX2, "layTried", "()V"⟩
def dkwX2_layTried_0 : List UInt8 := [42, 3, 17, 5, 16, 182, 0, 202, 177]
abbrev dktX2_layTried_0 : List UInt8 := dkwX2_layTried_0 ++ []
theorem dksX2_layTried_0 : cX2_layTried.data.toList.drop 0 = dktX2_layTried_0 := by decide +kernel
theorem dX2_layTried_0 : decode cX2_layTried 0 = .ok (.aload_n 0, 1) := dk_42 (dk_at dksX2_layTried_0 0 rfl rfl)
theorem dX2_layTried_1 : decode cX2_layTried 1 = .ok (.iconst 0, 1) := dk_3 (dk_at dksX2_layTried_0 1 rfl rfl)
theorem dX2_layTried_2 : decode cX2_layTried 2 = .ok (.sipush 1296, 3) := dk_17 5 16 (dk_at dksX2_layTried_0 2 rfl rfl)
theorem dX2_layTried_5 : decode cX2_layTried 5 = .ok (.invokevirtual 202, 3) := dk_182 0 202 (dk_at dksX2_layTried_0 5 rfl rfl)
theorem dX2_layTried_8 : decode cX2_layTried 8 = .ok (.return_, 1) := dk_177 (dk_at dksX2_layTried_0 8 rfl rfl)
abbrev cX2_passTried : ByteArray := prog_18_method_55_code
def yX2_passTried : MethodName := ⟨RX2, "passTried", "(I)V"⟩
def dkwX2_passTried_0 : List UInt8 := [3, 61, 28, 27, 162, 0, 16, 42, 17, 5, 16, 182, 1, 34, 132, 2, 1, 167, 255, 241, 177]
abbrev dktX2_passTried_0 : List UInt8 := dkwX2_passTried_0 ++ []
theorem dksX2_passTried_0 : cX2_passTried.data.toList.drop 0 = dktX2_passTried_0 := by decide +kernel
theorem dX2_passTried_0 : decode cX2_passTried 0 = .ok (.iconst 0, 1) := dk_3 (dk_at dksX2_passTried_0 0 rfl rfl)
theorem dX2_passTried_1 : decode cX2_passTried 1 = .ok (.istore_n 2, 1) := dk_61 (dk_at dksX2_passTried_0 1 rfl rfl)
theorem dX2_passTried_2 : decode cX2_passTried 2 = .ok (.iload_n 2, 1) := dk_28 (dk_at dksX2_passTried_0 2 rfl rfl)
theorem dX2_passTried_3 : decode cX2_passTried 3 = .ok (.iload_n 1, 1) := dk_27 (dk_at dksX2_passTried_0 3 rfl rfl)
theorem dX2_passTried_4 : decode cX2_passTried 4 = .ok (.if_icmp .ge 16, 3) := dk_162 0 16 (dk_at dksX2_passTried_0 4 rfl rfl)
theorem dX2_passTried_7 : decode cX2_passTried 7 = .ok (.aload_n 0, 1) := dk_42 (dk_at dksX2_passTried_0 7 rfl rfl)
theorem dX2_passTried_8 : decode cX2_passTried 8 = .ok (.sipush 1296, 3) := dk_17 5 16 (dk_at dksX2_passTried_0 8 rfl rfl)
theorem dX2_passTried_11 : decode cX2_passTried 11 = .ok (.invokevirtual 290, 3) := dk_182 1 34 (dk_at dksX2_passTried_0 11 rfl rfl)
theorem dX2_passTried_14 : decode cX2_passTried 14 = .ok (.iinc 2 1, 3) := dk_132 2 1 (dk_at dksX2_passTried_0 14 rfl rfl)
theorem dX2_passTried_17 : decode cX2_passTried 17 = .ok (.goto (-15), 3) := dk_167 255 241 (dk_at dksX2_passTried_0 17 rfl rfl)
theorem dX2_passTried_20 : decode cX2_passTried 20 = .ok (.return_, 1) := dk_177 (dk_at dksX2_passTried_0 20 rfl rfl)
abbrev cX2_passes : ByteArray := prog_18_method_53_code
def yX2_passes : MethodName := ⟨RX2, "passes", "(I)V"⟩
def dkwX2_passes_3 : List UInt8 := [79, 177]
abbrev dktX2_passes_3 : List UInt8 := dkwX2_passes_3 ++ []
def dkwX2_passes_2 : List UInt8 := [96, 46, 6, 112, 5, 160, 0, 8, 42, 27, 182, 1, 31, 42, 180, 0, 7, 27, 5, 96, 92, 46, 4, 96]
abbrev dktX2_passes_2 : List UInt8 := dkwX2_passes_2 ++ dktX2_passes_3
def dkwX2_passes_1 : List UInt8 := [182, 1, 25, 154, 0, 9, 42, 27, 28, 182, 1, 28, 132, 2, 1, 167, 255, 226, 42, 180, 0, 7, 27, 5]
abbrev dktX2_passes_1 : List UInt8 := dkwX2_passes_1 ++ dktX2_passes_2
def dkwX2_passes_0 : List UInt8 := [42, 27, 182, 1, 21, 3, 61, 28, 7, 162, 0, 31, 42, 180, 0, 92, 28, 3, 79, 42, 27, 28]
abbrev dktX2_passes_0 : List UInt8 := dkwX2_passes_0 ++ dktX2_passes_1
theorem dksX2_passes_0 : cX2_passes.data.toList.drop 0 = dktX2_passes_0 := by decide +kernel
theorem dksX2_passes_1 : cX2_passes.data.toList.drop 22 = dktX2_passes_1 := dk_seg dksX2_passes_0 22 rfl rfl
theorem dksX2_passes_2 : cX2_passes.data.toList.drop 46 = dktX2_passes_2 := dk_seg dksX2_passes_1 24 rfl rfl
theorem dksX2_passes_3 : cX2_passes.data.toList.drop 70 = dktX2_passes_3 := dk_seg dksX2_passes_2 24 rfl rfl
theorem dX2_passes_0 : decode cX2_passes 0 = .ok (.aload_n 0, 1) := dk_42 (dk_at dksX2_passes_0 0 rfl rfl)
theorem dX2_passes_1 : decode cX2_passes 1 = .ok (.iload_n 1, 1) := dk_27 (dk_at dksX2_passes_0 1 rfl rfl)
theorem dX2_passes_2 : decode cX2_passes 2 = .ok (.invokevirtual 277, 3) := dk_182 1 21 (dk_at dksX2_passes_0 2 rfl rfl)
theorem dX2_passes_5 : decode cX2_passes 5 = .ok (.iconst 0, 1) := dk_3 (dk_at dksX2_passes_0 5 rfl rfl)
theorem dX2_passes_6 : decode cX2_passes 6 = .ok (.istore_n 2, 1) := dk_61 (dk_at dksX2_passes_0 6 rfl rfl)
theorem dX2_passes_7 : decode cX2_passes 7 = .ok (.iload_n 2, 1) := dk_28 (dk_at dksX2_passes_0 7 rfl rfl)
theorem dX2_passes_8 : decode cX2_passes 8 = .ok (.iconst 4, 1) := dk_7 (dk_at dksX2_passes_0 8 rfl rfl)
theorem dX2_passes_9 : decode cX2_passes 9 = .ok (.if_icmp .ge 31, 3) := dk_162 0 31 (dk_at dksX2_passes_0 9 rfl rfl)
theorem dX2_passes_12 : decode cX2_passes 12 = .ok (.aload_n 0, 1) := dk_42 (dk_at dksX2_passes_0 12 rfl rfl)
theorem dX2_passes_13 : decode cX2_passes 13 = .ok (.getfield 92, 3) := dk_180 0 92 (dk_at dksX2_passes_0 13 rfl rfl)
theorem dX2_passes_16 : decode cX2_passes 16 = .ok (.iload_n 2, 1) := dk_28 (dk_at dksX2_passes_0 16 rfl rfl)
theorem dX2_passes_17 : decode cX2_passes 17 = .ok (.iconst 0, 1) := dk_3 (dk_at dksX2_passes_0 17 rfl rfl)
theorem dX2_passes_18 : decode cX2_passes 18 = .ok (.iastore, 1) := dk_79 (dk_at dksX2_passes_0 18 rfl rfl)
theorem dX2_passes_19 : decode cX2_passes 19 = .ok (.aload_n 0, 1) := dk_42 (dk_at dksX2_passes_0 19 rfl rfl)
theorem dX2_passes_20 : decode cX2_passes 20 = .ok (.iload_n 1, 1) := dk_27 (dk_at dksX2_passes_0 20 rfl rfl)
theorem dX2_passes_21 : decode cX2_passes 21 = .ok (.iload_n 2, 1) := dk_28 (dk_at dksX2_passes_0 21 rfl rfl)
theorem dX2_passes_22 : decode cX2_passes 22 = .ok (.invokevirtual 281, 3) := dk_182 1 25 (dk_at dksX2_passes_1 0 rfl rfl)
theorem dX2_passes_25 : decode cX2_passes 25 = .ok (.ifCond .ne 9, 3) := dk_154 0 9 (dk_at dksX2_passes_1 3 rfl rfl)
theorem dX2_passes_28 : decode cX2_passes 28 = .ok (.aload_n 0, 1) := dk_42 (dk_at dksX2_passes_1 6 rfl rfl)
theorem dX2_passes_29 : decode cX2_passes 29 = .ok (.iload_n 1, 1) := dk_27 (dk_at dksX2_passes_1 7 rfl rfl)
theorem dX2_passes_30 : decode cX2_passes 30 = .ok (.iload_n 2, 1) := dk_28 (dk_at dksX2_passes_1 8 rfl rfl)
theorem dX2_passes_31 : decode cX2_passes 31 = .ok (.invokevirtual 284, 3) := dk_182 1 28 (dk_at dksX2_passes_1 9 rfl rfl)
theorem dX2_passes_34 : decode cX2_passes 34 = .ok (.iinc 2 1, 3) := dk_132 2 1 (dk_at dksX2_passes_1 12 rfl rfl)
theorem dX2_passes_37 : decode cX2_passes 37 = .ok (.goto (-30), 3) := dk_167 255 226 (dk_at dksX2_passes_1 15 rfl rfl)
theorem dX2_passes_40 : decode cX2_passes 40 = .ok (.aload_n 0, 1) := dk_42 (dk_at dksX2_passes_1 18 rfl rfl)
theorem dX2_passes_41 : decode cX2_passes 41 = .ok (.getfield 7, 3) := dk_180 0 7 (dk_at dksX2_passes_1 19 rfl rfl)
theorem dX2_passes_44 : decode cX2_passes 44 = .ok (.iload_n 1, 1) := dk_27 (dk_at dksX2_passes_1 22 rfl rfl)
theorem dX2_passes_45 : decode cX2_passes 45 = .ok (.iconst 2, 1) := dk_5 (dk_at dksX2_passes_1 23 rfl rfl)
theorem dX2_passes_46 : decode cX2_passes 46 = .ok (.iadd, 1) := dk_96 (dk_at dksX2_passes_2 0 rfl rfl)
theorem dX2_passes_47 : decode cX2_passes 47 = .ok (.iaload, 1) := dk_46 (dk_at dksX2_passes_2 1 rfl rfl)
theorem dX2_passes_48 : decode cX2_passes 48 = .ok (.iconst 3, 1) := dk_6 (dk_at dksX2_passes_2 2 rfl rfl)
theorem dX2_passes_49 : decode cX2_passes 49 = .ok (.irem, 1) := dk_112 (dk_at dksX2_passes_2 3 rfl rfl)
theorem dX2_passes_50 : decode cX2_passes 50 = .ok (.iconst 2, 1) := dk_5 (dk_at dksX2_passes_2 4 rfl rfl)
theorem dX2_passes_51 : decode cX2_passes 51 = .ok (.if_icmp .ne 8, 3) := dk_160 0 8 (dk_at dksX2_passes_2 5 rfl rfl)
theorem dX2_passes_54 : decode cX2_passes 54 = .ok (.aload_n 0, 1) := dk_42 (dk_at dksX2_passes_2 8 rfl rfl)
theorem dX2_passes_55 : decode cX2_passes 55 = .ok (.iload_n 1, 1) := dk_27 (dk_at dksX2_passes_2 9 rfl rfl)
theorem dX2_passes_56 : decode cX2_passes 56 = .ok (.invokevirtual 287, 3) := dk_182 1 31 (dk_at dksX2_passes_2 10 rfl rfl)
theorem dX2_passes_59 : decode cX2_passes 59 = .ok (.aload_n 0, 1) := dk_42 (dk_at dksX2_passes_2 13 rfl rfl)
theorem dX2_passes_60 : decode cX2_passes 60 = .ok (.getfield 7, 3) := dk_180 0 7 (dk_at dksX2_passes_2 14 rfl rfl)
theorem dX2_passes_63 : decode cX2_passes 63 = .ok (.iload_n 1, 1) := dk_27 (dk_at dksX2_passes_2 17 rfl rfl)
theorem dX2_passes_64 : decode cX2_passes 64 = .ok (.iconst 2, 1) := dk_5 (dk_at dksX2_passes_2 18 rfl rfl)
theorem dX2_passes_65 : decode cX2_passes 65 = .ok (.iadd, 1) := dk_96 (dk_at dksX2_passes_2 19 rfl rfl)
theorem dX2_passes_66 : decode cX2_passes 66 = .ok (.dup2, 1) := dk_92 (dk_at dksX2_passes_2 20 rfl rfl)
theorem dX2_passes_67 : decode cX2_passes 67 = .ok (.iaload, 1) := dk_46 (dk_at dksX2_passes_2 21 rfl rfl)
theorem dX2_passes_68 : decode cX2_passes 68 = .ok (.iconst 1, 1) := dk_4 (dk_at dksX2_passes_2 22 rfl rfl)
theorem dX2_passes_69 : decode cX2_passes 69 = .ok (.iadd, 1) := dk_96 (dk_at dksX2_passes_2 23 rfl rfl)
theorem dX2_passes_70 : decode cX2_passes 70 = .ok (.iastore, 1) := dk_79 (dk_at dksX2_passes_3 0 rfl rfl)
theorem dX2_passes_71 : decode cX2_passes 71 = .ok (.return_, 1) := dk_177 (dk_at dksX2_passes_3 1 rfl rfl)
abbrev cX2_handOver : ByteArray := prog_18_method_47_code
def yX2_handOver : MethodName := ⟨RX2, "handOver", "(I)V"⟩
def dkwX2_handOver_6 : List UInt8 := [177]
abbrev dktX2_handOver_6 : List UInt8 := dkwX2_handOver_6 ++ []
def dkwX2_handOver_5 : List UInt8 := [4, 21, 5, 120, 2, 130, 126, 79, 42, 27, 29, 21, 5, 21, 4, 182, 0, 255, 132, 2, 1, 167, 255, 119]
abbrev dktX2_handOver_5 : List UInt8 := dkwX2_handOver_5 ++ dktX2_handOver_6
def dkwX2_handOver_4 : List UInt8 := [184, 0, 165, 154, 0, 9, 132, 5, 1, 167, 255, 234, 42, 180, 0, 7, 27, 16, 100, 96, 28, 96, 92, 46]
abbrev dktX2_handOver_4 : List UInt8 := dkwX2_handOver_4 ++ dktX2_handOver_5
def dkwX2_handOver_3 : List UInt8 := [28, 96, 46, 153, 0, 61, 3, 54, 5, 42, 180, 0, 7, 27, 16, 100, 96, 28, 96, 46, 21, 5]
abbrev dktX2_handOver_3 : List UInt8 := dkwX2_handOver_3 ++ dktX2_handOver_4
def dkwX2_handOver_2 : List UInt8 := [27, 7, 96, 29, 96, 46, 184, 0, 249, 54, 4, 21, 4, 158, 0, 75, 42, 180, 0, 7, 27, 16, 100, 96]
abbrev dktX2_handOver_2 : List UInt8 := dkwX2_handOver_2 ++ dktX2_handOver_3
def dkwX2_handOver_1 : List UInt8 := [46, 62, 29, 2, 159, 0, 12, 42, 27, 29, 182, 0, 252, 154, 0, 7, 3, 167, 0, 16, 42, 180, 0, 7]
abbrev dktX2_handOver_1 : List UInt8 := dkwX2_handOver_1 ++ dktX2_handOver_2
def dkwX2_handOver_0 : List UInt8 := [3, 61, 28, 42, 180, 0, 7, 27, 4, 96, 46, 162, 0, 131, 42, 180, 0, 7, 27, 16, 104, 96, 28, 96]
abbrev dktX2_handOver_0 : List UInt8 := dkwX2_handOver_0 ++ dktX2_handOver_1
theorem dksX2_handOver_0 : cX2_handOver.data.toList.drop 0 = dktX2_handOver_0 := by decide +kernel
theorem dksX2_handOver_1 : cX2_handOver.data.toList.drop 24 = dktX2_handOver_1 := dk_seg dksX2_handOver_0 24 rfl rfl
theorem dksX2_handOver_2 : cX2_handOver.data.toList.drop 48 = dktX2_handOver_2 := dk_seg dksX2_handOver_1 24 rfl rfl
theorem dksX2_handOver_3 : cX2_handOver.data.toList.drop 72 = dktX2_handOver_3 := dk_seg dksX2_handOver_2 24 rfl rfl
theorem dksX2_handOver_4 : cX2_handOver.data.toList.drop 94 = dktX2_handOver_4 := dk_seg dksX2_handOver_3 22 rfl rfl
theorem dksX2_handOver_5 : cX2_handOver.data.toList.drop 118 = dktX2_handOver_5 := dk_seg dksX2_handOver_4 24 rfl rfl
theorem dksX2_handOver_6 : cX2_handOver.data.toList.drop 142 = dktX2_handOver_6 := dk_seg dksX2_handOver_5 24 rfl rfl
theorem dX2_handOver_0 : decode cX2_handOver 0 = .ok (.iconst 0, 1) := dk_3 (dk_at dksX2_handOver_0 0 rfl rfl)
theorem dX2_handOver_1 : decode cX2_handOver 1 = .ok (.istore_n 2, 1) := dk_61 (dk_at dksX2_handOver_0 1 rfl rfl)
theorem dX2_handOver_2 : decode cX2_handOver 2 = .ok (.iload_n 2, 1) := dk_28 (dk_at dksX2_handOver_0 2 rfl rfl)
theorem dX2_handOver_3 : decode cX2_handOver 3 = .ok (.aload_n 0, 1) := dk_42 (dk_at dksX2_handOver_0 3 rfl rfl)
theorem dX2_handOver_4 : decode cX2_handOver 4 = .ok (.getfield 7, 3) := dk_180 0 7 (dk_at dksX2_handOver_0 4 rfl rfl)
theorem dX2_handOver_7 : decode cX2_handOver 7 = .ok (.iload_n 1, 1) := dk_27 (dk_at dksX2_handOver_0 7 rfl rfl)
theorem dX2_handOver_8 : decode cX2_handOver 8 = .ok (.iconst 1, 1) := dk_4 (dk_at dksX2_handOver_0 8 rfl rfl)
theorem dX2_handOver_9 : decode cX2_handOver 9 = .ok (.iadd, 1) := dk_96 (dk_at dksX2_handOver_0 9 rfl rfl)
theorem dX2_handOver_10 : decode cX2_handOver 10 = .ok (.iaload, 1) := dk_46 (dk_at dksX2_handOver_0 10 rfl rfl)
theorem dX2_handOver_11 : decode cX2_handOver 11 = .ok (.if_icmp .ge 131, 3) := dk_162 0 131 (dk_at dksX2_handOver_0 11 rfl rfl)
theorem dX2_handOver_14 : decode cX2_handOver 14 = .ok (.aload_n 0, 1) := dk_42 (dk_at dksX2_handOver_0 14 rfl rfl)
theorem dX2_handOver_15 : decode cX2_handOver 15 = .ok (.getfield 7, 3) := dk_180 0 7 (dk_at dksX2_handOver_0 15 rfl rfl)
theorem dX2_handOver_18 : decode cX2_handOver 18 = .ok (.iload_n 1, 1) := dk_27 (dk_at dksX2_handOver_0 18 rfl rfl)
theorem dX2_handOver_19 : decode cX2_handOver 19 = .ok (.bipush 104, 2) := dk_16 104 (dk_at dksX2_handOver_0 19 rfl rfl)
theorem dX2_handOver_21 : decode cX2_handOver 21 = .ok (.iadd, 1) := dk_96 (dk_at dksX2_handOver_0 21 rfl rfl)
theorem dX2_handOver_22 : decode cX2_handOver 22 = .ok (.iload_n 2, 1) := dk_28 (dk_at dksX2_handOver_0 22 rfl rfl)
theorem dX2_handOver_23 : decode cX2_handOver 23 = .ok (.iadd, 1) := dk_96 (dk_at dksX2_handOver_0 23 rfl rfl)
theorem dX2_handOver_24 : decode cX2_handOver 24 = .ok (.iaload, 1) := dk_46 (dk_at dksX2_handOver_1 0 rfl rfl)
theorem dX2_handOver_25 : decode cX2_handOver 25 = .ok (.istore_n 3, 1) := dk_62 (dk_at dksX2_handOver_1 1 rfl rfl)
theorem dX2_handOver_26 : decode cX2_handOver 26 = .ok (.iload_n 3, 1) := dk_29 (dk_at dksX2_handOver_1 2 rfl rfl)
theorem dX2_handOver_27 : decode cX2_handOver 27 = .ok (.iconst (-1), 1) := dk_2 (dk_at dksX2_handOver_1 3 rfl rfl)
theorem dX2_handOver_28 : decode cX2_handOver 28 = .ok (.if_icmp .eq 12, 3) := dk_159 0 12 (dk_at dksX2_handOver_1 4 rfl rfl)
theorem dX2_handOver_31 : decode cX2_handOver 31 = .ok (.aload_n 0, 1) := dk_42 (dk_at dksX2_handOver_1 7 rfl rfl)
theorem dX2_handOver_32 : decode cX2_handOver 32 = .ok (.iload_n 1, 1) := dk_27 (dk_at dksX2_handOver_1 8 rfl rfl)
theorem dX2_handOver_33 : decode cX2_handOver 33 = .ok (.iload_n 3, 1) := dk_29 (dk_at dksX2_handOver_1 9 rfl rfl)
theorem dX2_handOver_34 : decode cX2_handOver 34 = .ok (.invokevirtual 252, 3) := dk_182 0 252 (dk_at dksX2_handOver_1 10 rfl rfl)
theorem dX2_handOver_37 : decode cX2_handOver 37 = .ok (.ifCond .ne 7, 3) := dk_154 0 7 (dk_at dksX2_handOver_1 13 rfl rfl)
theorem dX2_handOver_40 : decode cX2_handOver 40 = .ok (.iconst 0, 1) := dk_3 (dk_at dksX2_handOver_1 16 rfl rfl)
theorem dX2_handOver_41 : decode cX2_handOver 41 = .ok (.goto 16, 3) := dk_167 0 16 (dk_at dksX2_handOver_1 17 rfl rfl)
theorem dX2_handOver_44 : decode cX2_handOver 44 = .ok (.aload_n 0, 1) := dk_42 (dk_at dksX2_handOver_1 20 rfl rfl)
theorem dX2_handOver_45 : decode cX2_handOver 45 = .ok (.getfield 7, 3) := dk_180 0 7 (dk_at dksX2_handOver_1 21 rfl rfl)
theorem dX2_handOver_48 : decode cX2_handOver 48 = .ok (.iload_n 1, 1) := dk_27 (dk_at dksX2_handOver_2 0 rfl rfl)
theorem dX2_handOver_49 : decode cX2_handOver 49 = .ok (.iconst 4, 1) := dk_7 (dk_at dksX2_handOver_2 1 rfl rfl)
theorem dX2_handOver_50 : decode cX2_handOver 50 = .ok (.iadd, 1) := dk_96 (dk_at dksX2_handOver_2 2 rfl rfl)
theorem dX2_handOver_51 : decode cX2_handOver 51 = .ok (.iload_n 3, 1) := dk_29 (dk_at dksX2_handOver_2 3 rfl rfl)
theorem dX2_handOver_52 : decode cX2_handOver 52 = .ok (.iadd, 1) := dk_96 (dk_at dksX2_handOver_2 4 rfl rfl)
theorem dX2_handOver_53 : decode cX2_handOver 53 = .ok (.iaload, 1) := dk_46 (dk_at dksX2_handOver_2 5 rfl rfl)
theorem dX2_handOver_54 : decode cX2_handOver 54 = .ok (.invokestatic 249, 3) := dk_184 0 249 (dk_at dksX2_handOver_2 6 rfl rfl)
theorem dX2_handOver_57 : decode cX2_handOver 57 = .ok (.istore 4, 2) := dk_54 4 (dk_at dksX2_handOver_2 9 rfl rfl)
theorem dX2_handOver_59 : decode cX2_handOver 59 = .ok (.iload 4, 2) := dk_21 4 (dk_at dksX2_handOver_2 11 rfl rfl)
theorem dX2_handOver_61 : decode cX2_handOver 61 = .ok (.ifCond .le 75, 3) := dk_158 0 75 (dk_at dksX2_handOver_2 13 rfl rfl)
theorem dX2_handOver_64 : decode cX2_handOver 64 = .ok (.aload_n 0, 1) := dk_42 (dk_at dksX2_handOver_2 16 rfl rfl)
theorem dX2_handOver_65 : decode cX2_handOver 65 = .ok (.getfield 7, 3) := dk_180 0 7 (dk_at dksX2_handOver_2 17 rfl rfl)
theorem dX2_handOver_68 : decode cX2_handOver 68 = .ok (.iload_n 1, 1) := dk_27 (dk_at dksX2_handOver_2 20 rfl rfl)
theorem dX2_handOver_69 : decode cX2_handOver 69 = .ok (.bipush 100, 2) := dk_16 100 (dk_at dksX2_handOver_2 21 rfl rfl)
theorem dX2_handOver_71 : decode cX2_handOver 71 = .ok (.iadd, 1) := dk_96 (dk_at dksX2_handOver_2 23 rfl rfl)
theorem dX2_handOver_72 : decode cX2_handOver 72 = .ok (.iload_n 2, 1) := dk_28 (dk_at dksX2_handOver_3 0 rfl rfl)
theorem dX2_handOver_73 : decode cX2_handOver 73 = .ok (.iadd, 1) := dk_96 (dk_at dksX2_handOver_3 1 rfl rfl)
theorem dX2_handOver_74 : decode cX2_handOver 74 = .ok (.iaload, 1) := dk_46 (dk_at dksX2_handOver_3 2 rfl rfl)
theorem dX2_handOver_75 : decode cX2_handOver 75 = .ok (.ifCond .eq 61, 3) := dk_153 0 61 (dk_at dksX2_handOver_3 3 rfl rfl)
theorem dX2_handOver_78 : decode cX2_handOver 78 = .ok (.iconst 0, 1) := dk_3 (dk_at dksX2_handOver_3 6 rfl rfl)
theorem dX2_handOver_79 : decode cX2_handOver 79 = .ok (.istore 5, 2) := dk_54 5 (dk_at dksX2_handOver_3 7 rfl rfl)
theorem dX2_handOver_81 : decode cX2_handOver 81 = .ok (.aload_n 0, 1) := dk_42 (dk_at dksX2_handOver_3 9 rfl rfl)
theorem dX2_handOver_82 : decode cX2_handOver 82 = .ok (.getfield 7, 3) := dk_180 0 7 (dk_at dksX2_handOver_3 10 rfl rfl)
theorem dX2_handOver_85 : decode cX2_handOver 85 = .ok (.iload_n 1, 1) := dk_27 (dk_at dksX2_handOver_3 13 rfl rfl)
theorem dX2_handOver_86 : decode cX2_handOver 86 = .ok (.bipush 100, 2) := dk_16 100 (dk_at dksX2_handOver_3 14 rfl rfl)
theorem dX2_handOver_88 : decode cX2_handOver 88 = .ok (.iadd, 1) := dk_96 (dk_at dksX2_handOver_3 16 rfl rfl)
theorem dX2_handOver_89 : decode cX2_handOver 89 = .ok (.iload_n 2, 1) := dk_28 (dk_at dksX2_handOver_3 17 rfl rfl)
theorem dX2_handOver_90 : decode cX2_handOver 90 = .ok (.iadd, 1) := dk_96 (dk_at dksX2_handOver_3 18 rfl rfl)
theorem dX2_handOver_91 : decode cX2_handOver 91 = .ok (.iaload, 1) := dk_46 (dk_at dksX2_handOver_3 19 rfl rfl)
theorem dX2_handOver_92 : decode cX2_handOver 92 = .ok (.iload 5, 2) := dk_21 5 (dk_at dksX2_handOver_3 20 rfl rfl)
theorem dX2_handOver_94 : decode cX2_handOver 94 = .ok (.invokestatic 165, 3) := dk_184 0 165 (dk_at dksX2_handOver_4 0 rfl rfl)
theorem dX2_handOver_97 : decode cX2_handOver 97 = .ok (.ifCond .ne 9, 3) := dk_154 0 9 (dk_at dksX2_handOver_4 3 rfl rfl)
theorem dX2_handOver_100 : decode cX2_handOver 100 = .ok (.iinc 5 1, 3) := dk_132 5 1 (dk_at dksX2_handOver_4 6 rfl rfl)
theorem dX2_handOver_103 : decode cX2_handOver 103 = .ok (.goto (-22), 3) := dk_167 255 234 (dk_at dksX2_handOver_4 9 rfl rfl)
theorem dX2_handOver_106 : decode cX2_handOver 106 = .ok (.aload_n 0, 1) := dk_42 (dk_at dksX2_handOver_4 12 rfl rfl)
theorem dX2_handOver_107 : decode cX2_handOver 107 = .ok (.getfield 7, 3) := dk_180 0 7 (dk_at dksX2_handOver_4 13 rfl rfl)
theorem dX2_handOver_110 : decode cX2_handOver 110 = .ok (.iload_n 1, 1) := dk_27 (dk_at dksX2_handOver_4 16 rfl rfl)
theorem dX2_handOver_111 : decode cX2_handOver 111 = .ok (.bipush 100, 2) := dk_16 100 (dk_at dksX2_handOver_4 17 rfl rfl)
theorem dX2_handOver_113 : decode cX2_handOver 113 = .ok (.iadd, 1) := dk_96 (dk_at dksX2_handOver_4 19 rfl rfl)
theorem dX2_handOver_114 : decode cX2_handOver 114 = .ok (.iload_n 2, 1) := dk_28 (dk_at dksX2_handOver_4 20 rfl rfl)
theorem dX2_handOver_115 : decode cX2_handOver 115 = .ok (.iadd, 1) := dk_96 (dk_at dksX2_handOver_4 21 rfl rfl)
theorem dX2_handOver_116 : decode cX2_handOver 116 = .ok (.dup2, 1) := dk_92 (dk_at dksX2_handOver_4 22 rfl rfl)
theorem dX2_handOver_117 : decode cX2_handOver 117 = .ok (.iaload, 1) := dk_46 (dk_at dksX2_handOver_4 23 rfl rfl)
theorem dX2_handOver_118 : decode cX2_handOver 118 = .ok (.iconst 1, 1) := dk_4 (dk_at dksX2_handOver_5 0 rfl rfl)
theorem dX2_handOver_119 : decode cX2_handOver 119 = .ok (.iload 5, 2) := dk_21 5 (dk_at dksX2_handOver_5 1 rfl rfl)
theorem dX2_handOver_121 : decode cX2_handOver 121 = .ok (.ishl, 1) := dk_120 (dk_at dksX2_handOver_5 3 rfl rfl)
theorem dX2_handOver_122 : decode cX2_handOver 122 = .ok (.iconst (-1), 1) := dk_2 (dk_at dksX2_handOver_5 4 rfl rfl)
theorem dX2_handOver_123 : decode cX2_handOver 123 = .ok (.ixor, 1) := dk_130 (dk_at dksX2_handOver_5 5 rfl rfl)
theorem dX2_handOver_124 : decode cX2_handOver 124 = .ok (.iand, 1) := dk_126 (dk_at dksX2_handOver_5 6 rfl rfl)
theorem dX2_handOver_125 : decode cX2_handOver 125 = .ok (.iastore, 1) := dk_79 (dk_at dksX2_handOver_5 7 rfl rfl)
theorem dX2_handOver_126 : decode cX2_handOver 126 = .ok (.aload_n 0, 1) := dk_42 (dk_at dksX2_handOver_5 8 rfl rfl)
theorem dX2_handOver_127 : decode cX2_handOver 127 = .ok (.iload_n 1, 1) := dk_27 (dk_at dksX2_handOver_5 9 rfl rfl)
theorem dX2_handOver_128 : decode cX2_handOver 128 = .ok (.iload_n 3, 1) := dk_29 (dk_at dksX2_handOver_5 10 rfl rfl)
theorem dX2_handOver_129 : decode cX2_handOver 129 = .ok (.iload 5, 2) := dk_21 5 (dk_at dksX2_handOver_5 11 rfl rfl)
theorem dX2_handOver_131 : decode cX2_handOver 131 = .ok (.iload 4, 2) := dk_21 4 (dk_at dksX2_handOver_5 13 rfl rfl)
theorem dX2_handOver_133 : decode cX2_handOver 133 = .ok (.invokevirtual 255, 3) := dk_182 0 255 (dk_at dksX2_handOver_5 15 rfl rfl)
theorem dX2_handOver_136 : decode cX2_handOver 136 = .ok (.iinc 2 1, 3) := dk_132 2 1 (dk_at dksX2_handOver_5 18 rfl rfl)
theorem dX2_handOver_139 : decode cX2_handOver 139 = .ok (.goto (-137), 3) := dk_167 255 119 (dk_at dksX2_handOver_5 21 rfl rfl)
theorem dX2_handOver_142 : decode cX2_handOver 142 = .ok (.return_, 1) := dk_177 (dk_at dksX2_handOver_6 0 rfl rfl)
abbrev cX2_isOpen : ByteArray := prog_18_method_40_code
def yX2_isOpen : MethodName := ⟨RX2, "isOpen", "(II)Z"⟩
def dkwX2_isOpen_0 : List UInt8 := [42, 180, 0, 7, 27, 6, 96, 46, 28, 184, 0, 165, 154, 0, 7, 4, 167, 0, 4, 3, 172]
abbrev dktX2_isOpen_0 : List UInt8 := dkwX2_isOpen_0 ++ []
theorem dksX2_isOpen_0 : cX2_isOpen.data.toList.drop 0 = dktX2_isOpen_0 := by decide +kernel
theorem dX2_isOpen_0 : decode cX2_isOpen 0 = .ok (.aload_n 0, 1) := dk_42 (dk_at dksX2_isOpen_0 0 rfl rfl)
theorem dX2_isOpen_1 : decode cX2_isOpen 1 = .ok (.getfield 7, 3) := dk_180 0 7 (dk_at dksX2_isOpen_0 1 rfl rfl)
theorem dX2_isOpen_4 : decode cX2_isOpen 4 = .ok (.iload_n 1, 1) := dk_27 (dk_at dksX2_isOpen_0 4 rfl rfl)
theorem dX2_isOpen_5 : decode cX2_isOpen 5 = .ok (.iconst 3, 1) := dk_6 (dk_at dksX2_isOpen_0 5 rfl rfl)
theorem dX2_isOpen_6 : decode cX2_isOpen 6 = .ok (.iadd, 1) := dk_96 (dk_at dksX2_isOpen_0 6 rfl rfl)
theorem dX2_isOpen_7 : decode cX2_isOpen 7 = .ok (.iaload, 1) := dk_46 (dk_at dksX2_isOpen_0 7 rfl rfl)
theorem dX2_isOpen_8 : decode cX2_isOpen 8 = .ok (.iload_n 2, 1) := dk_28 (dk_at dksX2_isOpen_0 8 rfl rfl)
theorem dX2_isOpen_9 : decode cX2_isOpen 9 = .ok (.invokestatic 165, 3) := dk_184 0 165 (dk_at dksX2_isOpen_0 9 rfl rfl)
theorem dX2_isOpen_12 : decode cX2_isOpen 12 = .ok (.ifCond .ne 7, 3) := dk_154 0 7 (dk_at dksX2_isOpen_0 12 rfl rfl)
theorem dX2_isOpen_15 : decode cX2_isOpen 15 = .ok (.iconst 1, 1) := dk_4 (dk_at dksX2_isOpen_0 15 rfl rfl)
theorem dX2_isOpen_16 : decode cX2_isOpen 16 = .ok (.goto 4, 3) := dk_167 0 4 (dk_at dksX2_isOpen_0 16 rfl rfl)
theorem dX2_isOpen_19 : decode cX2_isOpen 19 = .ok (.iconst 0, 1) := dk_3 (dk_at dksX2_isOpen_0 19 rfl rfl)
theorem dX2_isOpen_20 : decode cX2_isOpen 20 = .ok (.ireturn, 1) := dk_172 (dk_at dksX2_isOpen_0 20 rfl rfl)
abbrev cX2_learns : ByteArray := prog_18_method_41_code
def yX2_learns : MethodName := ⟨RX2, "learns", "(IIII)V"⟩
def dkwX2_learns_2 : List UInt8 := [21, 4, 96, 79, 177]
abbrev dktX2_learns_2 : List UInt8 := dkwX2_learns_2 ++ []
def dkwX2_learns_1 : List UInt8 := [21, 5, 46, 21, 4, 96, 16, 9, 164, 0, 8, 16, 9, 167, 0, 13, 42, 180, 0, 7, 21, 5, 46]
abbrev dktX2_learns_1 : List UInt8 := dkwX2_learns_1 ++ dktX2_learns_2
def dkwX2_learns_0 : List UInt8 := [27, 16, 20, 96, 16, 10, 28, 104, 96, 29, 96, 54, 5, 42, 180, 0, 7, 21, 5, 42, 180, 0, 7]
abbrev dktX2_learns_0 : List UInt8 := dkwX2_learns_0 ++ dktX2_learns_1
theorem dksX2_learns_0 : cX2_learns.data.toList.drop 0 = dktX2_learns_0 := by decide +kernel
theorem dksX2_learns_1 : cX2_learns.data.toList.drop 23 = dktX2_learns_1 := dk_seg dksX2_learns_0 23 rfl rfl
theorem dksX2_learns_2 : cX2_learns.data.toList.drop 46 = dktX2_learns_2 := dk_seg dksX2_learns_1 23 rfl rfl
theorem dX2_learns_0 : decode cX2_learns 0 = .ok (.iload_n 1, 1) := dk_27 (dk_at dksX2_learns_0 0 rfl rfl)
theorem dX2_learns_1 : decode cX2_learns 1 = .ok (.bipush 20, 2) := dk_16 20 (dk_at dksX2_learns_0 1 rfl rfl)
theorem dX2_learns_3 : decode cX2_learns 3 = .ok (.iadd, 1) := dk_96 (dk_at dksX2_learns_0 3 rfl rfl)
theorem dX2_learns_4 : decode cX2_learns 4 = .ok (.bipush 10, 2) := dk_16 10 (dk_at dksX2_learns_0 4 rfl rfl)
theorem dX2_learns_6 : decode cX2_learns 6 = .ok (.iload_n 2, 1) := dk_28 (dk_at dksX2_learns_0 6 rfl rfl)
theorem dX2_learns_7 : decode cX2_learns 7 = .ok (.imul, 1) := dk_104 (dk_at dksX2_learns_0 7 rfl rfl)
theorem dX2_learns_8 : decode cX2_learns 8 = .ok (.iadd, 1) := dk_96 (dk_at dksX2_learns_0 8 rfl rfl)
theorem dX2_learns_9 : decode cX2_learns 9 = .ok (.iload_n 3, 1) := dk_29 (dk_at dksX2_learns_0 9 rfl rfl)
theorem dX2_learns_10 : decode cX2_learns 10 = .ok (.iadd, 1) := dk_96 (dk_at dksX2_learns_0 10 rfl rfl)
theorem dX2_learns_11 : decode cX2_learns 11 = .ok (.istore 5, 2) := dk_54 5 (dk_at dksX2_learns_0 11 rfl rfl)
theorem dX2_learns_13 : decode cX2_learns 13 = .ok (.aload_n 0, 1) := dk_42 (dk_at dksX2_learns_0 13 rfl rfl)
theorem dX2_learns_14 : decode cX2_learns 14 = .ok (.getfield 7, 3) := dk_180 0 7 (dk_at dksX2_learns_0 14 rfl rfl)
theorem dX2_learns_17 : decode cX2_learns 17 = .ok (.iload 5, 2) := dk_21 5 (dk_at dksX2_learns_0 17 rfl rfl)
theorem dX2_learns_19 : decode cX2_learns 19 = .ok (.aload_n 0, 1) := dk_42 (dk_at dksX2_learns_0 19 rfl rfl)
theorem dX2_learns_20 : decode cX2_learns 20 = .ok (.getfield 7, 3) := dk_180 0 7 (dk_at dksX2_learns_0 20 rfl rfl)
theorem dX2_learns_23 : decode cX2_learns 23 = .ok (.iload 5, 2) := dk_21 5 (dk_at dksX2_learns_1 0 rfl rfl)
theorem dX2_learns_25 : decode cX2_learns 25 = .ok (.iaload, 1) := dk_46 (dk_at dksX2_learns_1 2 rfl rfl)
theorem dX2_learns_26 : decode cX2_learns 26 = .ok (.iload 4, 2) := dk_21 4 (dk_at dksX2_learns_1 3 rfl rfl)
theorem dX2_learns_28 : decode cX2_learns 28 = .ok (.iadd, 1) := dk_96 (dk_at dksX2_learns_1 5 rfl rfl)
theorem dX2_learns_29 : decode cX2_learns 29 = .ok (.bipush 9, 2) := dk_16 9 (dk_at dksX2_learns_1 6 rfl rfl)
theorem dX2_learns_31 : decode cX2_learns 31 = .ok (.if_icmp .le 8, 3) := dk_164 0 8 (dk_at dksX2_learns_1 8 rfl rfl)
theorem dX2_learns_34 : decode cX2_learns 34 = .ok (.bipush 9, 2) := dk_16 9 (dk_at dksX2_learns_1 11 rfl rfl)
theorem dX2_learns_36 : decode cX2_learns 36 = .ok (.goto 13, 3) := dk_167 0 13 (dk_at dksX2_learns_1 13 rfl rfl)
theorem dX2_learns_39 : decode cX2_learns 39 = .ok (.aload_n 0, 1) := dk_42 (dk_at dksX2_learns_1 16 rfl rfl)
theorem dX2_learns_40 : decode cX2_learns 40 = .ok (.getfield 7, 3) := dk_180 0 7 (dk_at dksX2_learns_1 17 rfl rfl)
theorem dX2_learns_43 : decode cX2_learns 43 = .ok (.iload 5, 2) := dk_21 5 (dk_at dksX2_learns_1 20 rfl rfl)
theorem dX2_learns_45 : decode cX2_learns 45 = .ok (.iaload, 1) := dk_46 (dk_at dksX2_learns_1 22 rfl rfl)
theorem dX2_learns_46 : decode cX2_learns 46 = .ok (.iload 4, 2) := dk_21 4 (dk_at dksX2_learns_2 0 rfl rfl)
theorem dX2_learns_48 : decode cX2_learns 48 = .ok (.iadd, 1) := dk_96 (dk_at dksX2_learns_2 2 rfl rfl)
theorem dX2_learns_49 : decode cX2_learns 49 = .ok (.iastore, 1) := dk_79 (dk_at dksX2_learns_2 3 rfl rfl)
theorem dX2_learns_50 : decode cX2_learns 50 = .ok (.return_, 1) := dk_177 (dk_at dksX2_learns_2 4 rfl rfl)
abbrev cX2_isSilent : ByteArray := prog_18_method_48_code
def yX2_isSilent : MethodName := ⟨RX2, "isSilent", "(II)Z"⟩
def dkwX2_isSilent_3 : List UInt8 := [132, 4, 1, 167, 255, 189, 29, 172]
abbrev dktX2_isSilent_3 : List UInt8 := dkwX2_isSilent_3 ++ []
def dkwX2_isSilent_2 : List UInt8 := [96, 46, 6, 160, 0, 17, 42, 27, 21, 4, 182, 0, 252, 153, 0, 7, 4, 167, 0, 4, 3, 62]
abbrev dktX2_isSilent_2 : List UInt8 := dkwX2_isSilent_2 ++ dktX2_isSilent_3
def dkwX2_isSilent_1 : List UInt8 := [180, 0, 7, 27, 16, 12, 96, 21, 4, 96, 46, 28, 160, 0, 32, 42, 180, 0, 7, 27, 7, 96, 21, 4]
abbrev dktX2_isSilent_1 : List UInt8 := dkwX2_isSilent_1 ++ dktX2_isSilent_2
def dkwX2_isSilent_0 : List UInt8 := [3, 62, 3, 54, 4, 21, 4, 42, 180, 0, 7, 27, 3, 96, 46, 162, 0, 60, 29, 154, 0, 44, 42]
abbrev dktX2_isSilent_0 : List UInt8 := dkwX2_isSilent_0 ++ dktX2_isSilent_1
theorem dksX2_isSilent_0 : cX2_isSilent.data.toList.drop 0 = dktX2_isSilent_0 := by decide +kernel
theorem dksX2_isSilent_1 : cX2_isSilent.data.toList.drop 23 = dktX2_isSilent_1 := dk_seg dksX2_isSilent_0 23 rfl rfl
theorem dksX2_isSilent_2 : cX2_isSilent.data.toList.drop 47 = dktX2_isSilent_2 := dk_seg dksX2_isSilent_1 24 rfl rfl
theorem dksX2_isSilent_3 : cX2_isSilent.data.toList.drop 69 = dktX2_isSilent_3 := dk_seg dksX2_isSilent_2 22 rfl rfl
theorem dX2_isSilent_0 : decode cX2_isSilent 0 = .ok (.iconst 0, 1) := dk_3 (dk_at dksX2_isSilent_0 0 rfl rfl)
theorem dX2_isSilent_1 : decode cX2_isSilent 1 = .ok (.istore_n 3, 1) := dk_62 (dk_at dksX2_isSilent_0 1 rfl rfl)
theorem dX2_isSilent_2 : decode cX2_isSilent 2 = .ok (.iconst 0, 1) := dk_3 (dk_at dksX2_isSilent_0 2 rfl rfl)
theorem dX2_isSilent_3 : decode cX2_isSilent 3 = .ok (.istore 4, 2) := dk_54 4 (dk_at dksX2_isSilent_0 3 rfl rfl)
theorem dX2_isSilent_5 : decode cX2_isSilent 5 = .ok (.iload 4, 2) := dk_21 4 (dk_at dksX2_isSilent_0 5 rfl rfl)
theorem dX2_isSilent_7 : decode cX2_isSilent 7 = .ok (.aload_n 0, 1) := dk_42 (dk_at dksX2_isSilent_0 7 rfl rfl)
theorem dX2_isSilent_8 : decode cX2_isSilent 8 = .ok (.getfield 7, 3) := dk_180 0 7 (dk_at dksX2_isSilent_0 8 rfl rfl)
theorem dX2_isSilent_11 : decode cX2_isSilent 11 = .ok (.iload_n 1, 1) := dk_27 (dk_at dksX2_isSilent_0 11 rfl rfl)
theorem dX2_isSilent_12 : decode cX2_isSilent 12 = .ok (.iconst 0, 1) := dk_3 (dk_at dksX2_isSilent_0 12 rfl rfl)
theorem dX2_isSilent_13 : decode cX2_isSilent 13 = .ok (.iadd, 1) := dk_96 (dk_at dksX2_isSilent_0 13 rfl rfl)
theorem dX2_isSilent_14 : decode cX2_isSilent 14 = .ok (.iaload, 1) := dk_46 (dk_at dksX2_isSilent_0 14 rfl rfl)
theorem dX2_isSilent_15 : decode cX2_isSilent 15 = .ok (.if_icmp .ge 60, 3) := dk_162 0 60 (dk_at dksX2_isSilent_0 15 rfl rfl)
theorem dX2_isSilent_18 : decode cX2_isSilent 18 = .ok (.iload_n 3, 1) := dk_29 (dk_at dksX2_isSilent_0 18 rfl rfl)
theorem dX2_isSilent_19 : decode cX2_isSilent 19 = .ok (.ifCond .ne 44, 3) := dk_154 0 44 (dk_at dksX2_isSilent_0 19 rfl rfl)
theorem dX2_isSilent_22 : decode cX2_isSilent 22 = .ok (.aload_n 0, 1) := dk_42 (dk_at dksX2_isSilent_0 22 rfl rfl)
theorem dX2_isSilent_23 : decode cX2_isSilent 23 = .ok (.getfield 7, 3) := dk_180 0 7 (dk_at dksX2_isSilent_1 0 rfl rfl)
theorem dX2_isSilent_26 : decode cX2_isSilent 26 = .ok (.iload_n 1, 1) := dk_27 (dk_at dksX2_isSilent_1 3 rfl rfl)
theorem dX2_isSilent_27 : decode cX2_isSilent 27 = .ok (.bipush 12, 2) := dk_16 12 (dk_at dksX2_isSilent_1 4 rfl rfl)
theorem dX2_isSilent_29 : decode cX2_isSilent 29 = .ok (.iadd, 1) := dk_96 (dk_at dksX2_isSilent_1 6 rfl rfl)
theorem dX2_isSilent_30 : decode cX2_isSilent 30 = .ok (.iload 4, 2) := dk_21 4 (dk_at dksX2_isSilent_1 7 rfl rfl)
theorem dX2_isSilent_32 : decode cX2_isSilent 32 = .ok (.iadd, 1) := dk_96 (dk_at dksX2_isSilent_1 9 rfl rfl)
theorem dX2_isSilent_33 : decode cX2_isSilent 33 = .ok (.iaload, 1) := dk_46 (dk_at dksX2_isSilent_1 10 rfl rfl)
theorem dX2_isSilent_34 : decode cX2_isSilent 34 = .ok (.iload_n 2, 1) := dk_28 (dk_at dksX2_isSilent_1 11 rfl rfl)
theorem dX2_isSilent_35 : decode cX2_isSilent 35 = .ok (.if_icmp .ne 32, 3) := dk_160 0 32 (dk_at dksX2_isSilent_1 12 rfl rfl)
theorem dX2_isSilent_38 : decode cX2_isSilent 38 = .ok (.aload_n 0, 1) := dk_42 (dk_at dksX2_isSilent_1 15 rfl rfl)
theorem dX2_isSilent_39 : decode cX2_isSilent 39 = .ok (.getfield 7, 3) := dk_180 0 7 (dk_at dksX2_isSilent_1 16 rfl rfl)
theorem dX2_isSilent_42 : decode cX2_isSilent 42 = .ok (.iload_n 1, 1) := dk_27 (dk_at dksX2_isSilent_1 19 rfl rfl)
theorem dX2_isSilent_43 : decode cX2_isSilent 43 = .ok (.iconst 4, 1) := dk_7 (dk_at dksX2_isSilent_1 20 rfl rfl)
theorem dX2_isSilent_44 : decode cX2_isSilent 44 = .ok (.iadd, 1) := dk_96 (dk_at dksX2_isSilent_1 21 rfl rfl)
theorem dX2_isSilent_45 : decode cX2_isSilent 45 = .ok (.iload 4, 2) := dk_21 4 (dk_at dksX2_isSilent_1 22 rfl rfl)
theorem dX2_isSilent_47 : decode cX2_isSilent 47 = .ok (.iadd, 1) := dk_96 (dk_at dksX2_isSilent_2 0 rfl rfl)
theorem dX2_isSilent_48 : decode cX2_isSilent 48 = .ok (.iaload, 1) := dk_46 (dk_at dksX2_isSilent_2 1 rfl rfl)
theorem dX2_isSilent_49 : decode cX2_isSilent 49 = .ok (.iconst 3, 1) := dk_6 (dk_at dksX2_isSilent_2 2 rfl rfl)
theorem dX2_isSilent_50 : decode cX2_isSilent 50 = .ok (.if_icmp .ne 17, 3) := dk_160 0 17 (dk_at dksX2_isSilent_2 3 rfl rfl)
theorem dX2_isSilent_53 : decode cX2_isSilent 53 = .ok (.aload_n 0, 1) := dk_42 (dk_at dksX2_isSilent_2 6 rfl rfl)
theorem dX2_isSilent_54 : decode cX2_isSilent 54 = .ok (.iload_n 1, 1) := dk_27 (dk_at dksX2_isSilent_2 7 rfl rfl)
theorem dX2_isSilent_55 : decode cX2_isSilent 55 = .ok (.iload 4, 2) := dk_21 4 (dk_at dksX2_isSilent_2 8 rfl rfl)
theorem dX2_isSilent_57 : decode cX2_isSilent 57 = .ok (.invokevirtual 252, 3) := dk_182 0 252 (dk_at dksX2_isSilent_2 10 rfl rfl)
theorem dX2_isSilent_60 : decode cX2_isSilent 60 = .ok (.ifCond .eq 7, 3) := dk_153 0 7 (dk_at dksX2_isSilent_2 13 rfl rfl)
theorem dX2_isSilent_63 : decode cX2_isSilent 63 = .ok (.iconst 1, 1) := dk_4 (dk_at dksX2_isSilent_2 16 rfl rfl)
theorem dX2_isSilent_64 : decode cX2_isSilent 64 = .ok (.goto 4, 3) := dk_167 0 4 (dk_at dksX2_isSilent_2 17 rfl rfl)
theorem dX2_isSilent_67 : decode cX2_isSilent 67 = .ok (.iconst 0, 1) := dk_3 (dk_at dksX2_isSilent_2 20 rfl rfl)
theorem dX2_isSilent_68 : decode cX2_isSilent 68 = .ok (.istore_n 3, 1) := dk_62 (dk_at dksX2_isSilent_2 21 rfl rfl)
theorem dX2_isSilent_69 : decode cX2_isSilent 69 = .ok (.iinc 4 1, 3) := dk_132 4 1 (dk_at dksX2_isSilent_3 0 rfl rfl)
theorem dX2_isSilent_72 : decode cX2_isSilent 72 = .ok (.goto (-67), 3) := dk_167 255 189 (dk_at dksX2_isSilent_3 3 rfl rfl)
theorem dX2_isSilent_75 : decode cX2_isSilent 75 = .ok (.iload_n 3, 1) := dk_29 (dk_at dksX2_isSilent_3 6 rfl rfl)
theorem dX2_isSilent_76 : decode cX2_isSilent 76 = .ok (.ireturn, 1) := dk_172 (dk_at dksX2_isSilent_3 7 rfl rfl)
abbrev cX2_speak : ByteArray := prog_18_method_51_code
def yX2_speak : MethodName := ⟨RX2, "speak", "(II)V"⟩
def dkwX2_speak_4 : List UInt8 := [42, 27, 29, 21, 4, 182, 1, 6, 54, 5, 132, 6, 1, 167, 255, 201, 132, 3, 1, 167, 255, 144, 177]
abbrev dktX2_speak_4 : List UInt8 := dkwX2_speak_4 ++ []
def dkwX2_speak_3 : List UInt8 := [21, 5, 2, 159, 0, 37, 42, 27, 28, 29, 21, 5, 182, 1, 13, 21, 4, 4, 21, 5, 120, 128, 54, 4]
abbrev dktX2_speak_3 : List UInt8 := dkwX2_speak_3 ++ dktX2_speak_4
def dkwX2_speak_2 : List UInt8 := [54, 5, 3, 54, 6, 21, 6, 42, 180, 0, 7, 27, 7, 96, 29, 96, 46, 184, 1, 10, 162, 0, 43]
abbrev dktX2_speak_2 : List UInt8 := dkwX2_speak_2 ++ dktX2_speak_3
def dkwX2_speak_1 : List UInt8 := [46, 28, 160, 0, 85, 42, 27, 29, 182, 0, 252, 153, 0, 76, 3, 54, 4, 42, 27, 29, 3, 182, 1, 6]
abbrev dktX2_speak_1 : List UInt8 := dkwX2_speak_1 ++ dktX2_speak_2
def dkwX2_speak_0 : List UInt8 := [3, 62, 29, 42, 180, 0, 7, 27, 3, 96, 46, 162, 0, 106, 42, 180, 0, 7, 27, 16, 12, 96, 29, 96]
abbrev dktX2_speak_0 : List UInt8 := dkwX2_speak_0 ++ dktX2_speak_1
theorem dksX2_speak_0 : cX2_speak.data.toList.drop 0 = dktX2_speak_0 := by decide +kernel
theorem dksX2_speak_1 : cX2_speak.data.toList.drop 24 = dktX2_speak_1 := dk_seg dksX2_speak_0 24 rfl rfl
theorem dksX2_speak_2 : cX2_speak.data.toList.drop 48 = dktX2_speak_2 := dk_seg dksX2_speak_1 24 rfl rfl
theorem dksX2_speak_3 : cX2_speak.data.toList.drop 71 = dktX2_speak_3 := dk_seg dksX2_speak_2 23 rfl rfl
theorem dksX2_speak_4 : cX2_speak.data.toList.drop 95 = dktX2_speak_4 := dk_seg dksX2_speak_3 24 rfl rfl
theorem dX2_speak_0 : decode cX2_speak 0 = .ok (.iconst 0, 1) := dk_3 (dk_at dksX2_speak_0 0 rfl rfl)
theorem dX2_speak_1 : decode cX2_speak 1 = .ok (.istore_n 3, 1) := dk_62 (dk_at dksX2_speak_0 1 rfl rfl)
theorem dX2_speak_2 : decode cX2_speak 2 = .ok (.iload_n 3, 1) := dk_29 (dk_at dksX2_speak_0 2 rfl rfl)
theorem dX2_speak_3 : decode cX2_speak 3 = .ok (.aload_n 0, 1) := dk_42 (dk_at dksX2_speak_0 3 rfl rfl)
theorem dX2_speak_4 : decode cX2_speak 4 = .ok (.getfield 7, 3) := dk_180 0 7 (dk_at dksX2_speak_0 4 rfl rfl)
theorem dX2_speak_7 : decode cX2_speak 7 = .ok (.iload_n 1, 1) := dk_27 (dk_at dksX2_speak_0 7 rfl rfl)
theorem dX2_speak_8 : decode cX2_speak 8 = .ok (.iconst 0, 1) := dk_3 (dk_at dksX2_speak_0 8 rfl rfl)
theorem dX2_speak_9 : decode cX2_speak 9 = .ok (.iadd, 1) := dk_96 (dk_at dksX2_speak_0 9 rfl rfl)
theorem dX2_speak_10 : decode cX2_speak 10 = .ok (.iaload, 1) := dk_46 (dk_at dksX2_speak_0 10 rfl rfl)
theorem dX2_speak_11 : decode cX2_speak 11 = .ok (.if_icmp .ge 106, 3) := dk_162 0 106 (dk_at dksX2_speak_0 11 rfl rfl)
theorem dX2_speak_14 : decode cX2_speak 14 = .ok (.aload_n 0, 1) := dk_42 (dk_at dksX2_speak_0 14 rfl rfl)
theorem dX2_speak_15 : decode cX2_speak 15 = .ok (.getfield 7, 3) := dk_180 0 7 (dk_at dksX2_speak_0 15 rfl rfl)
theorem dX2_speak_18 : decode cX2_speak 18 = .ok (.iload_n 1, 1) := dk_27 (dk_at dksX2_speak_0 18 rfl rfl)
theorem dX2_speak_19 : decode cX2_speak 19 = .ok (.bipush 12, 2) := dk_16 12 (dk_at dksX2_speak_0 19 rfl rfl)
theorem dX2_speak_21 : decode cX2_speak 21 = .ok (.iadd, 1) := dk_96 (dk_at dksX2_speak_0 21 rfl rfl)
theorem dX2_speak_22 : decode cX2_speak 22 = .ok (.iload_n 3, 1) := dk_29 (dk_at dksX2_speak_0 22 rfl rfl)
theorem dX2_speak_23 : decode cX2_speak 23 = .ok (.iadd, 1) := dk_96 (dk_at dksX2_speak_0 23 rfl rfl)
theorem dX2_speak_24 : decode cX2_speak 24 = .ok (.iaload, 1) := dk_46 (dk_at dksX2_speak_1 0 rfl rfl)
theorem dX2_speak_25 : decode cX2_speak 25 = .ok (.iload_n 2, 1) := dk_28 (dk_at dksX2_speak_1 1 rfl rfl)
theorem dX2_speak_26 : decode cX2_speak 26 = .ok (.if_icmp .ne 85, 3) := dk_160 0 85 (dk_at dksX2_speak_1 2 rfl rfl)
theorem dX2_speak_29 : decode cX2_speak 29 = .ok (.aload_n 0, 1) := dk_42 (dk_at dksX2_speak_1 5 rfl rfl)
theorem dX2_speak_30 : decode cX2_speak 30 = .ok (.iload_n 1, 1) := dk_27 (dk_at dksX2_speak_1 6 rfl rfl)
theorem dX2_speak_31 : decode cX2_speak 31 = .ok (.iload_n 3, 1) := dk_29 (dk_at dksX2_speak_1 7 rfl rfl)
theorem dX2_speak_32 : decode cX2_speak 32 = .ok (.invokevirtual 252, 3) := dk_182 0 252 (dk_at dksX2_speak_1 8 rfl rfl)
theorem dX2_speak_35 : decode cX2_speak 35 = .ok (.ifCond .eq 76, 3) := dk_153 0 76 (dk_at dksX2_speak_1 11 rfl rfl)
theorem dX2_speak_38 : decode cX2_speak 38 = .ok (.iconst 0, 1) := dk_3 (dk_at dksX2_speak_1 14 rfl rfl)
theorem dX2_speak_39 : decode cX2_speak 39 = .ok (.istore 4, 2) := dk_54 4 (dk_at dksX2_speak_1 15 rfl rfl)
theorem dX2_speak_41 : decode cX2_speak 41 = .ok (.aload_n 0, 1) := dk_42 (dk_at dksX2_speak_1 17 rfl rfl)
theorem dX2_speak_42 : decode cX2_speak 42 = .ok (.iload_n 1, 1) := dk_27 (dk_at dksX2_speak_1 18 rfl rfl)
theorem dX2_speak_43 : decode cX2_speak 43 = .ok (.iload_n 3, 1) := dk_29 (dk_at dksX2_speak_1 19 rfl rfl)
theorem dX2_speak_44 : decode cX2_speak 44 = .ok (.iconst 0, 1) := dk_3 (dk_at dksX2_speak_1 20 rfl rfl)
theorem dX2_speak_45 : decode cX2_speak 45 = .ok (.invokevirtual 262, 3) := dk_182 1 6 (dk_at dksX2_speak_1 21 rfl rfl)
theorem dX2_speak_48 : decode cX2_speak 48 = .ok (.istore 5, 2) := dk_54 5 (dk_at dksX2_speak_2 0 rfl rfl)
theorem dX2_speak_50 : decode cX2_speak 50 = .ok (.iconst 0, 1) := dk_3 (dk_at dksX2_speak_2 2 rfl rfl)
theorem dX2_speak_51 : decode cX2_speak 51 = .ok (.istore 6, 2) := dk_54 6 (dk_at dksX2_speak_2 3 rfl rfl)
theorem dX2_speak_53 : decode cX2_speak 53 = .ok (.iload 6, 2) := dk_21 6 (dk_at dksX2_speak_2 5 rfl rfl)
theorem dX2_speak_55 : decode cX2_speak 55 = .ok (.aload_n 0, 1) := dk_42 (dk_at dksX2_speak_2 7 rfl rfl)
theorem dX2_speak_56 : decode cX2_speak 56 = .ok (.getfield 7, 3) := dk_180 0 7 (dk_at dksX2_speak_2 8 rfl rfl)
theorem dX2_speak_59 : decode cX2_speak 59 = .ok (.iload_n 1, 1) := dk_27 (dk_at dksX2_speak_2 11 rfl rfl)
theorem dX2_speak_60 : decode cX2_speak 60 = .ok (.iconst 4, 1) := dk_7 (dk_at dksX2_speak_2 12 rfl rfl)
theorem dX2_speak_61 : decode cX2_speak 61 = .ok (.iadd, 1) := dk_96 (dk_at dksX2_speak_2 13 rfl rfl)
theorem dX2_speak_62 : decode cX2_speak 62 = .ok (.iload_n 3, 1) := dk_29 (dk_at dksX2_speak_2 14 rfl rfl)
theorem dX2_speak_63 : decode cX2_speak 63 = .ok (.iadd, 1) := dk_96 (dk_at dksX2_speak_2 15 rfl rfl)
theorem dX2_speak_64 : decode cX2_speak 64 = .ok (.iaload, 1) := dk_46 (dk_at dksX2_speak_2 16 rfl rfl)
theorem dX2_speak_65 : decode cX2_speak 65 = .ok (.invokestatic 266, 3) := dk_184 1 10 (dk_at dksX2_speak_2 17 rfl rfl)
theorem dX2_speak_68 : decode cX2_speak 68 = .ok (.if_icmp .ge 43, 3) := dk_162 0 43 (dk_at dksX2_speak_2 20 rfl rfl)
theorem dX2_speak_71 : decode cX2_speak 71 = .ok (.iload 5, 2) := dk_21 5 (dk_at dksX2_speak_3 0 rfl rfl)
theorem dX2_speak_73 : decode cX2_speak 73 = .ok (.iconst (-1), 1) := dk_2 (dk_at dksX2_speak_3 2 rfl rfl)
theorem dX2_speak_74 : decode cX2_speak 74 = .ok (.if_icmp .eq 37, 3) := dk_159 0 37 (dk_at dksX2_speak_3 3 rfl rfl)
theorem dX2_speak_77 : decode cX2_speak 77 = .ok (.aload_n 0, 1) := dk_42 (dk_at dksX2_speak_3 6 rfl rfl)
theorem dX2_speak_78 : decode cX2_speak 78 = .ok (.iload_n 1, 1) := dk_27 (dk_at dksX2_speak_3 7 rfl rfl)
theorem dX2_speak_79 : decode cX2_speak 79 = .ok (.iload_n 2, 1) := dk_28 (dk_at dksX2_speak_3 8 rfl rfl)
theorem dX2_speak_80 : decode cX2_speak 80 = .ok (.iload_n 3, 1) := dk_29 (dk_at dksX2_speak_3 9 rfl rfl)
theorem dX2_speak_81 : decode cX2_speak 81 = .ok (.iload 5, 2) := dk_21 5 (dk_at dksX2_speak_3 10 rfl rfl)
theorem dX2_speak_83 : decode cX2_speak 83 = .ok (.invokevirtual 269, 3) := dk_182 1 13 (dk_at dksX2_speak_3 12 rfl rfl)
theorem dX2_speak_86 : decode cX2_speak 86 = .ok (.iload 4, 2) := dk_21 4 (dk_at dksX2_speak_3 15 rfl rfl)
theorem dX2_speak_88 : decode cX2_speak 88 = .ok (.iconst 1, 1) := dk_4 (dk_at dksX2_speak_3 17 rfl rfl)
theorem dX2_speak_89 : decode cX2_speak 89 = .ok (.iload 5, 2) := dk_21 5 (dk_at dksX2_speak_3 18 rfl rfl)
theorem dX2_speak_91 : decode cX2_speak 91 = .ok (.ishl, 1) := dk_120 (dk_at dksX2_speak_3 20 rfl rfl)
theorem dX2_speak_92 : decode cX2_speak 92 = .ok (.ior, 1) := dk_128 (dk_at dksX2_speak_3 21 rfl rfl)
theorem dX2_speak_93 : decode cX2_speak 93 = .ok (.istore 4, 2) := dk_54 4 (dk_at dksX2_speak_3 22 rfl rfl)
theorem dX2_speak_95 : decode cX2_speak 95 = .ok (.aload_n 0, 1) := dk_42 (dk_at dksX2_speak_4 0 rfl rfl)
theorem dX2_speak_96 : decode cX2_speak 96 = .ok (.iload_n 1, 1) := dk_27 (dk_at dksX2_speak_4 1 rfl rfl)
theorem dX2_speak_97 : decode cX2_speak 97 = .ok (.iload_n 3, 1) := dk_29 (dk_at dksX2_speak_4 2 rfl rfl)
theorem dX2_speak_98 : decode cX2_speak 98 = .ok (.iload 4, 2) := dk_21 4 (dk_at dksX2_speak_4 3 rfl rfl)
theorem dX2_speak_100 : decode cX2_speak 100 = .ok (.invokevirtual 262, 3) := dk_182 1 6 (dk_at dksX2_speak_4 5 rfl rfl)
theorem dX2_speak_103 : decode cX2_speak 103 = .ok (.istore 5, 2) := dk_54 5 (dk_at dksX2_speak_4 8 rfl rfl)
theorem dX2_speak_105 : decode cX2_speak 105 = .ok (.iinc 6 1, 3) := dk_132 6 1 (dk_at dksX2_speak_4 10 rfl rfl)
theorem dX2_speak_108 : decode cX2_speak 108 = .ok (.goto (-55), 3) := dk_167 255 201 (dk_at dksX2_speak_4 13 rfl rfl)
theorem dX2_speak_111 : decode cX2_speak 111 = .ok (.iinc 3 1, 3) := dk_132 3 1 (dk_at dksX2_speak_4 16 rfl rfl)
theorem dX2_speak_114 : decode cX2_speak 114 = .ok (.goto (-112), 3) := dk_167 255 144 (dk_at dksX2_speak_4 19 rfl rfl)
theorem dX2_speak_117 : decode cX2_speak 117 = .ok (.return_, 1) := dk_177 (dk_at dksX2_speak_4 22 rfl rfl)
abbrev cX2_bestWord : ByteArray := prog_18_method_49_code
def yX2_bestWord : MethodName := ⟨RX2, "bestWord", "(III)I"⟩
def dkwX2_bestWord_3 : List UInt8 := [164, 0, 8, 21, 7, 167, 0, 5, 21, 5, 54, 5, 132, 6, 1, 167, 255, 182, 21, 4, 172]
abbrev dktX2_bestWord_3 : List UInt8 := dkwX2_bestWord_3 ++ []
def dkwX2_bestWord_2 : List UInt8 := [54, 7, 21, 7, 21, 5, 164, 0, 8, 21, 6, 167, 0, 5, 21, 4, 54, 4, 21, 7, 21, 5]
abbrev dktX2_bestWord_2 : List UInt8 := dkwX2_bestWord_2 ++ dktX2_bestWord_3
def dkwX2_bestWord_1 : List UInt8 := [153, 0, 7, 3, 167, 0, 20, 42, 180, 0, 7, 27, 16, 20, 96, 16, 10, 28, 104, 96, 21, 6, 96, 46]
abbrev dktX2_bestWord_1 : List UInt8 := dkwX2_bestWord_1 ++ dktX2_bestWord_2
def dkwX2_bestWord_0 : List UInt8 := [2, 54, 4, 3, 54, 5, 3, 54, 6, 21, 6, 16, 10, 162, 0, 73, 29, 21, 6, 184, 0, 165]
abbrev dktX2_bestWord_0 : List UInt8 := dkwX2_bestWord_0 ++ dktX2_bestWord_1
theorem dksX2_bestWord_0 : cX2_bestWord.data.toList.drop 0 = dktX2_bestWord_0 := by decide +kernel
theorem dksX2_bestWord_1 : cX2_bestWord.data.toList.drop 22 = dktX2_bestWord_1 := dk_seg dksX2_bestWord_0 22 rfl rfl
theorem dksX2_bestWord_2 : cX2_bestWord.data.toList.drop 46 = dktX2_bestWord_2 := dk_seg dksX2_bestWord_1 24 rfl rfl
theorem dksX2_bestWord_3 : cX2_bestWord.data.toList.drop 68 = dktX2_bestWord_3 := dk_seg dksX2_bestWord_2 22 rfl rfl
theorem dX2_bestWord_0 : decode cX2_bestWord 0 = .ok (.iconst (-1), 1) := dk_2 (dk_at dksX2_bestWord_0 0 rfl rfl)
theorem dX2_bestWord_1 : decode cX2_bestWord 1 = .ok (.istore 4, 2) := dk_54 4 (dk_at dksX2_bestWord_0 1 rfl rfl)
theorem dX2_bestWord_3 : decode cX2_bestWord 3 = .ok (.iconst 0, 1) := dk_3 (dk_at dksX2_bestWord_0 3 rfl rfl)
theorem dX2_bestWord_4 : decode cX2_bestWord 4 = .ok (.istore 5, 2) := dk_54 5 (dk_at dksX2_bestWord_0 4 rfl rfl)
theorem dX2_bestWord_6 : decode cX2_bestWord 6 = .ok (.iconst 0, 1) := dk_3 (dk_at dksX2_bestWord_0 6 rfl rfl)
theorem dX2_bestWord_7 : decode cX2_bestWord 7 = .ok (.istore 6, 2) := dk_54 6 (dk_at dksX2_bestWord_0 7 rfl rfl)
theorem dX2_bestWord_9 : decode cX2_bestWord 9 = .ok (.iload 6, 2) := dk_21 6 (dk_at dksX2_bestWord_0 9 rfl rfl)
theorem dX2_bestWord_11 : decode cX2_bestWord 11 = .ok (.bipush 10, 2) := dk_16 10 (dk_at dksX2_bestWord_0 11 rfl rfl)
theorem dX2_bestWord_13 : decode cX2_bestWord 13 = .ok (.if_icmp .ge 73, 3) := dk_162 0 73 (dk_at dksX2_bestWord_0 13 rfl rfl)
theorem dX2_bestWord_16 : decode cX2_bestWord 16 = .ok (.iload_n 3, 1) := dk_29 (dk_at dksX2_bestWord_0 16 rfl rfl)
theorem dX2_bestWord_17 : decode cX2_bestWord 17 = .ok (.iload 6, 2) := dk_21 6 (dk_at dksX2_bestWord_0 17 rfl rfl)
theorem dX2_bestWord_19 : decode cX2_bestWord 19 = .ok (.invokestatic 165, 3) := dk_184 0 165 (dk_at dksX2_bestWord_0 19 rfl rfl)
theorem dX2_bestWord_22 : decode cX2_bestWord 22 = .ok (.ifCond .eq 7, 3) := dk_153 0 7 (dk_at dksX2_bestWord_1 0 rfl rfl)
theorem dX2_bestWord_25 : decode cX2_bestWord 25 = .ok (.iconst 0, 1) := dk_3 (dk_at dksX2_bestWord_1 3 rfl rfl)
theorem dX2_bestWord_26 : decode cX2_bestWord 26 = .ok (.goto 20, 3) := dk_167 0 20 (dk_at dksX2_bestWord_1 4 rfl rfl)
theorem dX2_bestWord_29 : decode cX2_bestWord 29 = .ok (.aload_n 0, 1) := dk_42 (dk_at dksX2_bestWord_1 7 rfl rfl)
theorem dX2_bestWord_30 : decode cX2_bestWord 30 = .ok (.getfield 7, 3) := dk_180 0 7 (dk_at dksX2_bestWord_1 8 rfl rfl)
theorem dX2_bestWord_33 : decode cX2_bestWord 33 = .ok (.iload_n 1, 1) := dk_27 (dk_at dksX2_bestWord_1 11 rfl rfl)
theorem dX2_bestWord_34 : decode cX2_bestWord 34 = .ok (.bipush 20, 2) := dk_16 20 (dk_at dksX2_bestWord_1 12 rfl rfl)
theorem dX2_bestWord_36 : decode cX2_bestWord 36 = .ok (.iadd, 1) := dk_96 (dk_at dksX2_bestWord_1 14 rfl rfl)
theorem dX2_bestWord_37 : decode cX2_bestWord 37 = .ok (.bipush 10, 2) := dk_16 10 (dk_at dksX2_bestWord_1 15 rfl rfl)
theorem dX2_bestWord_39 : decode cX2_bestWord 39 = .ok (.iload_n 2, 1) := dk_28 (dk_at dksX2_bestWord_1 17 rfl rfl)
theorem dX2_bestWord_40 : decode cX2_bestWord 40 = .ok (.imul, 1) := dk_104 (dk_at dksX2_bestWord_1 18 rfl rfl)
theorem dX2_bestWord_41 : decode cX2_bestWord 41 = .ok (.iadd, 1) := dk_96 (dk_at dksX2_bestWord_1 19 rfl rfl)
theorem dX2_bestWord_42 : decode cX2_bestWord 42 = .ok (.iload 6, 2) := dk_21 6 (dk_at dksX2_bestWord_1 20 rfl rfl)
theorem dX2_bestWord_44 : decode cX2_bestWord 44 = .ok (.iadd, 1) := dk_96 (dk_at dksX2_bestWord_1 22 rfl rfl)
theorem dX2_bestWord_45 : decode cX2_bestWord 45 = .ok (.iaload, 1) := dk_46 (dk_at dksX2_bestWord_1 23 rfl rfl)
theorem dX2_bestWord_46 : decode cX2_bestWord 46 = .ok (.istore 7, 2) := dk_54 7 (dk_at dksX2_bestWord_2 0 rfl rfl)
theorem dX2_bestWord_48 : decode cX2_bestWord 48 = .ok (.iload 7, 2) := dk_21 7 (dk_at dksX2_bestWord_2 2 rfl rfl)
theorem dX2_bestWord_50 : decode cX2_bestWord 50 = .ok (.iload 5, 2) := dk_21 5 (dk_at dksX2_bestWord_2 4 rfl rfl)
theorem dX2_bestWord_52 : decode cX2_bestWord 52 = .ok (.if_icmp .le 8, 3) := dk_164 0 8 (dk_at dksX2_bestWord_2 6 rfl rfl)
theorem dX2_bestWord_55 : decode cX2_bestWord 55 = .ok (.iload 6, 2) := dk_21 6 (dk_at dksX2_bestWord_2 9 rfl rfl)
theorem dX2_bestWord_57 : decode cX2_bestWord 57 = .ok (.goto 5, 3) := dk_167 0 5 (dk_at dksX2_bestWord_2 11 rfl rfl)
theorem dX2_bestWord_60 : decode cX2_bestWord 60 = .ok (.iload 4, 2) := dk_21 4 (dk_at dksX2_bestWord_2 14 rfl rfl)
theorem dX2_bestWord_62 : decode cX2_bestWord 62 = .ok (.istore 4, 2) := dk_54 4 (dk_at dksX2_bestWord_2 16 rfl rfl)
theorem dX2_bestWord_64 : decode cX2_bestWord 64 = .ok (.iload 7, 2) := dk_21 7 (dk_at dksX2_bestWord_2 18 rfl rfl)
theorem dX2_bestWord_66 : decode cX2_bestWord 66 = .ok (.iload 5, 2) := dk_21 5 (dk_at dksX2_bestWord_2 20 rfl rfl)
theorem dX2_bestWord_68 : decode cX2_bestWord 68 = .ok (.if_icmp .le 8, 3) := dk_164 0 8 (dk_at dksX2_bestWord_3 0 rfl rfl)
theorem dX2_bestWord_71 : decode cX2_bestWord 71 = .ok (.iload 7, 2) := dk_21 7 (dk_at dksX2_bestWord_3 3 rfl rfl)
theorem dX2_bestWord_73 : decode cX2_bestWord 73 = .ok (.goto 5, 3) := dk_167 0 5 (dk_at dksX2_bestWord_3 5 rfl rfl)
theorem dX2_bestWord_76 : decode cX2_bestWord 76 = .ok (.iload 5, 2) := dk_21 5 (dk_at dksX2_bestWord_3 8 rfl rfl)
theorem dX2_bestWord_78 : decode cX2_bestWord 78 = .ok (.istore 5, 2) := dk_54 5 (dk_at dksX2_bestWord_3 10 rfl rfl)
theorem dX2_bestWord_80 : decode cX2_bestWord 80 = .ok (.iinc 6 1, 3) := dk_132 6 1 (dk_at dksX2_bestWord_3 12 rfl rfl)
theorem dX2_bestWord_83 : decode cX2_bestWord 83 = .ok (.goto (-74), 3) := dk_167 255 182 (dk_at dksX2_bestWord_3 15 rfl rfl)
theorem dX2_bestWord_86 : decode cX2_bestWord 86 = .ok (.iload 4, 2) := dk_21 4 (dk_at dksX2_bestWord_3 18 rfl rfl)
theorem dX2_bestWord_88 : decode cX2_bestWord 88 = .ok (.ireturn, 1) := dk_172 (dk_at dksX2_bestWord_3 20 rfl rfl)
abbrev cX2_says : ByteArray := prog_18_method_35_code
def yX2_says : MethodName := ⟨RX2, "says", "(I)I"⟩
def dkwX2_says_1 : List UInt8 := [172]
abbrev dktX2_says_1 : List UInt8 := dkwX2_says_1 ++ []
def dkwX2_says_0 : List UInt8 := [26, 6, 159, 0, 8, 26, 7, 160, 0, 7, 3, 167, 0, 13, 26, 5, 160, 0, 7, 5, 167, 0, 4, 4]
abbrev dktX2_says_0 : List UInt8 := dkwX2_says_0 ++ dktX2_says_1
theorem dksX2_says_0 : cX2_says.data.toList.drop 0 = dktX2_says_0 := by decide +kernel
theorem dksX2_says_1 : cX2_says.data.toList.drop 24 = dktX2_says_1 := dk_seg dksX2_says_0 24 rfl rfl
theorem dX2_says_0 : decode cX2_says 0 = .ok (.iload_n 0, 1) := dk_26 (dk_at dksX2_says_0 0 rfl rfl)
theorem dX2_says_1 : decode cX2_says 1 = .ok (.iconst 3, 1) := dk_6 (dk_at dksX2_says_0 1 rfl rfl)
theorem dX2_says_2 : decode cX2_says 2 = .ok (.if_icmp .eq 8, 3) := dk_159 0 8 (dk_at dksX2_says_0 2 rfl rfl)
theorem dX2_says_5 : decode cX2_says 5 = .ok (.iload_n 0, 1) := dk_26 (dk_at dksX2_says_0 5 rfl rfl)
theorem dX2_says_6 : decode cX2_says 6 = .ok (.iconst 4, 1) := dk_7 (dk_at dksX2_says_0 6 rfl rfl)
theorem dX2_says_7 : decode cX2_says 7 = .ok (.if_icmp .ne 7, 3) := dk_160 0 7 (dk_at dksX2_says_0 7 rfl rfl)
theorem dX2_says_10 : decode cX2_says 10 = .ok (.iconst 0, 1) := dk_3 (dk_at dksX2_says_0 10 rfl rfl)
theorem dX2_says_11 : decode cX2_says 11 = .ok (.goto 13, 3) := dk_167 0 13 (dk_at dksX2_says_0 11 rfl rfl)
theorem dX2_says_14 : decode cX2_says 14 = .ok (.iload_n 0, 1) := dk_26 (dk_at dksX2_says_0 14 rfl rfl)
theorem dX2_says_15 : decode cX2_says 15 = .ok (.iconst 2, 1) := dk_5 (dk_at dksX2_says_0 15 rfl rfl)
theorem dX2_says_16 : decode cX2_says 16 = .ok (.if_icmp .ne 7, 3) := dk_160 0 7 (dk_at dksX2_says_0 16 rfl rfl)
theorem dX2_says_19 : decode cX2_says 19 = .ok (.iconst 2, 1) := dk_5 (dk_at dksX2_says_0 19 rfl rfl)
theorem dX2_says_20 : decode cX2_says 20 = .ok (.goto 4, 3) := dk_167 0 4 (dk_at dksX2_says_0 20 rfl rfl)
theorem dX2_says_23 : decode cX2_says 23 = .ok (.iconst 1, 1) := dk_4 (dk_at dksX2_says_0 23 rfl rfl)
theorem dX2_says_24 : decode cX2_says 24 = .ok (.ireturn, 1) := dk_172 (dk_at dksX2_says_1 0 rfl rfl)
abbrev cX2_say : ByteArray := prog_18_method_50_code
def yX2_say : MethodName := ⟨RX2, "say", "(IIII)V"⟩
def dkwX2_say_4 : List UInt8 := [184, 1, 3, 182, 0, 255, 132, 5, 1, 167, 255, 185, 177]
abbrev dktX2_say_4 : List UInt8 := dkwX2_say_4 ++ []
def dkwX2_say_3 : List UInt8 := [182, 0, 252, 153, 0, 26, 42, 27, 21, 5, 21, 4, 42, 180, 0, 7, 27, 7, 96, 21, 5, 96, 46]
abbrev dktX2_say_3 : List UInt8 := dkwX2_say_3 ++ dktX2_say_4
def dkwX2_say_2 : List UInt8 := [159, 0, 52, 42, 180, 0, 7, 27, 16, 12, 96, 21, 5, 96, 46, 28, 160, 0, 36, 42, 27, 21, 5]
abbrev dktX2_say_2 : List UInt8 := dkwX2_say_2 ++ dktX2_say_3
def dkwX2_say_1 : List UInt8 := [46, 4, 96, 79, 3, 54, 5, 21, 5, 42, 180, 0, 7, 27, 3, 96, 46, 162, 0, 64, 21, 5, 29]
abbrev dktX2_say_1 : List UInt8 := dkwX2_say_1 ++ dktX2_say_2
def dkwX2_say_0 : List UInt8 := [42, 180, 0, 89, 16, 16, 28, 104, 42, 180, 0, 92, 28, 46, 96, 21, 4, 79, 42, 180, 0, 92, 28, 92]
abbrev dktX2_say_0 : List UInt8 := dkwX2_say_0 ++ dktX2_say_1
theorem dksX2_say_0 : cX2_say.data.toList.drop 0 = dktX2_say_0 := by decide +kernel
theorem dksX2_say_1 : cX2_say.data.toList.drop 24 = dktX2_say_1 := dk_seg dksX2_say_0 24 rfl rfl
theorem dksX2_say_2 : cX2_say.data.toList.drop 47 = dktX2_say_2 := dk_seg dksX2_say_1 23 rfl rfl
theorem dksX2_say_3 : cX2_say.data.toList.drop 70 = dktX2_say_3 := dk_seg dksX2_say_2 23 rfl rfl
theorem dksX2_say_4 : cX2_say.data.toList.drop 93 = dktX2_say_4 := dk_seg dksX2_say_3 23 rfl rfl
theorem dX2_say_0 : decode cX2_say 0 = .ok (.aload_n 0, 1) := dk_42 (dk_at dksX2_say_0 0 rfl rfl)
theorem dX2_say_1 : decode cX2_say 1 = .ok (.getfield 89, 3) := dk_180 0 89 (dk_at dksX2_say_0 1 rfl rfl)
theorem dX2_say_4 : decode cX2_say 4 = .ok (.bipush 16, 2) := dk_16 16 (dk_at dksX2_say_0 4 rfl rfl)
theorem dX2_say_6 : decode cX2_say 6 = .ok (.iload_n 2, 1) := dk_28 (dk_at dksX2_say_0 6 rfl rfl)
theorem dX2_say_7 : decode cX2_say 7 = .ok (.imul, 1) := dk_104 (dk_at dksX2_say_0 7 rfl rfl)
theorem dX2_say_8 : decode cX2_say 8 = .ok (.aload_n 0, 1) := dk_42 (dk_at dksX2_say_0 8 rfl rfl)
theorem dX2_say_9 : decode cX2_say 9 = .ok (.getfield 92, 3) := dk_180 0 92 (dk_at dksX2_say_0 9 rfl rfl)
theorem dX2_say_12 : decode cX2_say 12 = .ok (.iload_n 2, 1) := dk_28 (dk_at dksX2_say_0 12 rfl rfl)
theorem dX2_say_13 : decode cX2_say 13 = .ok (.iaload, 1) := dk_46 (dk_at dksX2_say_0 13 rfl rfl)
theorem dX2_say_14 : decode cX2_say 14 = .ok (.iadd, 1) := dk_96 (dk_at dksX2_say_0 14 rfl rfl)
theorem dX2_say_15 : decode cX2_say 15 = .ok (.iload 4, 2) := dk_21 4 (dk_at dksX2_say_0 15 rfl rfl)
theorem dX2_say_17 : decode cX2_say 17 = .ok (.iastore, 1) := dk_79 (dk_at dksX2_say_0 17 rfl rfl)
theorem dX2_say_18 : decode cX2_say 18 = .ok (.aload_n 0, 1) := dk_42 (dk_at dksX2_say_0 18 rfl rfl)
theorem dX2_say_19 : decode cX2_say 19 = .ok (.getfield 92, 3) := dk_180 0 92 (dk_at dksX2_say_0 19 rfl rfl)
theorem dX2_say_22 : decode cX2_say 22 = .ok (.iload_n 2, 1) := dk_28 (dk_at dksX2_say_0 22 rfl rfl)
theorem dX2_say_23 : decode cX2_say 23 = .ok (.dup2, 1) := dk_92 (dk_at dksX2_say_0 23 rfl rfl)
theorem dX2_say_24 : decode cX2_say 24 = .ok (.iaload, 1) := dk_46 (dk_at dksX2_say_1 0 rfl rfl)
theorem dX2_say_25 : decode cX2_say 25 = .ok (.iconst 1, 1) := dk_4 (dk_at dksX2_say_1 1 rfl rfl)
theorem dX2_say_26 : decode cX2_say 26 = .ok (.iadd, 1) := dk_96 (dk_at dksX2_say_1 2 rfl rfl)
theorem dX2_say_27 : decode cX2_say 27 = .ok (.iastore, 1) := dk_79 (dk_at dksX2_say_1 3 rfl rfl)
theorem dX2_say_28 : decode cX2_say 28 = .ok (.iconst 0, 1) := dk_3 (dk_at dksX2_say_1 4 rfl rfl)
theorem dX2_say_29 : decode cX2_say 29 = .ok (.istore 5, 2) := dk_54 5 (dk_at dksX2_say_1 5 rfl rfl)
theorem dX2_say_31 : decode cX2_say 31 = .ok (.iload 5, 2) := dk_21 5 (dk_at dksX2_say_1 7 rfl rfl)
theorem dX2_say_33 : decode cX2_say 33 = .ok (.aload_n 0, 1) := dk_42 (dk_at dksX2_say_1 9 rfl rfl)
theorem dX2_say_34 : decode cX2_say 34 = .ok (.getfield 7, 3) := dk_180 0 7 (dk_at dksX2_say_1 10 rfl rfl)
theorem dX2_say_37 : decode cX2_say 37 = .ok (.iload_n 1, 1) := dk_27 (dk_at dksX2_say_1 13 rfl rfl)
theorem dX2_say_38 : decode cX2_say 38 = .ok (.iconst 0, 1) := dk_3 (dk_at dksX2_say_1 14 rfl rfl)
theorem dX2_say_39 : decode cX2_say 39 = .ok (.iadd, 1) := dk_96 (dk_at dksX2_say_1 15 rfl rfl)
theorem dX2_say_40 : decode cX2_say 40 = .ok (.iaload, 1) := dk_46 (dk_at dksX2_say_1 16 rfl rfl)
theorem dX2_say_41 : decode cX2_say 41 = .ok (.if_icmp .ge 64, 3) := dk_162 0 64 (dk_at dksX2_say_1 17 rfl rfl)
theorem dX2_say_44 : decode cX2_say 44 = .ok (.iload 5, 2) := dk_21 5 (dk_at dksX2_say_1 20 rfl rfl)
theorem dX2_say_46 : decode cX2_say 46 = .ok (.iload_n 3, 1) := dk_29 (dk_at dksX2_say_1 22 rfl rfl)
theorem dX2_say_47 : decode cX2_say 47 = .ok (.if_icmp .eq 52, 3) := dk_159 0 52 (dk_at dksX2_say_2 0 rfl rfl)
theorem dX2_say_50 : decode cX2_say 50 = .ok (.aload_n 0, 1) := dk_42 (dk_at dksX2_say_2 3 rfl rfl)
theorem dX2_say_51 : decode cX2_say 51 = .ok (.getfield 7, 3) := dk_180 0 7 (dk_at dksX2_say_2 4 rfl rfl)
theorem dX2_say_54 : decode cX2_say 54 = .ok (.iload_n 1, 1) := dk_27 (dk_at dksX2_say_2 7 rfl rfl)
theorem dX2_say_55 : decode cX2_say 55 = .ok (.bipush 12, 2) := dk_16 12 (dk_at dksX2_say_2 8 rfl rfl)
theorem dX2_say_57 : decode cX2_say 57 = .ok (.iadd, 1) := dk_96 (dk_at dksX2_say_2 10 rfl rfl)
theorem dX2_say_58 : decode cX2_say 58 = .ok (.iload 5, 2) := dk_21 5 (dk_at dksX2_say_2 11 rfl rfl)
theorem dX2_say_60 : decode cX2_say 60 = .ok (.iadd, 1) := dk_96 (dk_at dksX2_say_2 13 rfl rfl)
theorem dX2_say_61 : decode cX2_say 61 = .ok (.iaload, 1) := dk_46 (dk_at dksX2_say_2 14 rfl rfl)
theorem dX2_say_62 : decode cX2_say 62 = .ok (.iload_n 2, 1) := dk_28 (dk_at dksX2_say_2 15 rfl rfl)
theorem dX2_say_63 : decode cX2_say 63 = .ok (.if_icmp .ne 36, 3) := dk_160 0 36 (dk_at dksX2_say_2 16 rfl rfl)
theorem dX2_say_66 : decode cX2_say 66 = .ok (.aload_n 0, 1) := dk_42 (dk_at dksX2_say_2 19 rfl rfl)
theorem dX2_say_67 : decode cX2_say 67 = .ok (.iload_n 1, 1) := dk_27 (dk_at dksX2_say_2 20 rfl rfl)
theorem dX2_say_68 : decode cX2_say 68 = .ok (.iload 5, 2) := dk_21 5 (dk_at dksX2_say_2 21 rfl rfl)
theorem dX2_say_70 : decode cX2_say 70 = .ok (.invokevirtual 252, 3) := dk_182 0 252 (dk_at dksX2_say_3 0 rfl rfl)
theorem dX2_say_73 : decode cX2_say 73 = .ok (.ifCond .eq 26, 3) := dk_153 0 26 (dk_at dksX2_say_3 3 rfl rfl)
theorem dX2_say_76 : decode cX2_say 76 = .ok (.aload_n 0, 1) := dk_42 (dk_at dksX2_say_3 6 rfl rfl)
theorem dX2_say_77 : decode cX2_say 77 = .ok (.iload_n 1, 1) := dk_27 (dk_at dksX2_say_3 7 rfl rfl)
theorem dX2_say_78 : decode cX2_say 78 = .ok (.iload 5, 2) := dk_21 5 (dk_at dksX2_say_3 8 rfl rfl)
theorem dX2_say_80 : decode cX2_say 80 = .ok (.iload 4, 2) := dk_21 4 (dk_at dksX2_say_3 10 rfl rfl)
theorem dX2_say_82 : decode cX2_say 82 = .ok (.aload_n 0, 1) := dk_42 (dk_at dksX2_say_3 12 rfl rfl)
theorem dX2_say_83 : decode cX2_say 83 = .ok (.getfield 7, 3) := dk_180 0 7 (dk_at dksX2_say_3 13 rfl rfl)
theorem dX2_say_86 : decode cX2_say 86 = .ok (.iload_n 1, 1) := dk_27 (dk_at dksX2_say_3 16 rfl rfl)
theorem dX2_say_87 : decode cX2_say 87 = .ok (.iconst 4, 1) := dk_7 (dk_at dksX2_say_3 17 rfl rfl)
theorem dX2_say_88 : decode cX2_say 88 = .ok (.iadd, 1) := dk_96 (dk_at dksX2_say_3 18 rfl rfl)
theorem dX2_say_89 : decode cX2_say 89 = .ok (.iload 5, 2) := dk_21 5 (dk_at dksX2_say_3 19 rfl rfl)
theorem dX2_say_91 : decode cX2_say 91 = .ok (.iadd, 1) := dk_96 (dk_at dksX2_say_3 21 rfl rfl)
theorem dX2_say_92 : decode cX2_say 92 = .ok (.iaload, 1) := dk_46 (dk_at dksX2_say_3 22 rfl rfl)
theorem dX2_say_93 : decode cX2_say 93 = .ok (.invokestatic 259, 3) := dk_184 1 3 (dk_at dksX2_say_4 0 rfl rfl)
theorem dX2_say_96 : decode cX2_say 96 = .ok (.invokevirtual 255, 3) := dk_182 0 255 (dk_at dksX2_say_4 3 rfl rfl)
theorem dX2_say_99 : decode cX2_say 99 = .ok (.iinc 5 1, 3) := dk_132 5 1 (dk_at dksX2_say_4 6 rfl rfl)
theorem dX2_say_102 : decode cX2_say 102 = .ok (.goto (-71), 3) := dk_167 255 185 (dk_at dksX2_say_4 9 rfl rfl)
theorem dX2_say_105 : decode cX2_say 105 = .ok (.return_, 1) := dk_177 (dk_at dksX2_say_4 12 rfl rfl)
abbrev cX2_hears : ByteArray := prog_18_method_33_code
def yX2_hears : MethodName := ⟨RX2, "hears", "(I)I"⟩
def dkwX2_hears_0 : List UInt8 := [26, 6, 160, 0, 7, 3, 167, 0, 13, 26, 7, 160, 0, 7, 5, 167, 0, 4, 4, 172]
abbrev dktX2_hears_0 : List UInt8 := dkwX2_hears_0 ++ []
theorem dksX2_hears_0 : cX2_hears.data.toList.drop 0 = dktX2_hears_0 := by decide +kernel
theorem dX2_hears_0 : decode cX2_hears 0 = .ok (.iload_n 0, 1) := dk_26 (dk_at dksX2_hears_0 0 rfl rfl)
theorem dX2_hears_1 : decode cX2_hears 1 = .ok (.iconst 3, 1) := dk_6 (dk_at dksX2_hears_0 1 rfl rfl)
theorem dX2_hears_2 : decode cX2_hears 2 = .ok (.if_icmp .ne 7, 3) := dk_160 0 7 (dk_at dksX2_hears_0 2 rfl rfl)
theorem dX2_hears_5 : decode cX2_hears 5 = .ok (.iconst 0, 1) := dk_3 (dk_at dksX2_hears_0 5 rfl rfl)
theorem dX2_hears_6 : decode cX2_hears 6 = .ok (.goto 13, 3) := dk_167 0 13 (dk_at dksX2_hears_0 6 rfl rfl)
theorem dX2_hears_9 : decode cX2_hears 9 = .ok (.iload_n 0, 1) := dk_26 (dk_at dksX2_hears_0 9 rfl rfl)
theorem dX2_hears_10 : decode cX2_hears 10 = .ok (.iconst 4, 1) := dk_7 (dk_at dksX2_hears_0 10 rfl rfl)
theorem dX2_hears_11 : decode cX2_hears 11 = .ok (.if_icmp .ne 7, 3) := dk_160 0 7 (dk_at dksX2_hears_0 11 rfl rfl)
theorem dX2_hears_14 : decode cX2_hears 14 = .ok (.iconst 2, 1) := dk_5 (dk_at dksX2_hears_0 14 rfl rfl)
theorem dX2_hears_15 : decode cX2_hears 15 = .ok (.goto 4, 3) := dk_167 0 4 (dk_at dksX2_hears_0 15 rfl rfl)
theorem dX2_hears_18 : decode cX2_hears 18 = .ok (.iconst 1, 1) := dk_4 (dk_at dksX2_hears_0 18 rfl rfl)
theorem dX2_hears_19 : decode cX2_hears 19 = .ok (.ireturn, 1) := dk_172 (dk_at dksX2_hears_0 19 rfl rfl)
abbrev cX2_lose : ByteArray := prog_18_method_52_code
def yX2_lose : MethodName := ⟨RX2, "lose", "(I)V"⟩
def dkwX2_lose_3 : List UInt8 := [96, 29, 96, 46, 184, 1, 18, 100, 79, 132, 2, 1, 167, 255, 175, 177]
abbrev dktX2_lose_3 : List UInt8 := dkwX2_lose_3 ++ []
def dkwX2_lose_2 : List UInt8 := [10, 20, 1, 16, 184, 0, 109, 153, 0, 26, 42, 180, 0, 7, 21, 4, 92, 46, 42, 180, 0, 7, 27, 7]
abbrev dktX2_lose_2 : List UInt8 := dkwX2_lose_2 ++ dktX2_lose_3
def dkwX2_lose_1 : List UInt8 := [16, 20, 96, 28, 96, 54, 4, 42, 27, 29, 182, 0, 252, 153, 0, 44, 42, 180, 0, 7, 21, 4, 46, 133]
abbrev dktX2_lose_1 : List UInt8 := dkwX2_lose_1 ++ dktX2_lose_2
def dkwX2_lose_0 : List UInt8 := [3, 61, 28, 16, 10, 42, 180, 0, 7, 27, 3, 96, 46, 104, 162, 0, 72, 28, 16, 10, 108, 62, 27]
abbrev dktX2_lose_0 : List UInt8 := dkwX2_lose_0 ++ dktX2_lose_1
theorem dksX2_lose_0 : cX2_lose.data.toList.drop 0 = dktX2_lose_0 := by decide +kernel
theorem dksX2_lose_1 : cX2_lose.data.toList.drop 23 = dktX2_lose_1 := dk_seg dksX2_lose_0 23 rfl rfl
theorem dksX2_lose_2 : cX2_lose.data.toList.drop 47 = dktX2_lose_2 := dk_seg dksX2_lose_1 24 rfl rfl
theorem dksX2_lose_3 : cX2_lose.data.toList.drop 71 = dktX2_lose_3 := dk_seg dksX2_lose_2 24 rfl rfl
theorem dX2_lose_0 : decode cX2_lose 0 = .ok (.iconst 0, 1) := dk_3 (dk_at dksX2_lose_0 0 rfl rfl)
theorem dX2_lose_1 : decode cX2_lose 1 = .ok (.istore_n 2, 1) := dk_61 (dk_at dksX2_lose_0 1 rfl rfl)
theorem dX2_lose_2 : decode cX2_lose 2 = .ok (.iload_n 2, 1) := dk_28 (dk_at dksX2_lose_0 2 rfl rfl)
theorem dX2_lose_3 : decode cX2_lose 3 = .ok (.bipush 10, 2) := dk_16 10 (dk_at dksX2_lose_0 3 rfl rfl)
theorem dX2_lose_5 : decode cX2_lose 5 = .ok (.aload_n 0, 1) := dk_42 (dk_at dksX2_lose_0 5 rfl rfl)
theorem dX2_lose_6 : decode cX2_lose 6 = .ok (.getfield 7, 3) := dk_180 0 7 (dk_at dksX2_lose_0 6 rfl rfl)
theorem dX2_lose_9 : decode cX2_lose 9 = .ok (.iload_n 1, 1) := dk_27 (dk_at dksX2_lose_0 9 rfl rfl)
theorem dX2_lose_10 : decode cX2_lose 10 = .ok (.iconst 0, 1) := dk_3 (dk_at dksX2_lose_0 10 rfl rfl)
theorem dX2_lose_11 : decode cX2_lose 11 = .ok (.iadd, 1) := dk_96 (dk_at dksX2_lose_0 11 rfl rfl)
theorem dX2_lose_12 : decode cX2_lose 12 = .ok (.iaload, 1) := dk_46 (dk_at dksX2_lose_0 12 rfl rfl)
theorem dX2_lose_13 : decode cX2_lose 13 = .ok (.imul, 1) := dk_104 (dk_at dksX2_lose_0 13 rfl rfl)
theorem dX2_lose_14 : decode cX2_lose 14 = .ok (.if_icmp .ge 72, 3) := dk_162 0 72 (dk_at dksX2_lose_0 14 rfl rfl)
theorem dX2_lose_17 : decode cX2_lose 17 = .ok (.iload_n 2, 1) := dk_28 (dk_at dksX2_lose_0 17 rfl rfl)
theorem dX2_lose_18 : decode cX2_lose 18 = .ok (.bipush 10, 2) := dk_16 10 (dk_at dksX2_lose_0 18 rfl rfl)
theorem dX2_lose_20 : decode cX2_lose 20 = .ok (.idiv, 1) := dk_108 (dk_at dksX2_lose_0 20 rfl rfl)
theorem dX2_lose_21 : decode cX2_lose 21 = .ok (.istore_n 3, 1) := dk_62 (dk_at dksX2_lose_0 21 rfl rfl)
theorem dX2_lose_22 : decode cX2_lose 22 = .ok (.iload_n 1, 1) := dk_27 (dk_at dksX2_lose_0 22 rfl rfl)
theorem dX2_lose_23 : decode cX2_lose 23 = .ok (.bipush 20, 2) := dk_16 20 (dk_at dksX2_lose_1 0 rfl rfl)
theorem dX2_lose_25 : decode cX2_lose 25 = .ok (.iadd, 1) := dk_96 (dk_at dksX2_lose_1 2 rfl rfl)
theorem dX2_lose_26 : decode cX2_lose 26 = .ok (.iload_n 2, 1) := dk_28 (dk_at dksX2_lose_1 3 rfl rfl)
theorem dX2_lose_27 : decode cX2_lose 27 = .ok (.iadd, 1) := dk_96 (dk_at dksX2_lose_1 4 rfl rfl)
theorem dX2_lose_28 : decode cX2_lose 28 = .ok (.istore 4, 2) := dk_54 4 (dk_at dksX2_lose_1 5 rfl rfl)
theorem dX2_lose_30 : decode cX2_lose 30 = .ok (.aload_n 0, 1) := dk_42 (dk_at dksX2_lose_1 7 rfl rfl)
theorem dX2_lose_31 : decode cX2_lose 31 = .ok (.iload_n 1, 1) := dk_27 (dk_at dksX2_lose_1 8 rfl rfl)
theorem dX2_lose_32 : decode cX2_lose 32 = .ok (.iload_n 3, 1) := dk_29 (dk_at dksX2_lose_1 9 rfl rfl)
theorem dX2_lose_33 : decode cX2_lose 33 = .ok (.invokevirtual 252, 3) := dk_182 0 252 (dk_at dksX2_lose_1 10 rfl rfl)
theorem dX2_lose_36 : decode cX2_lose 36 = .ok (.ifCond .eq 44, 3) := dk_153 0 44 (dk_at dksX2_lose_1 13 rfl rfl)
theorem dX2_lose_39 : decode cX2_lose 39 = .ok (.aload_n 0, 1) := dk_42 (dk_at dksX2_lose_1 16 rfl rfl)
theorem dX2_lose_40 : decode cX2_lose 40 = .ok (.getfield 7, 3) := dk_180 0 7 (dk_at dksX2_lose_1 17 rfl rfl)
theorem dX2_lose_43 : decode cX2_lose 43 = .ok (.iload 4, 2) := dk_21 4 (dk_at dksX2_lose_1 20 rfl rfl)
theorem dX2_lose_45 : decode cX2_lose 45 = .ok (.iaload, 1) := dk_46 (dk_at dksX2_lose_1 22 rfl rfl)
theorem dX2_lose_46 : decode cX2_lose 46 = .ok (.i2l, 1) := dk_133 (dk_at dksX2_lose_1 23 rfl rfl)
theorem dX2_lose_47 : decode cX2_lose 47 = .ok (.lconst 1, 1) := dk_10 (dk_at dksX2_lose_2 0 rfl rfl)
theorem dX2_lose_48 : decode cX2_lose 48 = .ok (.ldc2_w 272, 3) := dk_20 1 16 (dk_at dksX2_lose_2 1 rfl rfl)
theorem dX2_lose_51 : decode cX2_lose 51 = .ok (.invokestatic 109, 3) := dk_184 0 109 (dk_at dksX2_lose_2 4 rfl rfl)
theorem dX2_lose_54 : decode cX2_lose 54 = .ok (.ifCond .eq 26, 3) := dk_153 0 26 (dk_at dksX2_lose_2 7 rfl rfl)
theorem dX2_lose_57 : decode cX2_lose 57 = .ok (.aload_n 0, 1) := dk_42 (dk_at dksX2_lose_2 10 rfl rfl)
theorem dX2_lose_58 : decode cX2_lose 58 = .ok (.getfield 7, 3) := dk_180 0 7 (dk_at dksX2_lose_2 11 rfl rfl)
theorem dX2_lose_61 : decode cX2_lose 61 = .ok (.iload 4, 2) := dk_21 4 (dk_at dksX2_lose_2 14 rfl rfl)
theorem dX2_lose_63 : decode cX2_lose 63 = .ok (.dup2, 1) := dk_92 (dk_at dksX2_lose_2 16 rfl rfl)
theorem dX2_lose_64 : decode cX2_lose 64 = .ok (.iaload, 1) := dk_46 (dk_at dksX2_lose_2 17 rfl rfl)
theorem dX2_lose_65 : decode cX2_lose 65 = .ok (.aload_n 0, 1) := dk_42 (dk_at dksX2_lose_2 18 rfl rfl)
theorem dX2_lose_66 : decode cX2_lose 66 = .ok (.getfield 7, 3) := dk_180 0 7 (dk_at dksX2_lose_2 19 rfl rfl)
theorem dX2_lose_69 : decode cX2_lose 69 = .ok (.iload_n 1, 1) := dk_27 (dk_at dksX2_lose_2 22 rfl rfl)
theorem dX2_lose_70 : decode cX2_lose 70 = .ok (.iconst 4, 1) := dk_7 (dk_at dksX2_lose_2 23 rfl rfl)
theorem dX2_lose_71 : decode cX2_lose 71 = .ok (.iadd, 1) := dk_96 (dk_at dksX2_lose_3 0 rfl rfl)
theorem dX2_lose_72 : decode cX2_lose 72 = .ok (.iload_n 3, 1) := dk_29 (dk_at dksX2_lose_3 1 rfl rfl)
theorem dX2_lose_73 : decode cX2_lose 73 = .ok (.iadd, 1) := dk_96 (dk_at dksX2_lose_3 2 rfl rfl)
theorem dX2_lose_74 : decode cX2_lose 74 = .ok (.iaload, 1) := dk_46 (dk_at dksX2_lose_3 3 rfl rfl)
theorem dX2_lose_75 : decode cX2_lose 75 = .ok (.invokestatic 274, 3) := dk_184 1 18 (dk_at dksX2_lose_3 4 rfl rfl)
theorem dX2_lose_78 : decode cX2_lose 78 = .ok (.isub, 1) := dk_100 (dk_at dksX2_lose_3 7 rfl rfl)
theorem dX2_lose_79 : decode cX2_lose 79 = .ok (.iastore, 1) := dk_79 (dk_at dksX2_lose_3 8 rfl rfl)
theorem dX2_lose_80 : decode cX2_lose 80 = .ok (.iinc 2 1, 3) := dk_132 2 1 (dk_at dksX2_lose_3 9 rfl rfl)
theorem dX2_lose_83 : decode cX2_lose 83 = .ok (.goto (-81), 3) := dk_167 255 175 (dk_at dksX2_lose_3 12 rfl rfl)
theorem dX2_lose_86 : decode cX2_lose 86 = .ok (.return_, 1) := dk_177 (dk_at dksX2_lose_3 15 rfl rfl)
abbrev cX2_loses : ByteArray := prog_18_method_36_code
def yX2_loses : MethodName := ⟨RX2, "loses", "(I)I"⟩
def dkwX2_loses_0 : List UInt8 := [26, 153, 0, 8, 26, 5, 160, 0, 7, 4, 167, 0, 4, 3, 172]
abbrev dktX2_loses_0 : List UInt8 := dkwX2_loses_0 ++ []
theorem dksX2_loses_0 : cX2_loses.data.toList.drop 0 = dktX2_loses_0 := by decide +kernel
theorem dX2_loses_0 : decode cX2_loses 0 = .ok (.iload_n 0, 1) := dk_26 (dk_at dksX2_loses_0 0 rfl rfl)
theorem dX2_loses_1 : decode cX2_loses 1 = .ok (.ifCond .eq 8, 3) := dk_153 0 8 (dk_at dksX2_loses_0 1 rfl rfl)
theorem dX2_loses_4 : decode cX2_loses 4 = .ok (.iload_n 0, 1) := dk_26 (dk_at dksX2_loses_0 4 rfl rfl)
theorem dX2_loses_5 : decode cX2_loses 5 = .ok (.iconst 2, 1) := dk_5 (dk_at dksX2_loses_0 5 rfl rfl)
theorem dX2_loses_6 : decode cX2_loses 6 = .ok (.if_icmp .ne 7, 3) := dk_160 0 7 (dk_at dksX2_loses_0 6 rfl rfl)
theorem dX2_loses_9 : decode cX2_loses 9 = .ok (.iconst 1, 1) := dk_4 (dk_at dksX2_loses_0 9 rfl rfl)
theorem dX2_loses_10 : decode cX2_loses 10 = .ok (.goto 4, 3) := dk_167 0 4 (dk_at dksX2_loses_0 10 rfl rfl)
theorem dX2_loses_13 : decode cX2_loses 13 = .ok (.iconst 0, 1) := dk_3 (dk_at dksX2_loses_0 13 rfl rfl)
theorem dX2_loses_14 : decode cX2_loses 14 = .ok (.ireturn, 1) := dk_172 (dk_at dksX2_loses_0 14 rfl rfl)
abbrev cX2_evening : ByteArray := prog_18_method_58_code
def yX2_evening : MethodName := ⟨RX2, "evening", "(I)I"⟩
def dkwX2_evening_2 : List UInt8 := [182, 1, 34, 132, 2, 1, 167, 255, 243, 42, 180, 0, 7, 5, 46, 172]
abbrev dktX2_evening_2 : List UInt8 := dkwX2_evening_2 ++ []
def dkwX2_evening_1 : List UInt8 := [17, 3, 231, 164, 0, 6, 16, 251, 172, 42, 182, 1, 50, 3, 61, 28, 27, 162, 0, 14, 42, 3]
abbrev dktX2_evening_1 : List UInt8 := dkwX2_evening_1 ++ dktX2_evening_2
def dkwX2_evening_0 : List UInt8 := [27, 133, 10, 20, 1, 48, 184, 0, 109, 154, 0, 6, 16, 253, 172, 42, 180, 0, 7, 5, 46, 27, 96]
abbrev dktX2_evening_0 : List UInt8 := dkwX2_evening_0 ++ dktX2_evening_1
theorem dksX2_evening_0 : cX2_evening.data.toList.drop 0 = dktX2_evening_0 := by decide +kernel
theorem dksX2_evening_1 : cX2_evening.data.toList.drop 23 = dktX2_evening_1 := dk_seg dksX2_evening_0 23 rfl rfl
theorem dksX2_evening_2 : cX2_evening.data.toList.drop 45 = dktX2_evening_2 := dk_seg dksX2_evening_1 22 rfl rfl
theorem dX2_evening_0 : decode cX2_evening 0 = .ok (.iload_n 1, 1) := dk_27 (dk_at dksX2_evening_0 0 rfl rfl)
theorem dX2_evening_1 : decode cX2_evening 1 = .ok (.i2l, 1) := dk_133 (dk_at dksX2_evening_0 1 rfl rfl)
theorem dX2_evening_2 : decode cX2_evening 2 = .ok (.lconst 1, 1) := dk_10 (dk_at dksX2_evening_0 2 rfl rfl)
theorem dX2_evening_3 : decode cX2_evening 3 = .ok (.ldc2_w 304, 3) := dk_20 1 48 (dk_at dksX2_evening_0 3 rfl rfl)
theorem dX2_evening_6 : decode cX2_evening 6 = .ok (.invokestatic 109, 3) := dk_184 0 109 (dk_at dksX2_evening_0 6 rfl rfl)
theorem dX2_evening_9 : decode cX2_evening 9 = .ok (.ifCond .ne 6, 3) := dk_154 0 6 (dk_at dksX2_evening_0 9 rfl rfl)
theorem dX2_evening_12 : decode cX2_evening 12 = .ok (.bipush (-3), 2) := dk_16 253 (dk_at dksX2_evening_0 12 rfl rfl)
theorem dX2_evening_14 : decode cX2_evening 14 = .ok (.ireturn, 1) := dk_172 (dk_at dksX2_evening_0 14 rfl rfl)
theorem dX2_evening_15 : decode cX2_evening 15 = .ok (.aload_n 0, 1) := dk_42 (dk_at dksX2_evening_0 15 rfl rfl)
theorem dX2_evening_16 : decode cX2_evening 16 = .ok (.getfield 7, 3) := dk_180 0 7 (dk_at dksX2_evening_0 16 rfl rfl)
theorem dX2_evening_19 : decode cX2_evening 19 = .ok (.iconst 2, 1) := dk_5 (dk_at dksX2_evening_0 19 rfl rfl)
theorem dX2_evening_20 : decode cX2_evening 20 = .ok (.iaload, 1) := dk_46 (dk_at dksX2_evening_0 20 rfl rfl)
theorem dX2_evening_21 : decode cX2_evening 21 = .ok (.iload_n 1, 1) := dk_27 (dk_at dksX2_evening_0 21 rfl rfl)
theorem dX2_evening_22 : decode cX2_evening 22 = .ok (.iadd, 1) := dk_96 (dk_at dksX2_evening_0 22 rfl rfl)
theorem dX2_evening_23 : decode cX2_evening 23 = .ok (.sipush 999, 3) := dk_17 3 231 (dk_at dksX2_evening_1 0 rfl rfl)
theorem dX2_evening_26 : decode cX2_evening 26 = .ok (.if_icmp .le 6, 3) := dk_164 0 6 (dk_at dksX2_evening_1 3 rfl rfl)
theorem dX2_evening_29 : decode cX2_evening 29 = .ok (.bipush (-5), 2) := dk_16 251 (dk_at dksX2_evening_1 6 rfl rfl)
theorem dX2_evening_31 : decode cX2_evening 31 = .ok (.ireturn, 1) := dk_172 (dk_at dksX2_evening_1 8 rfl rfl)
theorem dX2_evening_32 : decode cX2_evening 32 = .ok (.aload_n 0, 1) := dk_42 (dk_at dksX2_evening_1 9 rfl rfl)
theorem dX2_evening_33 : decode cX2_evening 33 = .ok (.invokevirtual 306, 3) := dk_182 1 50 (dk_at dksX2_evening_1 10 rfl rfl)
theorem dX2_evening_36 : decode cX2_evening 36 = .ok (.iconst 0, 1) := dk_3 (dk_at dksX2_evening_1 13 rfl rfl)
theorem dX2_evening_37 : decode cX2_evening 37 = .ok (.istore_n 2, 1) := dk_61 (dk_at dksX2_evening_1 14 rfl rfl)
theorem dX2_evening_38 : decode cX2_evening 38 = .ok (.iload_n 2, 1) := dk_28 (dk_at dksX2_evening_1 15 rfl rfl)
theorem dX2_evening_39 : decode cX2_evening 39 = .ok (.iload_n 1, 1) := dk_27 (dk_at dksX2_evening_1 16 rfl rfl)
theorem dX2_evening_40 : decode cX2_evening 40 = .ok (.if_icmp .ge 14, 3) := dk_162 0 14 (dk_at dksX2_evening_1 17 rfl rfl)
theorem dX2_evening_43 : decode cX2_evening 43 = .ok (.aload_n 0, 1) := dk_42 (dk_at dksX2_evening_1 20 rfl rfl)
theorem dX2_evening_44 : decode cX2_evening 44 = .ok (.iconst 0, 1) := dk_3 (dk_at dksX2_evening_1 21 rfl rfl)
theorem dX2_evening_45 : decode cX2_evening 45 = .ok (.invokevirtual 290, 3) := dk_182 1 34 (dk_at dksX2_evening_2 0 rfl rfl)
theorem dX2_evening_48 : decode cX2_evening 48 = .ok (.iinc 2 1, 3) := dk_132 2 1 (dk_at dksX2_evening_2 3 rfl rfl)
theorem dX2_evening_51 : decode cX2_evening 51 = .ok (.goto (-13), 3) := dk_167 255 243 (dk_at dksX2_evening_2 6 rfl rfl)
theorem dX2_evening_54 : decode cX2_evening 54 = .ok (.aload_n 0, 1) := dk_42 (dk_at dksX2_evening_2 9 rfl rfl)
theorem dX2_evening_55 : decode cX2_evening 55 = .ok (.getfield 7, 3) := dk_180 0 7 (dk_at dksX2_evening_2 10 rfl rfl)
theorem dX2_evening_58 : decode cX2_evening 58 = .ok (.iconst 2, 1) := dk_5 (dk_at dksX2_evening_2 13 rfl rfl)
theorem dX2_evening_59 : decode cX2_evening 59 = .ok (.iaload, 1) := dk_46 (dk_at dksX2_evening_2 14 rfl rfl)
theorem dX2_evening_60 : decode cX2_evening 60 = .ok (.ireturn, 1) := dk_172 (dk_at dksX2_evening_2 15 rfl rfl)
abbrev cX2_keepPast : ByteArray := prog_18_method_57_code
def yX2_keepPast : MethodName := ⟨RX2, "keepPast", "()V"⟩
def dkwX2_keepPast_3 : List UInt8 := [42, 89, 180, 0, 206, 4, 96, 181, 0, 206, 177]
abbrev dktX2_keepPast_3 : List UInt8 := dkwX2_keepPast_3 ++ []
def dkwX2_keepPast_2 : List UInt8 := [180, 0, 206, 4, 100, 181, 0, 206, 42, 3, 17, 0, 216, 16, 108, 42, 180, 0, 206, 104, 96, 182, 0, 202]
abbrev dktX2_keepPast_2 : List UInt8 := dkwX2_keepPast_2 ++ dktX2_keepPast_3
def dkwX2_keepPast_1 : List UInt8 := [17, 0, 216, 27, 96, 42, 180, 0, 7, 17, 1, 68, 27, 96, 46, 79, 132, 1, 1, 167, 255, 226, 42, 89]
abbrev dktX2_keepPast_1 : List UInt8 := dkwX2_keepPast_1 ++ dktX2_keepPast_2
def dkwX2_keepPast_0 : List UInt8 := [42, 180, 0, 206, 16, 8, 160, 0, 48, 3, 60, 27, 17, 2, 244, 162, 0, 29, 42, 180, 0, 7]
abbrev dktX2_keepPast_0 : List UInt8 := dkwX2_keepPast_0 ++ dktX2_keepPast_1
theorem dksX2_keepPast_0 : cX2_keepPast.data.toList.drop 0 = dktX2_keepPast_0 := by decide +kernel
theorem dksX2_keepPast_1 : cX2_keepPast.data.toList.drop 22 = dktX2_keepPast_1 := dk_seg dksX2_keepPast_0 22 rfl rfl
theorem dksX2_keepPast_2 : cX2_keepPast.data.toList.drop 46 = dktX2_keepPast_2 := dk_seg dksX2_keepPast_1 24 rfl rfl
theorem dksX2_keepPast_3 : cX2_keepPast.data.toList.drop 70 = dktX2_keepPast_3 := dk_seg dksX2_keepPast_2 24 rfl rfl
theorem dX2_keepPast_0 : decode cX2_keepPast 0 = .ok (.aload_n 0, 1) := dk_42 (dk_at dksX2_keepPast_0 0 rfl rfl)
theorem dX2_keepPast_1 : decode cX2_keepPast 1 = .ok (.getfield 206, 3) := dk_180 0 206 (dk_at dksX2_keepPast_0 1 rfl rfl)
theorem dX2_keepPast_4 : decode cX2_keepPast 4 = .ok (.bipush 8, 2) := dk_16 8 (dk_at dksX2_keepPast_0 4 rfl rfl)
theorem dX2_keepPast_6 : decode cX2_keepPast 6 = .ok (.if_icmp .ne 48, 3) := dk_160 0 48 (dk_at dksX2_keepPast_0 6 rfl rfl)
theorem dX2_keepPast_9 : decode cX2_keepPast 9 = .ok (.iconst 0, 1) := dk_3 (dk_at dksX2_keepPast_0 9 rfl rfl)
theorem dX2_keepPast_10 : decode cX2_keepPast 10 = .ok (.istore_n 1, 1) := dk_60 (dk_at dksX2_keepPast_0 10 rfl rfl)
theorem dX2_keepPast_11 : decode cX2_keepPast 11 = .ok (.iload_n 1, 1) := dk_27 (dk_at dksX2_keepPast_0 11 rfl rfl)
theorem dX2_keepPast_12 : decode cX2_keepPast 12 = .ok (.sipush 756, 3) := dk_17 2 244 (dk_at dksX2_keepPast_0 12 rfl rfl)
theorem dX2_keepPast_15 : decode cX2_keepPast 15 = .ok (.if_icmp .ge 29, 3) := dk_162 0 29 (dk_at dksX2_keepPast_0 15 rfl rfl)
theorem dX2_keepPast_18 : decode cX2_keepPast 18 = .ok (.aload_n 0, 1) := dk_42 (dk_at dksX2_keepPast_0 18 rfl rfl)
theorem dX2_keepPast_19 : decode cX2_keepPast 19 = .ok (.getfield 7, 3) := dk_180 0 7 (dk_at dksX2_keepPast_0 19 rfl rfl)
theorem dX2_keepPast_22 : decode cX2_keepPast 22 = .ok (.sipush 216, 3) := dk_17 0 216 (dk_at dksX2_keepPast_1 0 rfl rfl)
theorem dX2_keepPast_25 : decode cX2_keepPast 25 = .ok (.iload_n 1, 1) := dk_27 (dk_at dksX2_keepPast_1 3 rfl rfl)
theorem dX2_keepPast_26 : decode cX2_keepPast 26 = .ok (.iadd, 1) := dk_96 (dk_at dksX2_keepPast_1 4 rfl rfl)
theorem dX2_keepPast_27 : decode cX2_keepPast 27 = .ok (.aload_n 0, 1) := dk_42 (dk_at dksX2_keepPast_1 5 rfl rfl)
theorem dX2_keepPast_28 : decode cX2_keepPast 28 = .ok (.getfield 7, 3) := dk_180 0 7 (dk_at dksX2_keepPast_1 6 rfl rfl)
theorem dX2_keepPast_31 : decode cX2_keepPast 31 = .ok (.sipush 324, 3) := dk_17 1 68 (dk_at dksX2_keepPast_1 9 rfl rfl)
theorem dX2_keepPast_34 : decode cX2_keepPast 34 = .ok (.iload_n 1, 1) := dk_27 (dk_at dksX2_keepPast_1 12 rfl rfl)
theorem dX2_keepPast_35 : decode cX2_keepPast 35 = .ok (.iadd, 1) := dk_96 (dk_at dksX2_keepPast_1 13 rfl rfl)
theorem dX2_keepPast_36 : decode cX2_keepPast 36 = .ok (.iaload, 1) := dk_46 (dk_at dksX2_keepPast_1 14 rfl rfl)
theorem dX2_keepPast_37 : decode cX2_keepPast 37 = .ok (.iastore, 1) := dk_79 (dk_at dksX2_keepPast_1 15 rfl rfl)
theorem dX2_keepPast_38 : decode cX2_keepPast 38 = .ok (.iinc 1 1, 3) := dk_132 1 1 (dk_at dksX2_keepPast_1 16 rfl rfl)
theorem dX2_keepPast_41 : decode cX2_keepPast 41 = .ok (.goto (-30), 3) := dk_167 255 226 (dk_at dksX2_keepPast_1 19 rfl rfl)
theorem dX2_keepPast_44 : decode cX2_keepPast 44 = .ok (.aload_n 0, 1) := dk_42 (dk_at dksX2_keepPast_1 22 rfl rfl)
theorem dX2_keepPast_45 : decode cX2_keepPast 45 = .ok (.dup, 1) := dk_89 (dk_at dksX2_keepPast_1 23 rfl rfl)
theorem dX2_keepPast_46 : decode cX2_keepPast 46 = .ok (.getfield 206, 3) := dk_180 0 206 (dk_at dksX2_keepPast_2 0 rfl rfl)
theorem dX2_keepPast_49 : decode cX2_keepPast 49 = .ok (.iconst 1, 1) := dk_4 (dk_at dksX2_keepPast_2 3 rfl rfl)
theorem dX2_keepPast_50 : decode cX2_keepPast 50 = .ok (.isub, 1) := dk_100 (dk_at dksX2_keepPast_2 4 rfl rfl)
theorem dX2_keepPast_51 : decode cX2_keepPast 51 = .ok (.putfield 206, 3) := dk_181 0 206 (dk_at dksX2_keepPast_2 5 rfl rfl)
theorem dX2_keepPast_54 : decode cX2_keepPast 54 = .ok (.aload_n 0, 1) := dk_42 (dk_at dksX2_keepPast_2 8 rfl rfl)
theorem dX2_keepPast_55 : decode cX2_keepPast 55 = .ok (.iconst 0, 1) := dk_3 (dk_at dksX2_keepPast_2 9 rfl rfl)
theorem dX2_keepPast_56 : decode cX2_keepPast 56 = .ok (.sipush 216, 3) := dk_17 0 216 (dk_at dksX2_keepPast_2 10 rfl rfl)
theorem dX2_keepPast_59 : decode cX2_keepPast 59 = .ok (.bipush 108, 2) := dk_16 108 (dk_at dksX2_keepPast_2 13 rfl rfl)
theorem dX2_keepPast_61 : decode cX2_keepPast 61 = .ok (.aload_n 0, 1) := dk_42 (dk_at dksX2_keepPast_2 15 rfl rfl)
theorem dX2_keepPast_62 : decode cX2_keepPast 62 = .ok (.getfield 206, 3) := dk_180 0 206 (dk_at dksX2_keepPast_2 16 rfl rfl)
theorem dX2_keepPast_65 : decode cX2_keepPast 65 = .ok (.imul, 1) := dk_104 (dk_at dksX2_keepPast_2 19 rfl rfl)
theorem dX2_keepPast_66 : decode cX2_keepPast 66 = .ok (.iadd, 1) := dk_96 (dk_at dksX2_keepPast_2 20 rfl rfl)
theorem dX2_keepPast_67 : decode cX2_keepPast 67 = .ok (.invokevirtual 202, 3) := dk_182 0 202 (dk_at dksX2_keepPast_2 21 rfl rfl)
theorem dX2_keepPast_70 : decode cX2_keepPast 70 = .ok (.aload_n 0, 1) := dk_42 (dk_at dksX2_keepPast_3 0 rfl rfl)
theorem dX2_keepPast_71 : decode cX2_keepPast 71 = .ok (.dup, 1) := dk_89 (dk_at dksX2_keepPast_3 1 rfl rfl)
theorem dX2_keepPast_72 : decode cX2_keepPast 72 = .ok (.getfield 206, 3) := dk_180 0 206 (dk_at dksX2_keepPast_3 2 rfl rfl)
theorem dX2_keepPast_75 : decode cX2_keepPast 75 = .ok (.iconst 1, 1) := dk_4 (dk_at dksX2_keepPast_3 5 rfl rfl)
theorem dX2_keepPast_76 : decode cX2_keepPast 76 = .ok (.iadd, 1) := dk_96 (dk_at dksX2_keepPast_3 6 rfl rfl)
theorem dX2_keepPast_77 : decode cX2_keepPast 77 = .ok (.putfield 206, 3) := dk_181 0 206 (dk_at dksX2_keepPast_3 7 rfl rfl)
theorem dX2_keepPast_80 : decode cX2_keepPast 80 = .ok (.return_, 1) := dk_177 (dk_at dksX2_keepPast_3 10 rfl rfl)
abbrev cX2_teach : ByteArray := prog_18_method_59_code
def yX2_teach : MethodName := ⟨RX2, "teach", "(II)I"⟩
def dkwX2_teach_1 : List UInt8 := [27, 28, 6, 182, 0, 255, 42, 180, 0, 7, 16, 20, 16, 10, 27, 104, 96, 28, 96, 46, 172]
abbrev dktX2_teach_1 : List UInt8 := dkwX2_teach_1 ++ []
def dkwX2_teach_0 : List UInt8 := [42, 27, 182, 0, 234, 153, 0, 10, 28, 184, 1, 37, 154, 0, 6, 16, 254, 172, 42, 182, 1, 50, 42, 3]
abbrev dktX2_teach_0 : List UInt8 := dkwX2_teach_0 ++ dktX2_teach_1
theorem dksX2_teach_0 : cX2_teach.data.toList.drop 0 = dktX2_teach_0 := by decide +kernel
theorem dksX2_teach_1 : cX2_teach.data.toList.drop 24 = dktX2_teach_1 := dk_seg dksX2_teach_0 24 rfl rfl
theorem dX2_teach_0 : decode cX2_teach 0 = .ok (.aload_n 0, 1) := dk_42 (dk_at dksX2_teach_0 0 rfl rfl)
theorem dX2_teach_1 : decode cX2_teach 1 = .ok (.iload_n 1, 1) := dk_27 (dk_at dksX2_teach_0 1 rfl rfl)
theorem dX2_teach_2 : decode cX2_teach 2 = .ok (.invokevirtual 234, 3) := dk_182 0 234 (dk_at dksX2_teach_0 2 rfl rfl)
theorem dX2_teach_5 : decode cX2_teach 5 = .ok (.ifCond .eq 10, 3) := dk_153 0 10 (dk_at dksX2_teach_0 5 rfl rfl)
theorem dX2_teach_8 : decode cX2_teach 8 = .ok (.iload_n 2, 1) := dk_28 (dk_at dksX2_teach_0 8 rfl rfl)
theorem dX2_teach_9 : decode cX2_teach 9 = .ok (.invokestatic 293, 3) := dk_184 1 37 (dk_at dksX2_teach_0 9 rfl rfl)
theorem dX2_teach_12 : decode cX2_teach 12 = .ok (.ifCond .ne 6, 3) := dk_154 0 6 (dk_at dksX2_teach_0 12 rfl rfl)
theorem dX2_teach_15 : decode cX2_teach 15 = .ok (.bipush (-2), 2) := dk_16 254 (dk_at dksX2_teach_0 15 rfl rfl)
theorem dX2_teach_17 : decode cX2_teach 17 = .ok (.ireturn, 1) := dk_172 (dk_at dksX2_teach_0 17 rfl rfl)
theorem dX2_teach_18 : decode cX2_teach 18 = .ok (.aload_n 0, 1) := dk_42 (dk_at dksX2_teach_0 18 rfl rfl)
theorem dX2_teach_19 : decode cX2_teach 19 = .ok (.invokevirtual 306, 3) := dk_182 1 50 (dk_at dksX2_teach_0 19 rfl rfl)
theorem dX2_teach_22 : decode cX2_teach 22 = .ok (.aload_n 0, 1) := dk_42 (dk_at dksX2_teach_0 22 rfl rfl)
theorem dX2_teach_23 : decode cX2_teach 23 = .ok (.iconst 0, 1) := dk_3 (dk_at dksX2_teach_0 23 rfl rfl)
theorem dX2_teach_24 : decode cX2_teach 24 = .ok (.iload_n 1, 1) := dk_27 (dk_at dksX2_teach_1 0 rfl rfl)
theorem dX2_teach_25 : decode cX2_teach 25 = .ok (.iload_n 2, 1) := dk_28 (dk_at dksX2_teach_1 1 rfl rfl)
theorem dX2_teach_26 : decode cX2_teach 26 = .ok (.iconst 3, 1) := dk_6 (dk_at dksX2_teach_1 2 rfl rfl)
theorem dX2_teach_27 : decode cX2_teach 27 = .ok (.invokevirtual 255, 3) := dk_182 0 255 (dk_at dksX2_teach_1 3 rfl rfl)
theorem dX2_teach_30 : decode cX2_teach 30 = .ok (.aload_n 0, 1) := dk_42 (dk_at dksX2_teach_1 6 rfl rfl)
theorem dX2_teach_31 : decode cX2_teach 31 = .ok (.getfield 7, 3) := dk_180 0 7 (dk_at dksX2_teach_1 7 rfl rfl)
theorem dX2_teach_34 : decode cX2_teach 34 = .ok (.bipush 20, 2) := dk_16 20 (dk_at dksX2_teach_1 10 rfl rfl)
theorem dX2_teach_36 : decode cX2_teach 36 = .ok (.bipush 10, 2) := dk_16 10 (dk_at dksX2_teach_1 12 rfl rfl)
theorem dX2_teach_38 : decode cX2_teach 38 = .ok (.iload_n 1, 1) := dk_27 (dk_at dksX2_teach_1 14 rfl rfl)
theorem dX2_teach_39 : decode cX2_teach 39 = .ok (.imul, 1) := dk_104 (dk_at dksX2_teach_1 15 rfl rfl)
theorem dX2_teach_40 : decode cX2_teach 40 = .ok (.iadd, 1) := dk_96 (dk_at dksX2_teach_1 16 rfl rfl)
theorem dX2_teach_41 : decode cX2_teach 41 = .ok (.iload_n 2, 1) := dk_28 (dk_at dksX2_teach_1 17 rfl rfl)
theorem dX2_teach_42 : decode cX2_teach 42 = .ok (.iadd, 1) := dk_96 (dk_at dksX2_teach_1 18 rfl rfl)
theorem dX2_teach_43 : decode cX2_teach 43 = .ok (.iaload, 1) := dk_46 (dk_at dksX2_teach_1 19 rfl rfl)
theorem dX2_teach_44 : decode cX2_teach 44 = .ok (.ireturn, 1) := dk_172 (dk_at dksX2_teach_1 20 rfl rfl)
abbrev cX2_moult : ByteArray := prog_18_method_60_code
def yX2_moult : MethodName := ⟨RX2, "moult", "(I)I"⟩
def dkwX2_moult_2 : List UInt8 := [180, 0, 7, 16, 20, 16, 10, 27, 104, 96, 29, 96, 46, 96, 61, 132, 3, 1, 167, 255, 212, 28, 172]
abbrev dktX2_moult_2 : List UInt8 := dkwX2_moult_2 ++ []
def dkwX2_moult_1 : List UInt8 := [162, 0, 44, 42, 180, 0, 7, 16, 20, 16, 10, 27, 104, 96, 29, 96, 92, 46, 5, 108, 79, 28, 42]
abbrev dktX2_moult_1 : List UInt8 := dkwX2_moult_1 ++ dktX2_moult_2
def dkwX2_moult_0 : List UInt8 := [42, 27, 182, 0, 234, 154, 0, 6, 16, 254, 172, 42, 182, 1, 50, 3, 61, 3, 62, 29, 16, 10]
abbrev dktX2_moult_0 : List UInt8 := dkwX2_moult_0 ++ dktX2_moult_1
theorem dksX2_moult_0 : cX2_moult.data.toList.drop 0 = dktX2_moult_0 := by decide +kernel
theorem dksX2_moult_1 : cX2_moult.data.toList.drop 22 = dktX2_moult_1 := dk_seg dksX2_moult_0 22 rfl rfl
theorem dksX2_moult_2 : cX2_moult.data.toList.drop 45 = dktX2_moult_2 := dk_seg dksX2_moult_1 23 rfl rfl
theorem dX2_moult_0 : decode cX2_moult 0 = .ok (.aload_n 0, 1) := dk_42 (dk_at dksX2_moult_0 0 rfl rfl)
theorem dX2_moult_1 : decode cX2_moult 1 = .ok (.iload_n 1, 1) := dk_27 (dk_at dksX2_moult_0 1 rfl rfl)
theorem dX2_moult_2 : decode cX2_moult 2 = .ok (.invokevirtual 234, 3) := dk_182 0 234 (dk_at dksX2_moult_0 2 rfl rfl)
theorem dX2_moult_5 : decode cX2_moult 5 = .ok (.ifCond .ne 6, 3) := dk_154 0 6 (dk_at dksX2_moult_0 5 rfl rfl)
theorem dX2_moult_8 : decode cX2_moult 8 = .ok (.bipush (-2), 2) := dk_16 254 (dk_at dksX2_moult_0 8 rfl rfl)
theorem dX2_moult_10 : decode cX2_moult 10 = .ok (.ireturn, 1) := dk_172 (dk_at dksX2_moult_0 10 rfl rfl)
theorem dX2_moult_11 : decode cX2_moult 11 = .ok (.aload_n 0, 1) := dk_42 (dk_at dksX2_moult_0 11 rfl rfl)
theorem dX2_moult_12 : decode cX2_moult 12 = .ok (.invokevirtual 306, 3) := dk_182 1 50 (dk_at dksX2_moult_0 12 rfl rfl)
theorem dX2_moult_15 : decode cX2_moult 15 = .ok (.iconst 0, 1) := dk_3 (dk_at dksX2_moult_0 15 rfl rfl)
theorem dX2_moult_16 : decode cX2_moult 16 = .ok (.istore_n 2, 1) := dk_61 (dk_at dksX2_moult_0 16 rfl rfl)
theorem dX2_moult_17 : decode cX2_moult 17 = .ok (.iconst 0, 1) := dk_3 (dk_at dksX2_moult_0 17 rfl rfl)
theorem dX2_moult_18 : decode cX2_moult 18 = .ok (.istore_n 3, 1) := dk_62 (dk_at dksX2_moult_0 18 rfl rfl)
theorem dX2_moult_19 : decode cX2_moult 19 = .ok (.iload_n 3, 1) := dk_29 (dk_at dksX2_moult_0 19 rfl rfl)
theorem dX2_moult_20 : decode cX2_moult 20 = .ok (.bipush 10, 2) := dk_16 10 (dk_at dksX2_moult_0 20 rfl rfl)
theorem dX2_moult_22 : decode cX2_moult 22 = .ok (.if_icmp .ge 44, 3) := dk_162 0 44 (dk_at dksX2_moult_1 0 rfl rfl)
theorem dX2_moult_25 : decode cX2_moult 25 = .ok (.aload_n 0, 1) := dk_42 (dk_at dksX2_moult_1 3 rfl rfl)
theorem dX2_moult_26 : decode cX2_moult 26 = .ok (.getfield 7, 3) := dk_180 0 7 (dk_at dksX2_moult_1 4 rfl rfl)
theorem dX2_moult_29 : decode cX2_moult 29 = .ok (.bipush 20, 2) := dk_16 20 (dk_at dksX2_moult_1 7 rfl rfl)
theorem dX2_moult_31 : decode cX2_moult 31 = .ok (.bipush 10, 2) := dk_16 10 (dk_at dksX2_moult_1 9 rfl rfl)
theorem dX2_moult_33 : decode cX2_moult 33 = .ok (.iload_n 1, 1) := dk_27 (dk_at dksX2_moult_1 11 rfl rfl)
theorem dX2_moult_34 : decode cX2_moult 34 = .ok (.imul, 1) := dk_104 (dk_at dksX2_moult_1 12 rfl rfl)
theorem dX2_moult_35 : decode cX2_moult 35 = .ok (.iadd, 1) := dk_96 (dk_at dksX2_moult_1 13 rfl rfl)
theorem dX2_moult_36 : decode cX2_moult 36 = .ok (.iload_n 3, 1) := dk_29 (dk_at dksX2_moult_1 14 rfl rfl)
theorem dX2_moult_37 : decode cX2_moult 37 = .ok (.iadd, 1) := dk_96 (dk_at dksX2_moult_1 15 rfl rfl)
theorem dX2_moult_38 : decode cX2_moult 38 = .ok (.dup2, 1) := dk_92 (dk_at dksX2_moult_1 16 rfl rfl)
theorem dX2_moult_39 : decode cX2_moult 39 = .ok (.iaload, 1) := dk_46 (dk_at dksX2_moult_1 17 rfl rfl)
theorem dX2_moult_40 : decode cX2_moult 40 = .ok (.iconst 2, 1) := dk_5 (dk_at dksX2_moult_1 18 rfl rfl)
theorem dX2_moult_41 : decode cX2_moult 41 = .ok (.idiv, 1) := dk_108 (dk_at dksX2_moult_1 19 rfl rfl)
theorem dX2_moult_42 : decode cX2_moult 42 = .ok (.iastore, 1) := dk_79 (dk_at dksX2_moult_1 20 rfl rfl)
theorem dX2_moult_43 : decode cX2_moult 43 = .ok (.iload_n 2, 1) := dk_28 (dk_at dksX2_moult_1 21 rfl rfl)
theorem dX2_moult_44 : decode cX2_moult 44 = .ok (.aload_n 0, 1) := dk_42 (dk_at dksX2_moult_1 22 rfl rfl)
theorem dX2_moult_45 : decode cX2_moult 45 = .ok (.getfield 7, 3) := dk_180 0 7 (dk_at dksX2_moult_2 0 rfl rfl)
theorem dX2_moult_48 : decode cX2_moult 48 = .ok (.bipush 20, 2) := dk_16 20 (dk_at dksX2_moult_2 3 rfl rfl)
theorem dX2_moult_50 : decode cX2_moult 50 = .ok (.bipush 10, 2) := dk_16 10 (dk_at dksX2_moult_2 5 rfl rfl)
theorem dX2_moult_52 : decode cX2_moult 52 = .ok (.iload_n 1, 1) := dk_27 (dk_at dksX2_moult_2 7 rfl rfl)
theorem dX2_moult_53 : decode cX2_moult 53 = .ok (.imul, 1) := dk_104 (dk_at dksX2_moult_2 8 rfl rfl)
theorem dX2_moult_54 : decode cX2_moult 54 = .ok (.iadd, 1) := dk_96 (dk_at dksX2_moult_2 9 rfl rfl)
theorem dX2_moult_55 : decode cX2_moult 55 = .ok (.iload_n 3, 1) := dk_29 (dk_at dksX2_moult_2 10 rfl rfl)
theorem dX2_moult_56 : decode cX2_moult 56 = .ok (.iadd, 1) := dk_96 (dk_at dksX2_moult_2 11 rfl rfl)
theorem dX2_moult_57 : decode cX2_moult 57 = .ok (.iaload, 1) := dk_46 (dk_at dksX2_moult_2 12 rfl rfl)
theorem dX2_moult_58 : decode cX2_moult 58 = .ok (.iadd, 1) := dk_96 (dk_at dksX2_moult_2 13 rfl rfl)
theorem dX2_moult_59 : decode cX2_moult 59 = .ok (.istore_n 2, 1) := dk_61 (dk_at dksX2_moult_2 14 rfl rfl)
theorem dX2_moult_60 : decode cX2_moult 60 = .ok (.iinc 3 1, 3) := dk_132 3 1 (dk_at dksX2_moult_2 15 rfl rfl)
theorem dX2_moult_63 : decode cX2_moult 63 = .ok (.goto (-44), 3) := dk_167 255 212 (dk_at dksX2_moult_2 18 rfl rfl)
theorem dX2_moult_66 : decode cX2_moult 66 = .ok (.iload_n 2, 1) := dk_28 (dk_at dksX2_moult_2 21 rfl rfl)
theorem dX2_moult_67 : decode cX2_moult 67 = .ok (.ireturn, 1) := dk_172 (dk_at dksX2_moult_2 22 rfl rfl)
abbrev cX2_perch : ByteArray := prog_18_method_61_code
def yX2_perch : MethodName := ⟨RX2, "perch", "(II)I"⟩
def dkwX2_perch_2 : List UInt8 := [180, 0, 7, 16, 12, 27, 96, 28, 79, 29, 172]
abbrev dktX2_perch_2 : List UInt8 := dkwX2_perch_2 ++ []
def dkwX2_perch_1 : List UInt8 := [180, 0, 7, 16, 12, 27, 96, 46, 62, 29, 28, 160, 0, 6, 16, 252, 172, 42, 182, 1, 50, 42]
abbrev dktX2_perch_1 : List UInt8 := dkwX2_perch_1 ++ dktX2_perch_2
def dkwX2_perch_0 : List UInt8 := [42, 27, 182, 0, 234, 153, 0, 15, 28, 133, 9, 20, 1, 53, 184, 0, 109, 154, 0, 6, 16, 254, 172, 42]
abbrev dktX2_perch_0 : List UInt8 := dkwX2_perch_0 ++ dktX2_perch_1
theorem dksX2_perch_0 : cX2_perch.data.toList.drop 0 = dktX2_perch_0 := by decide +kernel
theorem dksX2_perch_1 : cX2_perch.data.toList.drop 24 = dktX2_perch_1 := dk_seg dksX2_perch_0 24 rfl rfl
theorem dksX2_perch_2 : cX2_perch.data.toList.drop 46 = dktX2_perch_2 := dk_seg dksX2_perch_1 22 rfl rfl
theorem dX2_perch_0 : decode cX2_perch 0 = .ok (.aload_n 0, 1) := dk_42 (dk_at dksX2_perch_0 0 rfl rfl)
theorem dX2_perch_1 : decode cX2_perch 1 = .ok (.iload_n 1, 1) := dk_27 (dk_at dksX2_perch_0 1 rfl rfl)
theorem dX2_perch_2 : decode cX2_perch 2 = .ok (.invokevirtual 234, 3) := dk_182 0 234 (dk_at dksX2_perch_0 2 rfl rfl)
theorem dX2_perch_5 : decode cX2_perch 5 = .ok (.ifCond .eq 15, 3) := dk_153 0 15 (dk_at dksX2_perch_0 5 rfl rfl)
theorem dX2_perch_8 : decode cX2_perch 8 = .ok (.iload_n 2, 1) := dk_28 (dk_at dksX2_perch_0 8 rfl rfl)
theorem dX2_perch_9 : decode cX2_perch 9 = .ok (.i2l, 1) := dk_133 (dk_at dksX2_perch_0 9 rfl rfl)
theorem dX2_perch_10 : decode cX2_perch 10 = .ok (.lconst 0, 1) := dk_9 (dk_at dksX2_perch_0 10 rfl rfl)
theorem dX2_perch_11 : decode cX2_perch 11 = .ok (.ldc2_w 309, 3) := dk_20 1 53 (dk_at dksX2_perch_0 11 rfl rfl)
theorem dX2_perch_14 : decode cX2_perch 14 = .ok (.invokestatic 109, 3) := dk_184 0 109 (dk_at dksX2_perch_0 14 rfl rfl)
theorem dX2_perch_17 : decode cX2_perch 17 = .ok (.ifCond .ne 6, 3) := dk_154 0 6 (dk_at dksX2_perch_0 17 rfl rfl)
theorem dX2_perch_20 : decode cX2_perch 20 = .ok (.bipush (-2), 2) := dk_16 254 (dk_at dksX2_perch_0 20 rfl rfl)
theorem dX2_perch_22 : decode cX2_perch 22 = .ok (.ireturn, 1) := dk_172 (dk_at dksX2_perch_0 22 rfl rfl)
theorem dX2_perch_23 : decode cX2_perch 23 = .ok (.aload_n 0, 1) := dk_42 (dk_at dksX2_perch_0 23 rfl rfl)
theorem dX2_perch_24 : decode cX2_perch 24 = .ok (.getfield 7, 3) := dk_180 0 7 (dk_at dksX2_perch_1 0 rfl rfl)
theorem dX2_perch_27 : decode cX2_perch 27 = .ok (.bipush 12, 2) := dk_16 12 (dk_at dksX2_perch_1 3 rfl rfl)
theorem dX2_perch_29 : decode cX2_perch 29 = .ok (.iload_n 1, 1) := dk_27 (dk_at dksX2_perch_1 5 rfl rfl)
theorem dX2_perch_30 : decode cX2_perch 30 = .ok (.iadd, 1) := dk_96 (dk_at dksX2_perch_1 6 rfl rfl)
theorem dX2_perch_31 : decode cX2_perch 31 = .ok (.iaload, 1) := dk_46 (dk_at dksX2_perch_1 7 rfl rfl)
theorem dX2_perch_32 : decode cX2_perch 32 = .ok (.istore_n 3, 1) := dk_62 (dk_at dksX2_perch_1 8 rfl rfl)
theorem dX2_perch_33 : decode cX2_perch 33 = .ok (.iload_n 3, 1) := dk_29 (dk_at dksX2_perch_1 9 rfl rfl)
theorem dX2_perch_34 : decode cX2_perch 34 = .ok (.iload_n 2, 1) := dk_28 (dk_at dksX2_perch_1 10 rfl rfl)
theorem dX2_perch_35 : decode cX2_perch 35 = .ok (.if_icmp .ne 6, 3) := dk_160 0 6 (dk_at dksX2_perch_1 11 rfl rfl)
theorem dX2_perch_38 : decode cX2_perch 38 = .ok (.bipush (-4), 2) := dk_16 252 (dk_at dksX2_perch_1 14 rfl rfl)
theorem dX2_perch_40 : decode cX2_perch 40 = .ok (.ireturn, 1) := dk_172 (dk_at dksX2_perch_1 16 rfl rfl)
theorem dX2_perch_41 : decode cX2_perch 41 = .ok (.aload_n 0, 1) := dk_42 (dk_at dksX2_perch_1 17 rfl rfl)
theorem dX2_perch_42 : decode cX2_perch 42 = .ok (.invokevirtual 306, 3) := dk_182 1 50 (dk_at dksX2_perch_1 18 rfl rfl)
theorem dX2_perch_45 : decode cX2_perch 45 = .ok (.aload_n 0, 1) := dk_42 (dk_at dksX2_perch_1 21 rfl rfl)
theorem dX2_perch_46 : decode cX2_perch 46 = .ok (.getfield 7, 3) := dk_180 0 7 (dk_at dksX2_perch_2 0 rfl rfl)
theorem dX2_perch_49 : decode cX2_perch 49 = .ok (.bipush 12, 2) := dk_16 12 (dk_at dksX2_perch_2 3 rfl rfl)
theorem dX2_perch_51 : decode cX2_perch 51 = .ok (.iload_n 1, 1) := dk_27 (dk_at dksX2_perch_2 5 rfl rfl)
theorem dX2_perch_52 : decode cX2_perch 52 = .ok (.iadd, 1) := dk_96 (dk_at dksX2_perch_2 6 rfl rfl)
theorem dX2_perch_53 : decode cX2_perch 53 = .ok (.iload_n 2, 1) := dk_28 (dk_at dksX2_perch_2 7 rfl rfl)
theorem dX2_perch_54 : decode cX2_perch 54 = .ok (.iastore, 1) := dk_79 (dk_at dksX2_perch_2 8 rfl rfl)
theorem dX2_perch_55 : decode cX2_perch 55 = .ok (.iload_n 3, 1) := dk_29 (dk_at dksX2_perch_2 9 rfl rfl)
theorem dX2_perch_56 : decode cX2_perch 56 = .ok (.ireturn, 1) := dk_172 (dk_at dksX2_perch_2 10 rfl rfl)
abbrev cX2_cover : ByteArray := prog_18_method_62_code
def yX2_cover : MethodName := ⟨RX2, "cover", "(I)I"⟩
def dkwX2_cover_1 : List UInt8 := [120, 130, 79, 42, 180, 0, 7, 6, 46, 27, 122, 4, 126, 172]
abbrev dktX2_cover_1 : List UInt8 := dkwX2_cover_1 ++ []
def dkwX2_cover_0 : List UInt8 := [42, 27, 182, 0, 234, 154, 0, 6, 16, 254, 172, 42, 182, 1, 50, 42, 180, 0, 7, 6, 92, 46, 4, 27]
abbrev dktX2_cover_0 : List UInt8 := dkwX2_cover_0 ++ dktX2_cover_1
theorem dksX2_cover_0 : cX2_cover.data.toList.drop 0 = dktX2_cover_0 := by decide +kernel
theorem dksX2_cover_1 : cX2_cover.data.toList.drop 24 = dktX2_cover_1 := dk_seg dksX2_cover_0 24 rfl rfl
theorem dX2_cover_0 : decode cX2_cover 0 = .ok (.aload_n 0, 1) := dk_42 (dk_at dksX2_cover_0 0 rfl rfl)
theorem dX2_cover_1 : decode cX2_cover 1 = .ok (.iload_n 1, 1) := dk_27 (dk_at dksX2_cover_0 1 rfl rfl)
theorem dX2_cover_2 : decode cX2_cover 2 = .ok (.invokevirtual 234, 3) := dk_182 0 234 (dk_at dksX2_cover_0 2 rfl rfl)
theorem dX2_cover_5 : decode cX2_cover 5 = .ok (.ifCond .ne 6, 3) := dk_154 0 6 (dk_at dksX2_cover_0 5 rfl rfl)
theorem dX2_cover_8 : decode cX2_cover 8 = .ok (.bipush (-2), 2) := dk_16 254 (dk_at dksX2_cover_0 8 rfl rfl)
theorem dX2_cover_10 : decode cX2_cover 10 = .ok (.ireturn, 1) := dk_172 (dk_at dksX2_cover_0 10 rfl rfl)
theorem dX2_cover_11 : decode cX2_cover 11 = .ok (.aload_n 0, 1) := dk_42 (dk_at dksX2_cover_0 11 rfl rfl)
theorem dX2_cover_12 : decode cX2_cover 12 = .ok (.invokevirtual 306, 3) := dk_182 1 50 (dk_at dksX2_cover_0 12 rfl rfl)
theorem dX2_cover_15 : decode cX2_cover 15 = .ok (.aload_n 0, 1) := dk_42 (dk_at dksX2_cover_0 15 rfl rfl)
theorem dX2_cover_16 : decode cX2_cover 16 = .ok (.getfield 7, 3) := dk_180 0 7 (dk_at dksX2_cover_0 16 rfl rfl)
theorem dX2_cover_19 : decode cX2_cover 19 = .ok (.iconst 3, 1) := dk_6 (dk_at dksX2_cover_0 19 rfl rfl)
theorem dX2_cover_20 : decode cX2_cover 20 = .ok (.dup2, 1) := dk_92 (dk_at dksX2_cover_0 20 rfl rfl)
theorem dX2_cover_21 : decode cX2_cover 21 = .ok (.iaload, 1) := dk_46 (dk_at dksX2_cover_0 21 rfl rfl)
theorem dX2_cover_22 : decode cX2_cover 22 = .ok (.iconst 1, 1) := dk_4 (dk_at dksX2_cover_0 22 rfl rfl)
theorem dX2_cover_23 : decode cX2_cover 23 = .ok (.iload_n 1, 1) := dk_27 (dk_at dksX2_cover_0 23 rfl rfl)
theorem dX2_cover_24 : decode cX2_cover 24 = .ok (.ishl, 1) := dk_120 (dk_at dksX2_cover_1 0 rfl rfl)
theorem dX2_cover_25 : decode cX2_cover 25 = .ok (.ixor, 1) := dk_130 (dk_at dksX2_cover_1 1 rfl rfl)
theorem dX2_cover_26 : decode cX2_cover 26 = .ok (.iastore, 1) := dk_79 (dk_at dksX2_cover_1 2 rfl rfl)
theorem dX2_cover_27 : decode cX2_cover 27 = .ok (.aload_n 0, 1) := dk_42 (dk_at dksX2_cover_1 3 rfl rfl)
theorem dX2_cover_28 : decode cX2_cover 28 = .ok (.getfield 7, 3) := dk_180 0 7 (dk_at dksX2_cover_1 4 rfl rfl)
theorem dX2_cover_31 : decode cX2_cover 31 = .ok (.iconst 3, 1) := dk_6 (dk_at dksX2_cover_1 7 rfl rfl)
theorem dX2_cover_32 : decode cX2_cover 32 = .ok (.iaload, 1) := dk_46 (dk_at dksX2_cover_1 8 rfl rfl)
theorem dX2_cover_33 : decode cX2_cover 33 = .ok (.iload_n 1, 1) := dk_27 (dk_at dksX2_cover_1 9 rfl rfl)
theorem dX2_cover_34 : decode cX2_cover 34 = .ok (.ishr, 1) := dk_122 (dk_at dksX2_cover_1 10 rfl rfl)
theorem dX2_cover_35 : decode cX2_cover 35 = .ok (.iconst 1, 1) := dk_4 (dk_at dksX2_cover_1 11 rfl rfl)
theorem dX2_cover_36 : decode cX2_cover 36 = .ok (.iand, 1) := dk_126 (dk_at dksX2_cover_1 12 rfl rfl)
theorem dX2_cover_37 : decode cX2_cover 37 = .ok (.ireturn, 1) := dk_172 (dk_at dksX2_cover_1 13 rfl rfl)
abbrev cX2_sit : ByteArray := prog_18_method_64_code
def yX2_sit : MethodName := ⟨RX2, "sit", "(II)I"⟩
def dkwX2_sit_2 : List UInt8 := [27, 28, 182, 1, 55, 29, 172]
abbrev dktX2_sit_2 : List UInt8 := dkwX2_sit_2 ++ []
def dkwX2_sit_1 : List UInt8 := [42, 180, 0, 7, 16, 104, 27, 96, 46, 62, 29, 28, 160, 0, 6, 16, 252, 172, 42, 182, 1, 50, 42, 3]
abbrev dktX2_sit_1 : List UInt8 := dkwX2_sit_1 ++ dktX2_sit_2
def dkwX2_sit_0 : List UInt8 := [42, 27, 182, 0, 244, 153, 0, 16, 28, 2, 159, 0, 14, 42, 28, 182, 0, 234, 154, 0, 6, 16, 254, 172]
abbrev dktX2_sit_0 : List UInt8 := dkwX2_sit_0 ++ dktX2_sit_1
theorem dksX2_sit_0 : cX2_sit.data.toList.drop 0 = dktX2_sit_0 := by decide +kernel
theorem dksX2_sit_1 : cX2_sit.data.toList.drop 24 = dktX2_sit_1 := dk_seg dksX2_sit_0 24 rfl rfl
theorem dksX2_sit_2 : cX2_sit.data.toList.drop 48 = dktX2_sit_2 := dk_seg dksX2_sit_1 24 rfl rfl
theorem dX2_sit_0 : decode cX2_sit 0 = .ok (.aload_n 0, 1) := dk_42 (dk_at dksX2_sit_0 0 rfl rfl)
theorem dX2_sit_1 : decode cX2_sit 1 = .ok (.iload_n 1, 1) := dk_27 (dk_at dksX2_sit_0 1 rfl rfl)
theorem dX2_sit_2 : decode cX2_sit 2 = .ok (.invokevirtual 244, 3) := dk_182 0 244 (dk_at dksX2_sit_0 2 rfl rfl)
theorem dX2_sit_5 : decode cX2_sit 5 = .ok (.ifCond .eq 16, 3) := dk_153 0 16 (dk_at dksX2_sit_0 5 rfl rfl)
theorem dX2_sit_8 : decode cX2_sit 8 = .ok (.iload_n 2, 1) := dk_28 (dk_at dksX2_sit_0 8 rfl rfl)
theorem dX2_sit_9 : decode cX2_sit 9 = .ok (.iconst (-1), 1) := dk_2 (dk_at dksX2_sit_0 9 rfl rfl)
theorem dX2_sit_10 : decode cX2_sit 10 = .ok (.if_icmp .eq 14, 3) := dk_159 0 14 (dk_at dksX2_sit_0 10 rfl rfl)
theorem dX2_sit_13 : decode cX2_sit 13 = .ok (.aload_n 0, 1) := dk_42 (dk_at dksX2_sit_0 13 rfl rfl)
theorem dX2_sit_14 : decode cX2_sit 14 = .ok (.iload_n 2, 1) := dk_28 (dk_at dksX2_sit_0 14 rfl rfl)
theorem dX2_sit_15 : decode cX2_sit 15 = .ok (.invokevirtual 234, 3) := dk_182 0 234 (dk_at dksX2_sit_0 15 rfl rfl)
theorem dX2_sit_18 : decode cX2_sit 18 = .ok (.ifCond .ne 6, 3) := dk_154 0 6 (dk_at dksX2_sit_0 18 rfl rfl)
theorem dX2_sit_21 : decode cX2_sit 21 = .ok (.bipush (-2), 2) := dk_16 254 (dk_at dksX2_sit_0 21 rfl rfl)
theorem dX2_sit_23 : decode cX2_sit 23 = .ok (.ireturn, 1) := dk_172 (dk_at dksX2_sit_0 23 rfl rfl)
theorem dX2_sit_24 : decode cX2_sit 24 = .ok (.aload_n 0, 1) := dk_42 (dk_at dksX2_sit_1 0 rfl rfl)
theorem dX2_sit_25 : decode cX2_sit 25 = .ok (.getfield 7, 3) := dk_180 0 7 (dk_at dksX2_sit_1 1 rfl rfl)
theorem dX2_sit_28 : decode cX2_sit 28 = .ok (.bipush 104, 2) := dk_16 104 (dk_at dksX2_sit_1 4 rfl rfl)
theorem dX2_sit_30 : decode cX2_sit 30 = .ok (.iload_n 1, 1) := dk_27 (dk_at dksX2_sit_1 6 rfl rfl)
theorem dX2_sit_31 : decode cX2_sit 31 = .ok (.iadd, 1) := dk_96 (dk_at dksX2_sit_1 7 rfl rfl)
theorem dX2_sit_32 : decode cX2_sit 32 = .ok (.iaload, 1) := dk_46 (dk_at dksX2_sit_1 8 rfl rfl)
theorem dX2_sit_33 : decode cX2_sit 33 = .ok (.istore_n 3, 1) := dk_62 (dk_at dksX2_sit_1 9 rfl rfl)
theorem dX2_sit_34 : decode cX2_sit 34 = .ok (.iload_n 3, 1) := dk_29 (dk_at dksX2_sit_1 10 rfl rfl)
theorem dX2_sit_35 : decode cX2_sit 35 = .ok (.iload_n 2, 1) := dk_28 (dk_at dksX2_sit_1 11 rfl rfl)
theorem dX2_sit_36 : decode cX2_sit 36 = .ok (.if_icmp .ne 6, 3) := dk_160 0 6 (dk_at dksX2_sit_1 12 rfl rfl)
theorem dX2_sit_39 : decode cX2_sit 39 = .ok (.bipush (-4), 2) := dk_16 252 (dk_at dksX2_sit_1 15 rfl rfl)
theorem dX2_sit_41 : decode cX2_sit 41 = .ok (.ireturn, 1) := dk_172 (dk_at dksX2_sit_1 17 rfl rfl)
theorem dX2_sit_42 : decode cX2_sit 42 = .ok (.aload_n 0, 1) := dk_42 (dk_at dksX2_sit_1 18 rfl rfl)
theorem dX2_sit_43 : decode cX2_sit 43 = .ok (.invokevirtual 306, 3) := dk_182 1 50 (dk_at dksX2_sit_1 19 rfl rfl)
theorem dX2_sit_46 : decode cX2_sit 46 = .ok (.aload_n 0, 1) := dk_42 (dk_at dksX2_sit_1 22 rfl rfl)
theorem dX2_sit_47 : decode cX2_sit 47 = .ok (.iconst 0, 1) := dk_3 (dk_at dksX2_sit_1 23 rfl rfl)
theorem dX2_sit_48 : decode cX2_sit 48 = .ok (.iload_n 1, 1) := dk_27 (dk_at dksX2_sit_2 0 rfl rfl)
theorem dX2_sit_49 : decode cX2_sit 49 = .ok (.iload_n 2, 1) := dk_28 (dk_at dksX2_sit_2 1 rfl rfl)
theorem dX2_sit_50 : decode cX2_sit 50 = .ok (.invokevirtual 311, 3) := dk_182 1 55 (dk_at dksX2_sit_2 2 rfl rfl)
theorem dX2_sit_53 : decode cX2_sit 53 = .ok (.iload_n 3, 1) := dk_29 (dk_at dksX2_sit_2 5 rfl rfl)
theorem dX2_sit_54 : decode cX2_sit 54 = .ok (.ireturn, 1) := dk_172 (dk_at dksX2_sit_2 6 rfl rfl)
abbrev cX2_sets : ByteArray := prog_18_method_63_code
def yX2_sets : MethodName := ⟨RX2, "sets", "(III)V"⟩
def dkwX2_sets_3 : List UInt8 := [180, 0, 7, 27, 16, 104, 96, 28, 96, 29, 79, 177]
abbrev dktX2_sets_3 : List UInt8 := dkwX2_sets_3 ++ []
def dkwX2_sets_2 : List UInt8 := [2, 167, 0, 15, 42, 180, 0, 7, 27, 16, 104, 96, 21, 4, 96, 46, 79, 132, 4, 1, 167, 255, 191, 42]
abbrev dktX2_sets_2 : List UInt8 := dkwX2_sets_2 ++ dktX2_sets_3
def dkwX2_sets_1 : List UInt8 := [21, 4, 96, 29, 2, 159, 0, 23, 42, 180, 0, 7, 27, 16, 104, 96, 21, 4, 96, 46, 29, 160, 0, 7]
abbrev dktX2_sets_1 : List UInt8 := dkwX2_sets_1 ++ dktX2_sets_2
def dkwX2_sets_0 : List UInt8 := [3, 54, 4, 21, 4, 42, 180, 0, 7, 27, 4, 96, 46, 162, 0, 58, 42, 180, 0, 7, 27, 16, 104, 96]
abbrev dktX2_sets_0 : List UInt8 := dkwX2_sets_0 ++ dktX2_sets_1
theorem dksX2_sets_0 : cX2_sets.data.toList.drop 0 = dktX2_sets_0 := by decide +kernel
theorem dksX2_sets_1 : cX2_sets.data.toList.drop 24 = dktX2_sets_1 := dk_seg dksX2_sets_0 24 rfl rfl
theorem dksX2_sets_2 : cX2_sets.data.toList.drop 48 = dktX2_sets_2 := dk_seg dksX2_sets_1 24 rfl rfl
theorem dksX2_sets_3 : cX2_sets.data.toList.drop 72 = dktX2_sets_3 := dk_seg dksX2_sets_2 24 rfl rfl
theorem dX2_sets_0 : decode cX2_sets 0 = .ok (.iconst 0, 1) := dk_3 (dk_at dksX2_sets_0 0 rfl rfl)
theorem dX2_sets_1 : decode cX2_sets 1 = .ok (.istore 4, 2) := dk_54 4 (dk_at dksX2_sets_0 1 rfl rfl)
theorem dX2_sets_3 : decode cX2_sets 3 = .ok (.iload 4, 2) := dk_21 4 (dk_at dksX2_sets_0 3 rfl rfl)
theorem dX2_sets_5 : decode cX2_sets 5 = .ok (.aload_n 0, 1) := dk_42 (dk_at dksX2_sets_0 5 rfl rfl)
theorem dX2_sets_6 : decode cX2_sets 6 = .ok (.getfield 7, 3) := dk_180 0 7 (dk_at dksX2_sets_0 6 rfl rfl)
theorem dX2_sets_9 : decode cX2_sets 9 = .ok (.iload_n 1, 1) := dk_27 (dk_at dksX2_sets_0 9 rfl rfl)
theorem dX2_sets_10 : decode cX2_sets 10 = .ok (.iconst 1, 1) := dk_4 (dk_at dksX2_sets_0 10 rfl rfl)
theorem dX2_sets_11 : decode cX2_sets 11 = .ok (.iadd, 1) := dk_96 (dk_at dksX2_sets_0 11 rfl rfl)
theorem dX2_sets_12 : decode cX2_sets 12 = .ok (.iaload, 1) := dk_46 (dk_at dksX2_sets_0 12 rfl rfl)
theorem dX2_sets_13 : decode cX2_sets 13 = .ok (.if_icmp .ge 58, 3) := dk_162 0 58 (dk_at dksX2_sets_0 13 rfl rfl)
theorem dX2_sets_16 : decode cX2_sets 16 = .ok (.aload_n 0, 1) := dk_42 (dk_at dksX2_sets_0 16 rfl rfl)
theorem dX2_sets_17 : decode cX2_sets 17 = .ok (.getfield 7, 3) := dk_180 0 7 (dk_at dksX2_sets_0 17 rfl rfl)
theorem dX2_sets_20 : decode cX2_sets 20 = .ok (.iload_n 1, 1) := dk_27 (dk_at dksX2_sets_0 20 rfl rfl)
theorem dX2_sets_21 : decode cX2_sets 21 = .ok (.bipush 104, 2) := dk_16 104 (dk_at dksX2_sets_0 21 rfl rfl)
theorem dX2_sets_23 : decode cX2_sets 23 = .ok (.iadd, 1) := dk_96 (dk_at dksX2_sets_0 23 rfl rfl)
theorem dX2_sets_24 : decode cX2_sets 24 = .ok (.iload 4, 2) := dk_21 4 (dk_at dksX2_sets_1 0 rfl rfl)
theorem dX2_sets_26 : decode cX2_sets 26 = .ok (.iadd, 1) := dk_96 (dk_at dksX2_sets_1 2 rfl rfl)
theorem dX2_sets_27 : decode cX2_sets 27 = .ok (.iload_n 3, 1) := dk_29 (dk_at dksX2_sets_1 3 rfl rfl)
theorem dX2_sets_28 : decode cX2_sets 28 = .ok (.iconst (-1), 1) := dk_2 (dk_at dksX2_sets_1 4 rfl rfl)
theorem dX2_sets_29 : decode cX2_sets 29 = .ok (.if_icmp .eq 23, 3) := dk_159 0 23 (dk_at dksX2_sets_1 5 rfl rfl)
theorem dX2_sets_32 : decode cX2_sets 32 = .ok (.aload_n 0, 1) := dk_42 (dk_at dksX2_sets_1 8 rfl rfl)
theorem dX2_sets_33 : decode cX2_sets 33 = .ok (.getfield 7, 3) := dk_180 0 7 (dk_at dksX2_sets_1 9 rfl rfl)
theorem dX2_sets_36 : decode cX2_sets 36 = .ok (.iload_n 1, 1) := dk_27 (dk_at dksX2_sets_1 12 rfl rfl)
theorem dX2_sets_37 : decode cX2_sets 37 = .ok (.bipush 104, 2) := dk_16 104 (dk_at dksX2_sets_1 13 rfl rfl)
theorem dX2_sets_39 : decode cX2_sets 39 = .ok (.iadd, 1) := dk_96 (dk_at dksX2_sets_1 15 rfl rfl)
theorem dX2_sets_40 : decode cX2_sets 40 = .ok (.iload 4, 2) := dk_21 4 (dk_at dksX2_sets_1 16 rfl rfl)
theorem dX2_sets_42 : decode cX2_sets 42 = .ok (.iadd, 1) := dk_96 (dk_at dksX2_sets_1 18 rfl rfl)
theorem dX2_sets_43 : decode cX2_sets 43 = .ok (.iaload, 1) := dk_46 (dk_at dksX2_sets_1 19 rfl rfl)
theorem dX2_sets_44 : decode cX2_sets 44 = .ok (.iload_n 3, 1) := dk_29 (dk_at dksX2_sets_1 20 rfl rfl)
theorem dX2_sets_45 : decode cX2_sets 45 = .ok (.if_icmp .ne 7, 3) := dk_160 0 7 (dk_at dksX2_sets_1 21 rfl rfl)
theorem dX2_sets_48 : decode cX2_sets 48 = .ok (.iconst (-1), 1) := dk_2 (dk_at dksX2_sets_2 0 rfl rfl)
theorem dX2_sets_49 : decode cX2_sets 49 = .ok (.goto 15, 3) := dk_167 0 15 (dk_at dksX2_sets_2 1 rfl rfl)
theorem dX2_sets_52 : decode cX2_sets 52 = .ok (.aload_n 0, 1) := dk_42 (dk_at dksX2_sets_2 4 rfl rfl)
theorem dX2_sets_53 : decode cX2_sets 53 = .ok (.getfield 7, 3) := dk_180 0 7 (dk_at dksX2_sets_2 5 rfl rfl)
theorem dX2_sets_56 : decode cX2_sets 56 = .ok (.iload_n 1, 1) := dk_27 (dk_at dksX2_sets_2 8 rfl rfl)
theorem dX2_sets_57 : decode cX2_sets 57 = .ok (.bipush 104, 2) := dk_16 104 (dk_at dksX2_sets_2 9 rfl rfl)
theorem dX2_sets_59 : decode cX2_sets 59 = .ok (.iadd, 1) := dk_96 (dk_at dksX2_sets_2 11 rfl rfl)
theorem dX2_sets_60 : decode cX2_sets 60 = .ok (.iload 4, 2) := dk_21 4 (dk_at dksX2_sets_2 12 rfl rfl)
theorem dX2_sets_62 : decode cX2_sets 62 = .ok (.iadd, 1) := dk_96 (dk_at dksX2_sets_2 14 rfl rfl)
theorem dX2_sets_63 : decode cX2_sets 63 = .ok (.iaload, 1) := dk_46 (dk_at dksX2_sets_2 15 rfl rfl)
theorem dX2_sets_64 : decode cX2_sets 64 = .ok (.iastore, 1) := dk_79 (dk_at dksX2_sets_2 16 rfl rfl)
theorem dX2_sets_65 : decode cX2_sets 65 = .ok (.iinc 4 1, 3) := dk_132 4 1 (dk_at dksX2_sets_2 17 rfl rfl)
theorem dX2_sets_68 : decode cX2_sets 68 = .ok (.goto (-65), 3) := dk_167 255 191 (dk_at dksX2_sets_2 20 rfl rfl)
theorem dX2_sets_71 : decode cX2_sets 71 = .ok (.aload_n 0, 1) := dk_42 (dk_at dksX2_sets_2 23 rfl rfl)
theorem dX2_sets_72 : decode cX2_sets 72 = .ok (.getfield 7, 3) := dk_180 0 7 (dk_at dksX2_sets_3 0 rfl rfl)
theorem dX2_sets_75 : decode cX2_sets 75 = .ok (.iload_n 1, 1) := dk_27 (dk_at dksX2_sets_3 3 rfl rfl)
theorem dX2_sets_76 : decode cX2_sets 76 = .ok (.bipush 104, 2) := dk_16 104 (dk_at dksX2_sets_3 4 rfl rfl)
theorem dX2_sets_78 : decode cX2_sets 78 = .ok (.iadd, 1) := dk_96 (dk_at dksX2_sets_3 6 rfl rfl)
theorem dX2_sets_79 : decode cX2_sets 79 = .ok (.iload_n 2, 1) := dk_28 (dk_at dksX2_sets_3 7 rfl rfl)
theorem dX2_sets_80 : decode cX2_sets 80 = .ok (.iadd, 1) := dk_96 (dk_at dksX2_sets_3 8 rfl rfl)
theorem dX2_sets_81 : decode cX2_sets 81 = .ok (.iload_n 3, 1) := dk_29 (dk_at dksX2_sets_3 9 rfl rfl)
theorem dX2_sets_82 : decode cX2_sets 82 = .ok (.iastore, 1) := dk_79 (dk_at dksX2_sets_3 10 rfl rfl)
theorem dX2_sets_83 : decode cX2_sets 83 = .ok (.return_, 1) := dk_177 (dk_at dksX2_sets_3 11 rfl rfl)
abbrev cX2_undo : ByteArray := prog_18_method_65_code
def yX2_undo : MethodName := ⟨RX2, "undo", "()I"⟩
def dkwX2_undo_1 : List UInt8 := [16, 108, 42, 180, 0, 206, 104, 96, 3, 182, 0, 202, 42, 180, 0, 206, 172]
abbrev dktX2_undo_1 : List UInt8 := dkwX2_undo_1 ++ []
def dkwX2_undo_0 : List UInt8 := [42, 180, 0, 206, 154, 0, 6, 16, 252, 172, 42, 89, 180, 0, 206, 4, 100, 181, 0, 206, 42, 17, 0, 216]
abbrev dktX2_undo_0 : List UInt8 := dkwX2_undo_0 ++ dktX2_undo_1
theorem dksX2_undo_0 : cX2_undo.data.toList.drop 0 = dktX2_undo_0 := by decide +kernel
theorem dksX2_undo_1 : cX2_undo.data.toList.drop 24 = dktX2_undo_1 := dk_seg dksX2_undo_0 24 rfl rfl
theorem dX2_undo_0 : decode cX2_undo 0 = .ok (.aload_n 0, 1) := dk_42 (dk_at dksX2_undo_0 0 rfl rfl)
theorem dX2_undo_1 : decode cX2_undo 1 = .ok (.getfield 206, 3) := dk_180 0 206 (dk_at dksX2_undo_0 1 rfl rfl)
theorem dX2_undo_4 : decode cX2_undo 4 = .ok (.ifCond .ne 6, 3) := dk_154 0 6 (dk_at dksX2_undo_0 4 rfl rfl)
theorem dX2_undo_7 : decode cX2_undo 7 = .ok (.bipush (-4), 2) := dk_16 252 (dk_at dksX2_undo_0 7 rfl rfl)
theorem dX2_undo_9 : decode cX2_undo 9 = .ok (.ireturn, 1) := dk_172 (dk_at dksX2_undo_0 9 rfl rfl)
theorem dX2_undo_10 : decode cX2_undo 10 = .ok (.aload_n 0, 1) := dk_42 (dk_at dksX2_undo_0 10 rfl rfl)
theorem dX2_undo_11 : decode cX2_undo 11 = .ok (.dup, 1) := dk_89 (dk_at dksX2_undo_0 11 rfl rfl)
theorem dX2_undo_12 : decode cX2_undo 12 = .ok (.getfield 206, 3) := dk_180 0 206 (dk_at dksX2_undo_0 12 rfl rfl)
theorem dX2_undo_15 : decode cX2_undo 15 = .ok (.iconst 1, 1) := dk_4 (dk_at dksX2_undo_0 15 rfl rfl)
theorem dX2_undo_16 : decode cX2_undo 16 = .ok (.isub, 1) := dk_100 (dk_at dksX2_undo_0 16 rfl rfl)
theorem dX2_undo_17 : decode cX2_undo 17 = .ok (.putfield 206, 3) := dk_181 0 206 (dk_at dksX2_undo_0 17 rfl rfl)
theorem dX2_undo_20 : decode cX2_undo 20 = .ok (.aload_n 0, 1) := dk_42 (dk_at dksX2_undo_0 20 rfl rfl)
theorem dX2_undo_21 : decode cX2_undo 21 = .ok (.sipush 216, 3) := dk_17 0 216 (dk_at dksX2_undo_0 21 rfl rfl)
theorem dX2_undo_24 : decode cX2_undo 24 = .ok (.bipush 108, 2) := dk_16 108 (dk_at dksX2_undo_1 0 rfl rfl)
theorem dX2_undo_26 : decode cX2_undo 26 = .ok (.aload_n 0, 1) := dk_42 (dk_at dksX2_undo_1 2 rfl rfl)
theorem dX2_undo_27 : decode cX2_undo 27 = .ok (.getfield 206, 3) := dk_180 0 206 (dk_at dksX2_undo_1 3 rfl rfl)
theorem dX2_undo_30 : decode cX2_undo 30 = .ok (.imul, 1) := dk_104 (dk_at dksX2_undo_1 6 rfl rfl)
theorem dX2_undo_31 : decode cX2_undo 31 = .ok (.iadd, 1) := dk_96 (dk_at dksX2_undo_1 7 rfl rfl)
theorem dX2_undo_32 : decode cX2_undo 32 = .ok (.iconst 0, 1) := dk_3 (dk_at dksX2_undo_1 8 rfl rfl)
theorem dX2_undo_33 : decode cX2_undo 33 = .ok (.invokevirtual 202, 3) := dk_182 0 202 (dk_at dksX2_undo_1 9 rfl rfl)
theorem dX2_undo_36 : decode cX2_undo 36 = .ok (.aload_n 0, 1) := dk_42 (dk_at dksX2_undo_1 12 rfl rfl)
theorem dX2_undo_37 : decode cX2_undo 37 = .ok (.getfield 206, 3) := dk_180 0 206 (dk_at dksX2_undo_1 13 rfl rfl)
theorem dX2_undo_40 : decode cX2_undo 40 = .ok (.ireturn, 1) := dk_172 (dk_at dksX2_undo_1 16 rfl rfl)
abbrev cX2_keep : ByteArray := prog_18_method_66_code
def yX2_keep : MethodName := ⟨RX2, "keep", "(I)I"⟩
def dkwX2_keep_1 : List UInt8 := [182, 0, 202, 42, 180, 0, 13, 27, 4, 84, 42, 180, 0, 7, 5, 46, 172]
abbrev dktX2_keep_1 : List UInt8 := dkwX2_keep_1 ++ []
def dkwX2_keep_0 : List UInt8 := [27, 133, 9, 10, 184, 0, 109, 154, 0, 6, 16, 254, 172, 42, 3, 17, 4, 56, 16, 108, 27, 104, 96]
abbrev dktX2_keep_0 : List UInt8 := dkwX2_keep_0 ++ dktX2_keep_1
theorem dksX2_keep_0 : cX2_keep.data.toList.drop 0 = dktX2_keep_0 := by decide +kernel
theorem dksX2_keep_1 : cX2_keep.data.toList.drop 23 = dktX2_keep_1 := dk_seg dksX2_keep_0 23 rfl rfl
theorem dX2_keep_0 : decode cX2_keep 0 = .ok (.iload_n 1, 1) := dk_27 (dk_at dksX2_keep_0 0 rfl rfl)
theorem dX2_keep_1 : decode cX2_keep 1 = .ok (.i2l, 1) := dk_133 (dk_at dksX2_keep_0 1 rfl rfl)
theorem dX2_keep_2 : decode cX2_keep 2 = .ok (.lconst 0, 1) := dk_9 (dk_at dksX2_keep_0 2 rfl rfl)
theorem dX2_keep_3 : decode cX2_keep 3 = .ok (.lconst 1, 1) := dk_10 (dk_at dksX2_keep_0 3 rfl rfl)
theorem dX2_keep_4 : decode cX2_keep 4 = .ok (.invokestatic 109, 3) := dk_184 0 109 (dk_at dksX2_keep_0 4 rfl rfl)
theorem dX2_keep_7 : decode cX2_keep 7 = .ok (.ifCond .ne 6, 3) := dk_154 0 6 (dk_at dksX2_keep_0 7 rfl rfl)
theorem dX2_keep_10 : decode cX2_keep 10 = .ok (.bipush (-2), 2) := dk_16 254 (dk_at dksX2_keep_0 10 rfl rfl)
theorem dX2_keep_12 : decode cX2_keep 12 = .ok (.ireturn, 1) := dk_172 (dk_at dksX2_keep_0 12 rfl rfl)
theorem dX2_keep_13 : decode cX2_keep 13 = .ok (.aload_n 0, 1) := dk_42 (dk_at dksX2_keep_0 13 rfl rfl)
theorem dX2_keep_14 : decode cX2_keep 14 = .ok (.iconst 0, 1) := dk_3 (dk_at dksX2_keep_0 14 rfl rfl)
theorem dX2_keep_15 : decode cX2_keep 15 = .ok (.sipush 1080, 3) := dk_17 4 56 (dk_at dksX2_keep_0 15 rfl rfl)
theorem dX2_keep_18 : decode cX2_keep 18 = .ok (.bipush 108, 2) := dk_16 108 (dk_at dksX2_keep_0 18 rfl rfl)
theorem dX2_keep_20 : decode cX2_keep 20 = .ok (.iload_n 1, 1) := dk_27 (dk_at dksX2_keep_0 20 rfl rfl)
theorem dX2_keep_21 : decode cX2_keep 21 = .ok (.imul, 1) := dk_104 (dk_at dksX2_keep_0 21 rfl rfl)
theorem dX2_keep_22 : decode cX2_keep 22 = .ok (.iadd, 1) := dk_96 (dk_at dksX2_keep_0 22 rfl rfl)
theorem dX2_keep_23 : decode cX2_keep 23 = .ok (.invokevirtual 202, 3) := dk_182 0 202 (dk_at dksX2_keep_1 0 rfl rfl)
theorem dX2_keep_26 : decode cX2_keep 26 = .ok (.aload_n 0, 1) := dk_42 (dk_at dksX2_keep_1 3 rfl rfl)
theorem dX2_keep_27 : decode cX2_keep 27 = .ok (.getfield 13, 3) := dk_180 0 13 (dk_at dksX2_keep_1 4 rfl rfl)
theorem dX2_keep_30 : decode cX2_keep 30 = .ok (.iload_n 1, 1) := dk_27 (dk_at dksX2_keep_1 7 rfl rfl)
theorem dX2_keep_31 : decode cX2_keep 31 = .ok (.iconst 1, 1) := dk_4 (dk_at dksX2_keep_1 8 rfl rfl)
theorem dX2_keep_32 : decode cX2_keep 32 = .ok (.bastore, 1) := dk_84 (dk_at dksX2_keep_1 9 rfl rfl)
theorem dX2_keep_33 : decode cX2_keep 33 = .ok (.aload_n 0, 1) := dk_42 (dk_at dksX2_keep_1 10 rfl rfl)
theorem dX2_keep_34 : decode cX2_keep 34 = .ok (.getfield 7, 3) := dk_180 0 7 (dk_at dksX2_keep_1 11 rfl rfl)
theorem dX2_keep_37 : decode cX2_keep 37 = .ok (.iconst 2, 1) := dk_5 (dk_at dksX2_keep_1 14 rfl rfl)
theorem dX2_keep_38 : decode cX2_keep 38 = .ok (.iaload, 1) := dk_46 (dk_at dksX2_keep_1 15 rfl rfl)
theorem dX2_keep_39 : decode cX2_keep 39 = .ok (.ireturn, 1) := dk_172 (dk_at dksX2_keep_1 16 rfl rfl)
abbrev cX2_back : ByteArray := prog_18_method_67_code
def yX2_back : MethodName := ⟨RX2, "back", "(I)I"⟩
def dkwX2_back_2 : List UInt8 := [46, 172]
abbrev dktX2_back_2 : List UInt8 := dkwX2_back_2 ++ []
def dkwX2_back_1 : List UInt8 := [172, 42, 17, 4, 56, 16, 108, 27, 104, 96, 3, 182, 0, 202, 42, 3, 181, 0, 206, 42, 180, 0, 7, 5]
abbrev dktX2_back_1 : List UInt8 := dkwX2_back_1 ++ dktX2_back_2
def dkwX2_back_0 : List UInt8 := [27, 133, 9, 10, 184, 0, 109, 154, 0, 6, 16, 254, 172, 42, 180, 0, 13, 27, 51, 154, 0, 6, 16, 252]
abbrev dktX2_back_0 : List UInt8 := dkwX2_back_0 ++ dktX2_back_1
theorem dksX2_back_0 : cX2_back.data.toList.drop 0 = dktX2_back_0 := by decide +kernel
theorem dksX2_back_1 : cX2_back.data.toList.drop 24 = dktX2_back_1 := dk_seg dksX2_back_0 24 rfl rfl
theorem dksX2_back_2 : cX2_back.data.toList.drop 48 = dktX2_back_2 := dk_seg dksX2_back_1 24 rfl rfl
theorem dX2_back_0 : decode cX2_back 0 = .ok (.iload_n 1, 1) := dk_27 (dk_at dksX2_back_0 0 rfl rfl)
theorem dX2_back_1 : decode cX2_back 1 = .ok (.i2l, 1) := dk_133 (dk_at dksX2_back_0 1 rfl rfl)
theorem dX2_back_2 : decode cX2_back 2 = .ok (.lconst 0, 1) := dk_9 (dk_at dksX2_back_0 2 rfl rfl)
theorem dX2_back_3 : decode cX2_back 3 = .ok (.lconst 1, 1) := dk_10 (dk_at dksX2_back_0 3 rfl rfl)
theorem dX2_back_4 : decode cX2_back 4 = .ok (.invokestatic 109, 3) := dk_184 0 109 (dk_at dksX2_back_0 4 rfl rfl)
theorem dX2_back_7 : decode cX2_back 7 = .ok (.ifCond .ne 6, 3) := dk_154 0 6 (dk_at dksX2_back_0 7 rfl rfl)
theorem dX2_back_10 : decode cX2_back 10 = .ok (.bipush (-2), 2) := dk_16 254 (dk_at dksX2_back_0 10 rfl rfl)
theorem dX2_back_12 : decode cX2_back 12 = .ok (.ireturn, 1) := dk_172 (dk_at dksX2_back_0 12 rfl rfl)
theorem dX2_back_13 : decode cX2_back 13 = .ok (.aload_n 0, 1) := dk_42 (dk_at dksX2_back_0 13 rfl rfl)
theorem dX2_back_14 : decode cX2_back 14 = .ok (.getfield 13, 3) := dk_180 0 13 (dk_at dksX2_back_0 14 rfl rfl)
theorem dX2_back_17 : decode cX2_back 17 = .ok (.iload_n 1, 1) := dk_27 (dk_at dksX2_back_0 17 rfl rfl)
theorem dX2_back_18 : decode cX2_back 18 = .ok (.baload, 1) := dk_51 (dk_at dksX2_back_0 18 rfl rfl)
theorem dX2_back_19 : decode cX2_back 19 = .ok (.ifCond .ne 6, 3) := dk_154 0 6 (dk_at dksX2_back_0 19 rfl rfl)
theorem dX2_back_22 : decode cX2_back 22 = .ok (.bipush (-4), 2) := dk_16 252 (dk_at dksX2_back_0 22 rfl rfl)
theorem dX2_back_24 : decode cX2_back 24 = .ok (.ireturn, 1) := dk_172 (dk_at dksX2_back_1 0 rfl rfl)
theorem dX2_back_25 : decode cX2_back 25 = .ok (.aload_n 0, 1) := dk_42 (dk_at dksX2_back_1 1 rfl rfl)
theorem dX2_back_26 : decode cX2_back 26 = .ok (.sipush 1080, 3) := dk_17 4 56 (dk_at dksX2_back_1 2 rfl rfl)
theorem dX2_back_29 : decode cX2_back 29 = .ok (.bipush 108, 2) := dk_16 108 (dk_at dksX2_back_1 5 rfl rfl)
theorem dX2_back_31 : decode cX2_back 31 = .ok (.iload_n 1, 1) := dk_27 (dk_at dksX2_back_1 7 rfl rfl)
theorem dX2_back_32 : decode cX2_back 32 = .ok (.imul, 1) := dk_104 (dk_at dksX2_back_1 8 rfl rfl)
theorem dX2_back_33 : decode cX2_back 33 = .ok (.iadd, 1) := dk_96 (dk_at dksX2_back_1 9 rfl rfl)
theorem dX2_back_34 : decode cX2_back 34 = .ok (.iconst 0, 1) := dk_3 (dk_at dksX2_back_1 10 rfl rfl)
theorem dX2_back_35 : decode cX2_back 35 = .ok (.invokevirtual 202, 3) := dk_182 0 202 (dk_at dksX2_back_1 11 rfl rfl)
theorem dX2_back_38 : decode cX2_back 38 = .ok (.aload_n 0, 1) := dk_42 (dk_at dksX2_back_1 14 rfl rfl)
theorem dX2_back_39 : decode cX2_back 39 = .ok (.iconst 0, 1) := dk_3 (dk_at dksX2_back_1 15 rfl rfl)
theorem dX2_back_40 : decode cX2_back 40 = .ok (.putfield 206, 3) := dk_181 0 206 (dk_at dksX2_back_1 16 rfl rfl)
theorem dX2_back_43 : decode cX2_back 43 = .ok (.aload_n 0, 1) := dk_42 (dk_at dksX2_back_1 19 rfl rfl)
theorem dX2_back_44 : decode cX2_back 44 = .ok (.getfield 7, 3) := dk_180 0 7 (dk_at dksX2_back_1 20 rfl rfl)
theorem dX2_back_47 : decode cX2_back 47 = .ok (.iconst 2, 1) := dk_5 (dk_at dksX2_back_1 23 rfl rfl)
theorem dX2_back_48 : decode cX2_back 48 = .ok (.iaload, 1) := dk_46 (dk_at dksX2_back_2 0 rfl rfl)
theorem dX2_back_49 : decode cX2_back 49 = .ok (.ireturn, 1) := dk_172 (dk_at dksX2_back_2 1 rfl rfl)
abbrev cX2_said : ByteArray := prog_18_method_69_code
def yX2_said : MethodName := ⟨RX2, "said", "(II)I"⟩
def dkwX2_said_1 : List UInt8 := [154, 0, 6, 16, 253, 172, 42, 182, 1, 42, 42, 4, 182, 1, 45, 42, 27, 28, 182, 1, 61, 172]
abbrev dktX2_said_1 : List UInt8 := dkwX2_said_1 ++ []
def dkwX2_said_0 : List UInt8 := [27, 133, 9, 20, 1, 53, 184, 0, 109, 154, 0, 6, 16, 254, 172, 28, 133, 9, 20, 1, 59, 184, 0, 109]
abbrev dktX2_said_0 : List UInt8 := dkwX2_said_0 ++ dktX2_said_1
theorem dksX2_said_0 : cX2_said.data.toList.drop 0 = dktX2_said_0 := by decide +kernel
theorem dksX2_said_1 : cX2_said.data.toList.drop 24 = dktX2_said_1 := dk_seg dksX2_said_0 24 rfl rfl
theorem dX2_said_0 : decode cX2_said 0 = .ok (.iload_n 1, 1) := dk_27 (dk_at dksX2_said_0 0 rfl rfl)
theorem dX2_said_1 : decode cX2_said 1 = .ok (.i2l, 1) := dk_133 (dk_at dksX2_said_0 1 rfl rfl)
theorem dX2_said_2 : decode cX2_said 2 = .ok (.lconst 0, 1) := dk_9 (dk_at dksX2_said_0 2 rfl rfl)
theorem dX2_said_3 : decode cX2_said 3 = .ok (.ldc2_w 309, 3) := dk_20 1 53 (dk_at dksX2_said_0 3 rfl rfl)
theorem dX2_said_6 : decode cX2_said 6 = .ok (.invokestatic 109, 3) := dk_184 0 109 (dk_at dksX2_said_0 6 rfl rfl)
theorem dX2_said_9 : decode cX2_said 9 = .ok (.ifCond .ne 6, 3) := dk_154 0 6 (dk_at dksX2_said_0 9 rfl rfl)
theorem dX2_said_12 : decode cX2_said 12 = .ok (.bipush (-2), 2) := dk_16 254 (dk_at dksX2_said_0 12 rfl rfl)
theorem dX2_said_14 : decode cX2_said 14 = .ok (.ireturn, 1) := dk_172 (dk_at dksX2_said_0 14 rfl rfl)
theorem dX2_said_15 : decode cX2_said 15 = .ok (.iload_n 2, 1) := dk_28 (dk_at dksX2_said_0 15 rfl rfl)
theorem dX2_said_16 : decode cX2_said 16 = .ok (.i2l, 1) := dk_133 (dk_at dksX2_said_0 16 rfl rfl)
theorem dX2_said_17 : decode cX2_said 17 = .ok (.lconst 0, 1) := dk_9 (dk_at dksX2_said_0 17 rfl rfl)
theorem dX2_said_18 : decode cX2_said 18 = .ok (.ldc2_w 315, 3) := dk_20 1 59 (dk_at dksX2_said_0 18 rfl rfl)
theorem dX2_said_21 : decode cX2_said 21 = .ok (.invokestatic 109, 3) := dk_184 0 109 (dk_at dksX2_said_0 21 rfl rfl)
theorem dX2_said_24 : decode cX2_said 24 = .ok (.ifCond .ne 6, 3) := dk_154 0 6 (dk_at dksX2_said_1 0 rfl rfl)
theorem dX2_said_27 : decode cX2_said 27 = .ok (.bipush (-3), 2) := dk_16 253 (dk_at dksX2_said_1 3 rfl rfl)
theorem dX2_said_29 : decode cX2_said 29 = .ok (.ireturn, 1) := dk_172 (dk_at dksX2_said_1 5 rfl rfl)
theorem dX2_said_30 : decode cX2_said 30 = .ok (.aload_n 0, 1) := dk_42 (dk_at dksX2_said_1 6 rfl rfl)
theorem dX2_said_31 : decode cX2_said 31 = .ok (.invokevirtual 298, 3) := dk_182 1 42 (dk_at dksX2_said_1 7 rfl rfl)
theorem dX2_said_34 : decode cX2_said 34 = .ok (.aload_n 0, 1) := dk_42 (dk_at dksX2_said_1 10 rfl rfl)
theorem dX2_said_35 : decode cX2_said 35 = .ok (.iconst 1, 1) := dk_4 (dk_at dksX2_said_1 11 rfl rfl)
theorem dX2_said_36 : decode cX2_said 36 = .ok (.invokevirtual 301, 3) := dk_182 1 45 (dk_at dksX2_said_1 12 rfl rfl)
theorem dX2_said_39 : decode cX2_said 39 = .ok (.aload_n 0, 1) := dk_42 (dk_at dksX2_said_1 15 rfl rfl)
theorem dX2_said_40 : decode cX2_said 40 = .ok (.iload_n 1, 1) := dk_27 (dk_at dksX2_said_1 16 rfl rfl)
theorem dX2_said_41 : decode cX2_said 41 = .ok (.iload_n 2, 1) := dk_28 (dk_at dksX2_said_1 17 rfl rfl)
theorem dX2_said_42 : decode cX2_said 42 = .ok (.invokevirtual 317, 3) := dk_182 1 61 (dk_at dksX2_said_1 18 rfl rfl)
theorem dX2_said_45 : decode cX2_said 45 = .ok (.ireturn, 1) := dk_172 (dk_at dksX2_said_1 21 rfl rfl)
abbrev cX2_saidAt : ByteArray := prog_18_method_68_code
def yX2_saidAt : MethodName := ⟨RX2, "saidAt", "(II)I"⟩
def dkwX2_saidAt_1 : List UInt8 := [2, 172]
abbrev dktX2_saidAt_1 : List UInt8 := dkwX2_saidAt_1 ++ []
def dkwX2_saidAt_0 : List UInt8 := [28, 42, 180, 0, 92, 27, 46, 162, 0, 17, 42, 180, 0, 89, 16, 16, 27, 104, 28, 96, 46, 167, 0, 4]
abbrev dktX2_saidAt_0 : List UInt8 := dkwX2_saidAt_0 ++ dktX2_saidAt_1
theorem dksX2_saidAt_0 : cX2_saidAt.data.toList.drop 0 = dktX2_saidAt_0 := by decide +kernel
theorem dksX2_saidAt_1 : cX2_saidAt.data.toList.drop 24 = dktX2_saidAt_1 := dk_seg dksX2_saidAt_0 24 rfl rfl
theorem dX2_saidAt_0 : decode cX2_saidAt 0 = .ok (.iload_n 2, 1) := dk_28 (dk_at dksX2_saidAt_0 0 rfl rfl)
theorem dX2_saidAt_1 : decode cX2_saidAt 1 = .ok (.aload_n 0, 1) := dk_42 (dk_at dksX2_saidAt_0 1 rfl rfl)
theorem dX2_saidAt_2 : decode cX2_saidAt 2 = .ok (.getfield 92, 3) := dk_180 0 92 (dk_at dksX2_saidAt_0 2 rfl rfl)
theorem dX2_saidAt_5 : decode cX2_saidAt 5 = .ok (.iload_n 1, 1) := dk_27 (dk_at dksX2_saidAt_0 5 rfl rfl)
theorem dX2_saidAt_6 : decode cX2_saidAt 6 = .ok (.iaload, 1) := dk_46 (dk_at dksX2_saidAt_0 6 rfl rfl)
theorem dX2_saidAt_7 : decode cX2_saidAt 7 = .ok (.if_icmp .ge 17, 3) := dk_162 0 17 (dk_at dksX2_saidAt_0 7 rfl rfl)
theorem dX2_saidAt_10 : decode cX2_saidAt 10 = .ok (.aload_n 0, 1) := dk_42 (dk_at dksX2_saidAt_0 10 rfl rfl)
theorem dX2_saidAt_11 : decode cX2_saidAt 11 = .ok (.getfield 89, 3) := dk_180 0 89 (dk_at dksX2_saidAt_0 11 rfl rfl)
theorem dX2_saidAt_14 : decode cX2_saidAt 14 = .ok (.bipush 16, 2) := dk_16 16 (dk_at dksX2_saidAt_0 14 rfl rfl)
theorem dX2_saidAt_16 : decode cX2_saidAt 16 = .ok (.iload_n 1, 1) := dk_27 (dk_at dksX2_saidAt_0 16 rfl rfl)
theorem dX2_saidAt_17 : decode cX2_saidAt 17 = .ok (.imul, 1) := dk_104 (dk_at dksX2_saidAt_0 17 rfl rfl)
theorem dX2_saidAt_18 : decode cX2_saidAt 18 = .ok (.iload_n 2, 1) := dk_28 (dk_at dksX2_saidAt_0 18 rfl rfl)
theorem dX2_saidAt_19 : decode cX2_saidAt 19 = .ok (.iadd, 1) := dk_96 (dk_at dksX2_saidAt_0 19 rfl rfl)
theorem dX2_saidAt_20 : decode cX2_saidAt 20 = .ok (.iaload, 1) := dk_46 (dk_at dksX2_saidAt_0 20 rfl rfl)
theorem dX2_saidAt_21 : decode cX2_saidAt 21 = .ok (.goto 4, 3) := dk_167 0 4 (dk_at dksX2_saidAt_0 21 rfl rfl)
theorem dX2_saidAt_24 : decode cX2_saidAt 24 = .ok (.iconst (-1), 1) := dk_2 (dk_at dksX2_saidAt_1 0 rfl rfl)
theorem dX2_saidAt_25 : decode cX2_saidAt 25 = .ok (.ireturn, 1) := dk_172 (dk_at dksX2_saidAt_1 1 rfl rfl)
abbrev cX2_when : ByteArray := prog_18_method_70_code
def yX2_when : MethodName := ⟨RX2, "when", "(III)I"⟩
def dkwX2_when_3 : List UInt8 := [182, 1, 45, 132, 4, 1, 167, 255, 219, 2, 172]
abbrev dktX2_when_3 : List UInt8 := dkwX2_when_3 ++ []
def dkwX2_when_2 : List UInt8 := [180, 0, 7, 17, 5, 36, 16, 10, 27, 104, 96, 28, 96, 46, 29, 161, 0, 6, 21, 4, 172, 42, 4]
abbrev dktX2_when_2 : List UInt8 := dkwX2_when_2 ++ dktX2_when_3
def dkwX2_when_1 : List UInt8 := [184, 0, 109, 154, 0, 6, 16, 253, 172, 42, 182, 1, 42, 3, 54, 4, 21, 4, 16, 61, 162, 0, 36, 42]
abbrev dktX2_when_1 : List UInt8 := dkwX2_when_1 ++ dktX2_when_2
def dkwX2_when_0 : List UInt8 := [42, 27, 182, 0, 234, 153, 0, 10, 28, 184, 1, 37, 154, 0, 6, 16, 254, 172, 29, 133, 10, 20, 0, 232]
abbrev dktX2_when_0 : List UInt8 := dkwX2_when_0 ++ dktX2_when_1
theorem dksX2_when_0 : cX2_when.data.toList.drop 0 = dktX2_when_0 := by decide +kernel
theorem dksX2_when_1 : cX2_when.data.toList.drop 24 = dktX2_when_1 := dk_seg dksX2_when_0 24 rfl rfl
theorem dksX2_when_2 : cX2_when.data.toList.drop 48 = dktX2_when_2 := dk_seg dksX2_when_1 24 rfl rfl
theorem dksX2_when_3 : cX2_when.data.toList.drop 71 = dktX2_when_3 := dk_seg dksX2_when_2 23 rfl rfl
theorem dX2_when_0 : decode cX2_when 0 = .ok (.aload_n 0, 1) := dk_42 (dk_at dksX2_when_0 0 rfl rfl)
theorem dX2_when_1 : decode cX2_when 1 = .ok (.iload_n 1, 1) := dk_27 (dk_at dksX2_when_0 1 rfl rfl)
theorem dX2_when_2 : decode cX2_when 2 = .ok (.invokevirtual 234, 3) := dk_182 0 234 (dk_at dksX2_when_0 2 rfl rfl)
theorem dX2_when_5 : decode cX2_when 5 = .ok (.ifCond .eq 10, 3) := dk_153 0 10 (dk_at dksX2_when_0 5 rfl rfl)
theorem dX2_when_8 : decode cX2_when 8 = .ok (.iload_n 2, 1) := dk_28 (dk_at dksX2_when_0 8 rfl rfl)
theorem dX2_when_9 : decode cX2_when 9 = .ok (.invokestatic 293, 3) := dk_184 1 37 (dk_at dksX2_when_0 9 rfl rfl)
theorem dX2_when_12 : decode cX2_when 12 = .ok (.ifCond .ne 6, 3) := dk_154 0 6 (dk_at dksX2_when_0 12 rfl rfl)
theorem dX2_when_15 : decode cX2_when 15 = .ok (.bipush (-2), 2) := dk_16 254 (dk_at dksX2_when_0 15 rfl rfl)
theorem dX2_when_17 : decode cX2_when 17 = .ok (.ireturn, 1) := dk_172 (dk_at dksX2_when_0 17 rfl rfl)
theorem dX2_when_18 : decode cX2_when 18 = .ok (.iload_n 3, 1) := dk_29 (dk_at dksX2_when_0 18 rfl rfl)
theorem dX2_when_19 : decode cX2_when 19 = .ok (.i2l, 1) := dk_133 (dk_at dksX2_when_0 19 rfl rfl)
theorem dX2_when_20 : decode cX2_when 20 = .ok (.lconst 1, 1) := dk_10 (dk_at dksX2_when_0 20 rfl rfl)
theorem dX2_when_21 : decode cX2_when 21 = .ok (.ldc2_w 232, 3) := dk_20 0 232 (dk_at dksX2_when_0 21 rfl rfl)
theorem dX2_when_24 : decode cX2_when 24 = .ok (.invokestatic 109, 3) := dk_184 0 109 (dk_at dksX2_when_1 0 rfl rfl)
theorem dX2_when_27 : decode cX2_when 27 = .ok (.ifCond .ne 6, 3) := dk_154 0 6 (dk_at dksX2_when_1 3 rfl rfl)
theorem dX2_when_30 : decode cX2_when 30 = .ok (.bipush (-3), 2) := dk_16 253 (dk_at dksX2_when_1 6 rfl rfl)
theorem dX2_when_32 : decode cX2_when 32 = .ok (.ireturn, 1) := dk_172 (dk_at dksX2_when_1 8 rfl rfl)
theorem dX2_when_33 : decode cX2_when 33 = .ok (.aload_n 0, 1) := dk_42 (dk_at dksX2_when_1 9 rfl rfl)
theorem dX2_when_34 : decode cX2_when 34 = .ok (.invokevirtual 298, 3) := dk_182 1 42 (dk_at dksX2_when_1 10 rfl rfl)
theorem dX2_when_37 : decode cX2_when 37 = .ok (.iconst 0, 1) := dk_3 (dk_at dksX2_when_1 13 rfl rfl)
theorem dX2_when_38 : decode cX2_when 38 = .ok (.istore 4, 2) := dk_54 4 (dk_at dksX2_when_1 14 rfl rfl)
theorem dX2_when_40 : decode cX2_when 40 = .ok (.iload 4, 2) := dk_21 4 (dk_at dksX2_when_1 16 rfl rfl)
theorem dX2_when_42 : decode cX2_when 42 = .ok (.bipush 61, 2) := dk_16 61 (dk_at dksX2_when_1 18 rfl rfl)
theorem dX2_when_44 : decode cX2_when 44 = .ok (.if_icmp .ge 36, 3) := dk_162 0 36 (dk_at dksX2_when_1 20 rfl rfl)
theorem dX2_when_47 : decode cX2_when 47 = .ok (.aload_n 0, 1) := dk_42 (dk_at dksX2_when_1 23 rfl rfl)
theorem dX2_when_48 : decode cX2_when 48 = .ok (.getfield 7, 3) := dk_180 0 7 (dk_at dksX2_when_2 0 rfl rfl)
theorem dX2_when_51 : decode cX2_when 51 = .ok (.sipush 1316, 3) := dk_17 5 36 (dk_at dksX2_when_2 3 rfl rfl)
theorem dX2_when_54 : decode cX2_when 54 = .ok (.bipush 10, 2) := dk_16 10 (dk_at dksX2_when_2 6 rfl rfl)
theorem dX2_when_56 : decode cX2_when 56 = .ok (.iload_n 1, 1) := dk_27 (dk_at dksX2_when_2 8 rfl rfl)
theorem dX2_when_57 : decode cX2_when 57 = .ok (.imul, 1) := dk_104 (dk_at dksX2_when_2 9 rfl rfl)
theorem dX2_when_58 : decode cX2_when 58 = .ok (.iadd, 1) := dk_96 (dk_at dksX2_when_2 10 rfl rfl)
theorem dX2_when_59 : decode cX2_when 59 = .ok (.iload_n 2, 1) := dk_28 (dk_at dksX2_when_2 11 rfl rfl)
theorem dX2_when_60 : decode cX2_when 60 = .ok (.iadd, 1) := dk_96 (dk_at dksX2_when_2 12 rfl rfl)
theorem dX2_when_61 : decode cX2_when 61 = .ok (.iaload, 1) := dk_46 (dk_at dksX2_when_2 13 rfl rfl)
theorem dX2_when_62 : decode cX2_when 62 = .ok (.iload_n 3, 1) := dk_29 (dk_at dksX2_when_2 14 rfl rfl)
theorem dX2_when_63 : decode cX2_when 63 = .ok (.if_icmp .lt 6, 3) := dk_161 0 6 (dk_at dksX2_when_2 15 rfl rfl)
theorem dX2_when_66 : decode cX2_when 66 = .ok (.iload 4, 2) := dk_21 4 (dk_at dksX2_when_2 18 rfl rfl)
theorem dX2_when_68 : decode cX2_when 68 = .ok (.ireturn, 1) := dk_172 (dk_at dksX2_when_2 20 rfl rfl)
theorem dX2_when_69 : decode cX2_when 69 = .ok (.aload_n 0, 1) := dk_42 (dk_at dksX2_when_2 21 rfl rfl)
theorem dX2_when_70 : decode cX2_when 70 = .ok (.iconst 1, 1) := dk_4 (dk_at dksX2_when_2 22 rfl rfl)
theorem dX2_when_71 : decode cX2_when 71 = .ok (.invokevirtual 301, 3) := dk_182 1 45 (dk_at dksX2_when_3 0 rfl rfl)
theorem dX2_when_74 : decode cX2_when 74 = .ok (.iinc 4 1, 3) := dk_132 4 1 (dk_at dksX2_when_3 3 rfl rfl)
theorem dX2_when_77 : decode cX2_when 77 = .ok (.goto (-37), 3) := dk_167 255 219 (dk_at dksX2_when_3 6 rfl rfl)
theorem dX2_when_80 : decode cX2_when 80 = .ok (.iconst (-1), 1) := dk_2 (dk_at dksX2_when_3 9 rfl rfl)
theorem dX2_when_81 : decode cX2_when 81 = .ok (.ireturn, 1) := dk_172 (dk_at dksX2_when_3 10 rfl rfl)
abbrev cX2_keeps : ByteArray := prog_18_method_72_code
def yX2_keeps : MethodName := ⟨RX2, "keeps", "(III)I"⟩
def dkwX2_keeps_1 : List UInt8 := [20, 1, 67, 184, 0, 109, 153, 0, 13, 42, 27, 28, 29, 182, 1, 69, 167, 0, 5, 16, 253, 172]
abbrev dktX2_keeps_1 : List UInt8 := dkwX2_keeps_1 ++ []
def dkwX2_keeps_0 : List UInt8 := [42, 27, 182, 0, 244, 153, 0, 11, 42, 28, 182, 0, 234, 154, 0, 6, 16, 254, 172, 29, 133, 10]
abbrev dktX2_keeps_0 : List UInt8 := dkwX2_keeps_0 ++ dktX2_keeps_1
theorem dksX2_keeps_0 : cX2_keeps.data.toList.drop 0 = dktX2_keeps_0 := by decide +kernel
theorem dksX2_keeps_1 : cX2_keeps.data.toList.drop 22 = dktX2_keeps_1 := dk_seg dksX2_keeps_0 22 rfl rfl
theorem dX2_keeps_0 : decode cX2_keeps 0 = .ok (.aload_n 0, 1) := dk_42 (dk_at dksX2_keeps_0 0 rfl rfl)
theorem dX2_keeps_1 : decode cX2_keeps 1 = .ok (.iload_n 1, 1) := dk_27 (dk_at dksX2_keeps_0 1 rfl rfl)
theorem dX2_keeps_2 : decode cX2_keeps 2 = .ok (.invokevirtual 244, 3) := dk_182 0 244 (dk_at dksX2_keeps_0 2 rfl rfl)
theorem dX2_keeps_5 : decode cX2_keeps 5 = .ok (.ifCond .eq 11, 3) := dk_153 0 11 (dk_at dksX2_keeps_0 5 rfl rfl)
theorem dX2_keeps_8 : decode cX2_keeps 8 = .ok (.aload_n 0, 1) := dk_42 (dk_at dksX2_keeps_0 8 rfl rfl)
theorem dX2_keeps_9 : decode cX2_keeps 9 = .ok (.iload_n 2, 1) := dk_28 (dk_at dksX2_keeps_0 9 rfl rfl)
theorem dX2_keeps_10 : decode cX2_keeps 10 = .ok (.invokevirtual 234, 3) := dk_182 0 234 (dk_at dksX2_keeps_0 10 rfl rfl)
theorem dX2_keeps_13 : decode cX2_keeps 13 = .ok (.ifCond .ne 6, 3) := dk_154 0 6 (dk_at dksX2_keeps_0 13 rfl rfl)
theorem dX2_keeps_16 : decode cX2_keeps 16 = .ok (.bipush (-2), 2) := dk_16 254 (dk_at dksX2_keeps_0 16 rfl rfl)
theorem dX2_keeps_18 : decode cX2_keeps 18 = .ok (.ireturn, 1) := dk_172 (dk_at dksX2_keeps_0 18 rfl rfl)
theorem dX2_keeps_19 : decode cX2_keeps 19 = .ok (.iload_n 3, 1) := dk_29 (dk_at dksX2_keeps_0 19 rfl rfl)
theorem dX2_keeps_20 : decode cX2_keeps 20 = .ok (.i2l, 1) := dk_133 (dk_at dksX2_keeps_0 20 rfl rfl)
theorem dX2_keeps_21 : decode cX2_keeps 21 = .ok (.lconst 1, 1) := dk_10 (dk_at dksX2_keeps_0 21 rfl rfl)
theorem dX2_keeps_22 : decode cX2_keeps 22 = .ok (.ldc2_w 323, 3) := dk_20 1 67 (dk_at dksX2_keeps_1 0 rfl rfl)
theorem dX2_keeps_25 : decode cX2_keeps 25 = .ok (.invokestatic 109, 3) := dk_184 0 109 (dk_at dksX2_keeps_1 3 rfl rfl)
theorem dX2_keeps_28 : decode cX2_keeps 28 = .ok (.ifCond .eq 13, 3) := dk_153 0 13 (dk_at dksX2_keeps_1 6 rfl rfl)
theorem dX2_keeps_31 : decode cX2_keeps 31 = .ok (.aload_n 0, 1) := dk_42 (dk_at dksX2_keeps_1 9 rfl rfl)
theorem dX2_keeps_32 : decode cX2_keeps 32 = .ok (.iload_n 1, 1) := dk_27 (dk_at dksX2_keeps_1 10 rfl rfl)
theorem dX2_keeps_33 : decode cX2_keeps 33 = .ok (.iload_n 2, 1) := dk_28 (dk_at dksX2_keeps_1 11 rfl rfl)
theorem dX2_keeps_34 : decode cX2_keeps 34 = .ok (.iload_n 3, 1) := dk_29 (dk_at dksX2_keeps_1 12 rfl rfl)
theorem dX2_keeps_35 : decode cX2_keeps 35 = .ok (.invokevirtual 325, 3) := dk_182 1 69 (dk_at dksX2_keeps_1 13 rfl rfl)
theorem dX2_keeps_38 : decode cX2_keeps 38 = .ok (.goto 5, 3) := dk_167 0 5 (dk_at dksX2_keeps_1 16 rfl rfl)
theorem dX2_keeps_41 : decode cX2_keeps 41 = .ok (.bipush (-3), 2) := dk_16 253 (dk_at dksX2_keeps_1 19 rfl rfl)
theorem dX2_keeps_43 : decode cX2_keeps 43 = .ok (.ireturn, 1) := dk_172 (dk_at dksX2_keeps_1 21 rfl rfl)
abbrev cX2_keptBy : ByteArray := prog_18_method_71_code
def yX2_keptBy : MethodName := ⟨RX2, "keptBy", "(III)I"⟩
def dkwX2_keptBy_1 : List UInt8 := [182, 0, 241, 42, 180, 0, 7, 16, 100, 27, 96, 46, 126, 184, 1, 64, 172]
abbrev dktX2_keptBy_1 : List UInt8 := dkwX2_keptBy_1 ++ []
def dkwX2_keptBy_0 : List UInt8 := [42, 182, 1, 42, 42, 17, 5, 16, 27, 28, 182, 1, 55, 42, 29, 182, 1, 45, 42, 17, 5, 16, 28]
abbrev dktX2_keptBy_0 : List UInt8 := dkwX2_keptBy_0 ++ dktX2_keptBy_1
theorem dksX2_keptBy_0 : cX2_keptBy.data.toList.drop 0 = dktX2_keptBy_0 := by decide +kernel
theorem dksX2_keptBy_1 : cX2_keptBy.data.toList.drop 23 = dktX2_keptBy_1 := dk_seg dksX2_keptBy_0 23 rfl rfl
theorem dX2_keptBy_0 : decode cX2_keptBy 0 = .ok (.aload_n 0, 1) := dk_42 (dk_at dksX2_keptBy_0 0 rfl rfl)
theorem dX2_keptBy_1 : decode cX2_keptBy 1 = .ok (.invokevirtual 298, 3) := dk_182 1 42 (dk_at dksX2_keptBy_0 1 rfl rfl)
theorem dX2_keptBy_4 : decode cX2_keptBy 4 = .ok (.aload_n 0, 1) := dk_42 (dk_at dksX2_keptBy_0 4 rfl rfl)
theorem dX2_keptBy_5 : decode cX2_keptBy 5 = .ok (.sipush 1296, 3) := dk_17 5 16 (dk_at dksX2_keptBy_0 5 rfl rfl)
theorem dX2_keptBy_8 : decode cX2_keptBy 8 = .ok (.iload_n 1, 1) := dk_27 (dk_at dksX2_keptBy_0 8 rfl rfl)
theorem dX2_keptBy_9 : decode cX2_keptBy 9 = .ok (.iload_n 2, 1) := dk_28 (dk_at dksX2_keptBy_0 9 rfl rfl)
theorem dX2_keptBy_10 : decode cX2_keptBy 10 = .ok (.invokevirtual 311, 3) := dk_182 1 55 (dk_at dksX2_keptBy_0 10 rfl rfl)
theorem dX2_keptBy_13 : decode cX2_keptBy 13 = .ok (.aload_n 0, 1) := dk_42 (dk_at dksX2_keptBy_0 13 rfl rfl)
theorem dX2_keptBy_14 : decode cX2_keptBy 14 = .ok (.iload_n 3, 1) := dk_29 (dk_at dksX2_keptBy_0 14 rfl rfl)
theorem dX2_keptBy_15 : decode cX2_keptBy 15 = .ok (.invokevirtual 301, 3) := dk_182 1 45 (dk_at dksX2_keptBy_0 15 rfl rfl)
theorem dX2_keptBy_18 : decode cX2_keptBy 18 = .ok (.aload_n 0, 1) := dk_42 (dk_at dksX2_keptBy_0 18 rfl rfl)
theorem dX2_keptBy_19 : decode cX2_keptBy 19 = .ok (.sipush 1296, 3) := dk_17 5 16 (dk_at dksX2_keptBy_0 19 rfl rfl)
theorem dX2_keptBy_22 : decode cX2_keptBy 22 = .ok (.iload_n 2, 1) := dk_28 (dk_at dksX2_keptBy_0 22 rfl rfl)
theorem dX2_keptBy_23 : decode cX2_keptBy 23 = .ok (.invokevirtual 241, 3) := dk_182 0 241 (dk_at dksX2_keptBy_1 0 rfl rfl)
theorem dX2_keptBy_26 : decode cX2_keptBy 26 = .ok (.aload_n 0, 1) := dk_42 (dk_at dksX2_keptBy_1 3 rfl rfl)
theorem dX2_keptBy_27 : decode cX2_keptBy 27 = .ok (.getfield 7, 3) := dk_180 0 7 (dk_at dksX2_keptBy_1 4 rfl rfl)
theorem dX2_keptBy_30 : decode cX2_keptBy 30 = .ok (.bipush 100, 2) := dk_16 100 (dk_at dksX2_keptBy_1 7 rfl rfl)
theorem dX2_keptBy_32 : decode cX2_keptBy 32 = .ok (.iload_n 1, 1) := dk_27 (dk_at dksX2_keptBy_1 9 rfl rfl)
theorem dX2_keptBy_33 : decode cX2_keptBy 33 = .ok (.iadd, 1) := dk_96 (dk_at dksX2_keptBy_1 10 rfl rfl)
theorem dX2_keptBy_34 : decode cX2_keptBy 34 = .ok (.iaload, 1) := dk_46 (dk_at dksX2_keptBy_1 11 rfl rfl)
theorem dX2_keptBy_35 : decode cX2_keptBy 35 = .ok (.iand, 1) := dk_126 (dk_at dksX2_keptBy_1 12 rfl rfl)
theorem dX2_keptBy_36 : decode cX2_keptBy 36 = .ok (.invokestatic 320, 3) := dk_184 1 64 (dk_at dksX2_keptBy_1 13 rfl rfl)
theorem dX2_keptBy_39 : decode cX2_keptBy 39 = .ok (.ireturn, 1) := dk_172 (dk_at dksX2_keptBy_1 16 rfl rfl)
abbrev cX2_bits : ByteArray := prog_18_method_4_code
def yX2_bits : MethodName := ⟨RX2, "bits", "(I)I"⟩
def dkwX2_bits_1 : List UInt8 := [27, 172]
abbrev dktX2_bits_1 : List UInt8 := dkwX2_bits_1 ++ []
def dkwX2_bits_0 : List UInt8 := [3, 60, 3, 61, 28, 16, 10, 162, 0, 17, 27, 26, 28, 122, 4, 126, 96, 60, 132, 2, 1, 167, 255, 239]
abbrev dktX2_bits_0 : List UInt8 := dkwX2_bits_0 ++ dktX2_bits_1
theorem dksX2_bits_0 : cX2_bits.data.toList.drop 0 = dktX2_bits_0 := by decide +kernel
theorem dksX2_bits_1 : cX2_bits.data.toList.drop 24 = dktX2_bits_1 := dk_seg dksX2_bits_0 24 rfl rfl
theorem dX2_bits_0 : decode cX2_bits 0 = .ok (.iconst 0, 1) := dk_3 (dk_at dksX2_bits_0 0 rfl rfl)
theorem dX2_bits_1 : decode cX2_bits 1 = .ok (.istore_n 1, 1) := dk_60 (dk_at dksX2_bits_0 1 rfl rfl)
theorem dX2_bits_2 : decode cX2_bits 2 = .ok (.iconst 0, 1) := dk_3 (dk_at dksX2_bits_0 2 rfl rfl)
theorem dX2_bits_3 : decode cX2_bits 3 = .ok (.istore_n 2, 1) := dk_61 (dk_at dksX2_bits_0 3 rfl rfl)
theorem dX2_bits_4 : decode cX2_bits 4 = .ok (.iload_n 2, 1) := dk_28 (dk_at dksX2_bits_0 4 rfl rfl)
theorem dX2_bits_5 : decode cX2_bits 5 = .ok (.bipush 10, 2) := dk_16 10 (dk_at dksX2_bits_0 5 rfl rfl)
theorem dX2_bits_7 : decode cX2_bits 7 = .ok (.if_icmp .ge 17, 3) := dk_162 0 17 (dk_at dksX2_bits_0 7 rfl rfl)
theorem dX2_bits_10 : decode cX2_bits 10 = .ok (.iload_n 1, 1) := dk_27 (dk_at dksX2_bits_0 10 rfl rfl)
theorem dX2_bits_11 : decode cX2_bits 11 = .ok (.iload_n 0, 1) := dk_26 (dk_at dksX2_bits_0 11 rfl rfl)
theorem dX2_bits_12 : decode cX2_bits 12 = .ok (.iload_n 2, 1) := dk_28 (dk_at dksX2_bits_0 12 rfl rfl)
theorem dX2_bits_13 : decode cX2_bits 13 = .ok (.ishr, 1) := dk_122 (dk_at dksX2_bits_0 13 rfl rfl)
theorem dX2_bits_14 : decode cX2_bits 14 = .ok (.iconst 1, 1) := dk_4 (dk_at dksX2_bits_0 14 rfl rfl)
theorem dX2_bits_15 : decode cX2_bits 15 = .ok (.iand, 1) := dk_126 (dk_at dksX2_bits_0 15 rfl rfl)
theorem dX2_bits_16 : decode cX2_bits 16 = .ok (.iadd, 1) := dk_96 (dk_at dksX2_bits_0 16 rfl rfl)
theorem dX2_bits_17 : decode cX2_bits 17 = .ok (.istore_n 1, 1) := dk_60 (dk_at dksX2_bits_0 17 rfl rfl)
theorem dX2_bits_18 : decode cX2_bits 18 = .ok (.iinc 2 1, 3) := dk_132 2 1 (dk_at dksX2_bits_0 18 rfl rfl)
theorem dX2_bits_21 : decode cX2_bits 21 = .ok (.goto (-17), 3) := dk_167 255 239 (dk_at dksX2_bits_0 21 rfl rfl)
theorem dX2_bits_24 : decode cX2_bits 24 = .ok (.iload_n 1, 1) := dk_27 (dk_at dksX2_bits_1 0 rfl rfl)
theorem dX2_bits_25 : decode cX2_bits 25 = .ok (.ireturn, 1) := dk_172 (dk_at dksX2_bits_1 1 rfl rfl)
abbrev cX2_match : ByteArray := prog_18_method_75_code
def yX2_match : MethodName := ⟨RX2, "match", "(II)I"⟩
def dkwX2_match_8 : List UInt8 := [180, 0, 7, 3, 46, 160, 0, 7, 2, 167, 0, 9, 42, 180, 0, 101, 28, 46, 172]
abbrev dktX2_match_8 : List UInt8 := dkwX2_match_8 ++ []
def dkwX2_match_7 : List UInt8 := [182, 1, 75, 54, 4, 167, 255, 201, 28, 2, 160, 0, 7, 29, 167, 0, 28, 42, 180, 0, 101, 28, 46, 42]
abbrev dktX2_match_7 : List UInt8 := dkwX2_match_7 ++ dktX2_match_8
def dkwX2_match_6 : List UInt8 := [162, 0, 23, 42, 180, 0, 101, 21, 6, 42, 180, 0, 98, 21, 6, 46, 79, 132, 6, 1, 167, 255, 233, 42]
abbrev dktX2_match_6 : List UInt8 := dkwX2_match_6 ++ dktX2_match_7
def dkwX2_match_5 : List UInt8 := [153, 0, 56, 42, 182, 1, 72, 54, 5, 21, 5, 29, 164, 0, 35, 21, 5, 62, 3, 54, 6, 21, 6, 7]
abbrev dktX2_match_5 : List UInt8 := dkwX2_match_5 ++ dktX2_match_6
def dkwX2_match_4 : List UInt8 := [162, 0, 16, 42, 180, 0, 98, 29, 3, 79, 132, 3, 1, 167, 255, 241, 2, 62, 4, 54, 4, 21, 4]
abbrev dktX2_match_4 : List UInt8 := dkwX2_match_4 ++ dktX2_match_5
def dkwX2_match_3 : List UInt8 := [16, 8, 112, 27, 182, 1, 69, 167, 0, 4, 3, 79, 132, 3, 1, 167, 255, 204, 3, 62, 29, 7]
abbrev dktX2_match_3 : List UInt8 := dkwX2_match_3 ++ dktX2_match_4
def dkwX2_match_2 : List UInt8 := [42, 180, 0, 95, 29, 29, 16, 8, 112, 42, 180, 0, 7, 3, 46, 162, 0, 19, 42, 29, 16, 8, 108, 29]
abbrev dktX2_match_2 : List UInt8 := dkwX2_match_2 ++ dktX2_match_3
def dkwX2_match_1 : List UInt8 := [184, 0, 109, 154, 0, 6, 16, 253, 172, 3, 62, 29, 16, 8, 42, 180, 0, 7, 4, 46, 104, 162, 0, 45]
abbrev dktX2_match_1 : List UInt8 := dkwX2_match_1 ++ dktX2_match_2
def dkwX2_match_0 : List UInt8 := [28, 2, 159, 0, 14, 42, 28, 182, 0, 244, 154, 0, 6, 16, 254, 172, 27, 133, 10, 20, 1, 67]
abbrev dktX2_match_0 : List UInt8 := dkwX2_match_0 ++ dktX2_match_1
theorem dksX2_match_0 : cX2_match.data.toList.drop 0 = dktX2_match_0 := by decide +kernel
theorem dksX2_match_1 : cX2_match.data.toList.drop 22 = dktX2_match_1 := dk_seg dksX2_match_0 22 rfl rfl
theorem dksX2_match_2 : cX2_match.data.toList.drop 46 = dktX2_match_2 := dk_seg dksX2_match_1 24 rfl rfl
theorem dksX2_match_3 : cX2_match.data.toList.drop 70 = dktX2_match_3 := dk_seg dksX2_match_2 24 rfl rfl
theorem dksX2_match_4 : cX2_match.data.toList.drop 92 = dktX2_match_4 := dk_seg dksX2_match_3 22 rfl rfl
theorem dksX2_match_5 : cX2_match.data.toList.drop 115 = dktX2_match_5 := dk_seg dksX2_match_4 23 rfl rfl
theorem dksX2_match_6 : cX2_match.data.toList.drop 139 = dktX2_match_6 := dk_seg dksX2_match_5 24 rfl rfl
theorem dksX2_match_7 : cX2_match.data.toList.drop 163 = dktX2_match_7 := dk_seg dksX2_match_6 24 rfl rfl
theorem dksX2_match_8 : cX2_match.data.toList.drop 187 = dktX2_match_8 := dk_seg dksX2_match_7 24 rfl rfl
theorem dX2_match_0 : decode cX2_match 0 = .ok (.iload_n 2, 1) := dk_28 (dk_at dksX2_match_0 0 rfl rfl)
theorem dX2_match_1 : decode cX2_match 1 = .ok (.iconst (-1), 1) := dk_2 (dk_at dksX2_match_0 1 rfl rfl)
theorem dX2_match_2 : decode cX2_match 2 = .ok (.if_icmp .eq 14, 3) := dk_159 0 14 (dk_at dksX2_match_0 2 rfl rfl)
theorem dX2_match_5 : decode cX2_match 5 = .ok (.aload_n 0, 1) := dk_42 (dk_at dksX2_match_0 5 rfl rfl)
theorem dX2_match_6 : decode cX2_match 6 = .ok (.iload_n 2, 1) := dk_28 (dk_at dksX2_match_0 6 rfl rfl)
theorem dX2_match_7 : decode cX2_match 7 = .ok (.invokevirtual 244, 3) := dk_182 0 244 (dk_at dksX2_match_0 7 rfl rfl)
theorem dX2_match_10 : decode cX2_match 10 = .ok (.ifCond .ne 6, 3) := dk_154 0 6 (dk_at dksX2_match_0 10 rfl rfl)
theorem dX2_match_13 : decode cX2_match 13 = .ok (.bipush (-2), 2) := dk_16 254 (dk_at dksX2_match_0 13 rfl rfl)
theorem dX2_match_15 : decode cX2_match 15 = .ok (.ireturn, 1) := dk_172 (dk_at dksX2_match_0 15 rfl rfl)
theorem dX2_match_16 : decode cX2_match 16 = .ok (.iload_n 1, 1) := dk_27 (dk_at dksX2_match_0 16 rfl rfl)
theorem dX2_match_17 : decode cX2_match 17 = .ok (.i2l, 1) := dk_133 (dk_at dksX2_match_0 17 rfl rfl)
theorem dX2_match_18 : decode cX2_match 18 = .ok (.lconst 1, 1) := dk_10 (dk_at dksX2_match_0 18 rfl rfl)
theorem dX2_match_19 : decode cX2_match 19 = .ok (.ldc2_w 323, 3) := dk_20 1 67 (dk_at dksX2_match_0 19 rfl rfl)
theorem dX2_match_22 : decode cX2_match 22 = .ok (.invokestatic 109, 3) := dk_184 0 109 (dk_at dksX2_match_1 0 rfl rfl)
theorem dX2_match_25 : decode cX2_match 25 = .ok (.ifCond .ne 6, 3) := dk_154 0 6 (dk_at dksX2_match_1 3 rfl rfl)
theorem dX2_match_28 : decode cX2_match 28 = .ok (.bipush (-3), 2) := dk_16 253 (dk_at dksX2_match_1 6 rfl rfl)
theorem dX2_match_30 : decode cX2_match 30 = .ok (.ireturn, 1) := dk_172 (dk_at dksX2_match_1 8 rfl rfl)
theorem dX2_match_31 : decode cX2_match 31 = .ok (.iconst 0, 1) := dk_3 (dk_at dksX2_match_1 9 rfl rfl)
theorem dX2_match_32 : decode cX2_match 32 = .ok (.istore_n 3, 1) := dk_62 (dk_at dksX2_match_1 10 rfl rfl)
theorem dX2_match_33 : decode cX2_match 33 = .ok (.iload_n 3, 1) := dk_29 (dk_at dksX2_match_1 11 rfl rfl)
theorem dX2_match_34 : decode cX2_match 34 = .ok (.bipush 8, 2) := dk_16 8 (dk_at dksX2_match_1 12 rfl rfl)
theorem dX2_match_36 : decode cX2_match 36 = .ok (.aload_n 0, 1) := dk_42 (dk_at dksX2_match_1 14 rfl rfl)
theorem dX2_match_37 : decode cX2_match 37 = .ok (.getfield 7, 3) := dk_180 0 7 (dk_at dksX2_match_1 15 rfl rfl)
theorem dX2_match_40 : decode cX2_match 40 = .ok (.iconst 1, 1) := dk_4 (dk_at dksX2_match_1 18 rfl rfl)
theorem dX2_match_41 : decode cX2_match 41 = .ok (.iaload, 1) := dk_46 (dk_at dksX2_match_1 19 rfl rfl)
theorem dX2_match_42 : decode cX2_match 42 = .ok (.imul, 1) := dk_104 (dk_at dksX2_match_1 20 rfl rfl)
theorem dX2_match_43 : decode cX2_match 43 = .ok (.if_icmp .ge 45, 3) := dk_162 0 45 (dk_at dksX2_match_1 21 rfl rfl)
theorem dX2_match_46 : decode cX2_match 46 = .ok (.aload_n 0, 1) := dk_42 (dk_at dksX2_match_2 0 rfl rfl)
theorem dX2_match_47 : decode cX2_match 47 = .ok (.getfield 95, 3) := dk_180 0 95 (dk_at dksX2_match_2 1 rfl rfl)
theorem dX2_match_50 : decode cX2_match 50 = .ok (.iload_n 3, 1) := dk_29 (dk_at dksX2_match_2 4 rfl rfl)
theorem dX2_match_51 : decode cX2_match 51 = .ok (.iload_n 3, 1) := dk_29 (dk_at dksX2_match_2 5 rfl rfl)
theorem dX2_match_52 : decode cX2_match 52 = .ok (.bipush 8, 2) := dk_16 8 (dk_at dksX2_match_2 6 rfl rfl)
theorem dX2_match_54 : decode cX2_match 54 = .ok (.irem, 1) := dk_112 (dk_at dksX2_match_2 8 rfl rfl)
theorem dX2_match_55 : decode cX2_match 55 = .ok (.aload_n 0, 1) := dk_42 (dk_at dksX2_match_2 9 rfl rfl)
theorem dX2_match_56 : decode cX2_match 56 = .ok (.getfield 7, 3) := dk_180 0 7 (dk_at dksX2_match_2 10 rfl rfl)
theorem dX2_match_59 : decode cX2_match 59 = .ok (.iconst 0, 1) := dk_3 (dk_at dksX2_match_2 13 rfl rfl)
theorem dX2_match_60 : decode cX2_match 60 = .ok (.iaload, 1) := dk_46 (dk_at dksX2_match_2 14 rfl rfl)
theorem dX2_match_61 : decode cX2_match 61 = .ok (.if_icmp .ge 19, 3) := dk_162 0 19 (dk_at dksX2_match_2 15 rfl rfl)
theorem dX2_match_64 : decode cX2_match 64 = .ok (.aload_n 0, 1) := dk_42 (dk_at dksX2_match_2 18 rfl rfl)
theorem dX2_match_65 : decode cX2_match 65 = .ok (.iload_n 3, 1) := dk_29 (dk_at dksX2_match_2 19 rfl rfl)
theorem dX2_match_66 : decode cX2_match 66 = .ok (.bipush 8, 2) := dk_16 8 (dk_at dksX2_match_2 20 rfl rfl)
theorem dX2_match_68 : decode cX2_match 68 = .ok (.idiv, 1) := dk_108 (dk_at dksX2_match_2 22 rfl rfl)
theorem dX2_match_69 : decode cX2_match 69 = .ok (.iload_n 3, 1) := dk_29 (dk_at dksX2_match_2 23 rfl rfl)
theorem dX2_match_70 : decode cX2_match 70 = .ok (.bipush 8, 2) := dk_16 8 (dk_at dksX2_match_3 0 rfl rfl)
theorem dX2_match_72 : decode cX2_match 72 = .ok (.irem, 1) := dk_112 (dk_at dksX2_match_3 2 rfl rfl)
theorem dX2_match_73 : decode cX2_match 73 = .ok (.iload_n 1, 1) := dk_27 (dk_at dksX2_match_3 3 rfl rfl)
theorem dX2_match_74 : decode cX2_match 74 = .ok (.invokevirtual 325, 3) := dk_182 1 69 (dk_at dksX2_match_3 4 rfl rfl)
theorem dX2_match_77 : decode cX2_match 77 = .ok (.goto 4, 3) := dk_167 0 4 (dk_at dksX2_match_3 7 rfl rfl)
theorem dX2_match_80 : decode cX2_match 80 = .ok (.iconst 0, 1) := dk_3 (dk_at dksX2_match_3 10 rfl rfl)
theorem dX2_match_81 : decode cX2_match 81 = .ok (.iastore, 1) := dk_79 (dk_at dksX2_match_3 11 rfl rfl)
theorem dX2_match_82 : decode cX2_match 82 = .ok (.iinc 3 1, 3) := dk_132 3 1 (dk_at dksX2_match_3 12 rfl rfl)
theorem dX2_match_85 : decode cX2_match 85 = .ok (.goto (-52), 3) := dk_167 255 204 (dk_at dksX2_match_3 15 rfl rfl)
theorem dX2_match_88 : decode cX2_match 88 = .ok (.iconst 0, 1) := dk_3 (dk_at dksX2_match_3 18 rfl rfl)
theorem dX2_match_89 : decode cX2_match 89 = .ok (.istore_n 3, 1) := dk_62 (dk_at dksX2_match_3 19 rfl rfl)
theorem dX2_match_90 : decode cX2_match 90 = .ok (.iload_n 3, 1) := dk_29 (dk_at dksX2_match_3 20 rfl rfl)
theorem dX2_match_91 : decode cX2_match 91 = .ok (.iconst 4, 1) := dk_7 (dk_at dksX2_match_3 21 rfl rfl)
theorem dX2_match_92 : decode cX2_match 92 = .ok (.if_icmp .ge 16, 3) := dk_162 0 16 (dk_at dksX2_match_4 0 rfl rfl)
theorem dX2_match_95 : decode cX2_match 95 = .ok (.aload_n 0, 1) := dk_42 (dk_at dksX2_match_4 3 rfl rfl)
theorem dX2_match_96 : decode cX2_match 96 = .ok (.getfield 98, 3) := dk_180 0 98 (dk_at dksX2_match_4 4 rfl rfl)
theorem dX2_match_99 : decode cX2_match 99 = .ok (.iload_n 3, 1) := dk_29 (dk_at dksX2_match_4 7 rfl rfl)
theorem dX2_match_100 : decode cX2_match 100 = .ok (.iconst 0, 1) := dk_3 (dk_at dksX2_match_4 8 rfl rfl)
theorem dX2_match_101 : decode cX2_match 101 = .ok (.iastore, 1) := dk_79 (dk_at dksX2_match_4 9 rfl rfl)
theorem dX2_match_102 : decode cX2_match 102 = .ok (.iinc 3 1, 3) := dk_132 3 1 (dk_at dksX2_match_4 10 rfl rfl)
theorem dX2_match_105 : decode cX2_match 105 = .ok (.goto (-15), 3) := dk_167 255 241 (dk_at dksX2_match_4 13 rfl rfl)
theorem dX2_match_108 : decode cX2_match 108 = .ok (.iconst (-1), 1) := dk_2 (dk_at dksX2_match_4 16 rfl rfl)
theorem dX2_match_109 : decode cX2_match 109 = .ok (.istore_n 3, 1) := dk_62 (dk_at dksX2_match_4 17 rfl rfl)
theorem dX2_match_110 : decode cX2_match 110 = .ok (.iconst 1, 1) := dk_4 (dk_at dksX2_match_4 18 rfl rfl)
theorem dX2_match_111 : decode cX2_match 111 = .ok (.istore 4, 2) := dk_54 4 (dk_at dksX2_match_4 19 rfl rfl)
theorem dX2_match_113 : decode cX2_match 113 = .ok (.iload 4, 2) := dk_21 4 (dk_at dksX2_match_4 21 rfl rfl)
theorem dX2_match_115 : decode cX2_match 115 = .ok (.ifCond .eq 56, 3) := dk_153 0 56 (dk_at dksX2_match_5 0 rfl rfl)
theorem dX2_match_118 : decode cX2_match 118 = .ok (.aload_n 0, 1) := dk_42 (dk_at dksX2_match_5 3 rfl rfl)
theorem dX2_match_119 : decode cX2_match 119 = .ok (.invokevirtual 328, 3) := dk_182 1 72 (dk_at dksX2_match_5 4 rfl rfl)
theorem dX2_match_122 : decode cX2_match 122 = .ok (.istore 5, 2) := dk_54 5 (dk_at dksX2_match_5 7 rfl rfl)
theorem dX2_match_124 : decode cX2_match 124 = .ok (.iload 5, 2) := dk_21 5 (dk_at dksX2_match_5 9 rfl rfl)
theorem dX2_match_126 : decode cX2_match 126 = .ok (.iload_n 3, 1) := dk_29 (dk_at dksX2_match_5 11 rfl rfl)
theorem dX2_match_127 : decode cX2_match 127 = .ok (.if_icmp .le 35, 3) := dk_164 0 35 (dk_at dksX2_match_5 12 rfl rfl)
theorem dX2_match_130 : decode cX2_match 130 = .ok (.iload 5, 2) := dk_21 5 (dk_at dksX2_match_5 15 rfl rfl)
theorem dX2_match_132 : decode cX2_match 132 = .ok (.istore_n 3, 1) := dk_62 (dk_at dksX2_match_5 17 rfl rfl)
theorem dX2_match_133 : decode cX2_match 133 = .ok (.iconst 0, 1) := dk_3 (dk_at dksX2_match_5 18 rfl rfl)
theorem dX2_match_134 : decode cX2_match 134 = .ok (.istore 6, 2) := dk_54 6 (dk_at dksX2_match_5 19 rfl rfl)
theorem dX2_match_136 : decode cX2_match 136 = .ok (.iload 6, 2) := dk_21 6 (dk_at dksX2_match_5 21 rfl rfl)
theorem dX2_match_138 : decode cX2_match 138 = .ok (.iconst 4, 1) := dk_7 (dk_at dksX2_match_5 23 rfl rfl)
theorem dX2_match_139 : decode cX2_match 139 = .ok (.if_icmp .ge 23, 3) := dk_162 0 23 (dk_at dksX2_match_6 0 rfl rfl)
theorem dX2_match_142 : decode cX2_match 142 = .ok (.aload_n 0, 1) := dk_42 (dk_at dksX2_match_6 3 rfl rfl)
theorem dX2_match_143 : decode cX2_match 143 = .ok (.getfield 101, 3) := dk_180 0 101 (dk_at dksX2_match_6 4 rfl rfl)
theorem dX2_match_146 : decode cX2_match 146 = .ok (.iload 6, 2) := dk_21 6 (dk_at dksX2_match_6 7 rfl rfl)
theorem dX2_match_148 : decode cX2_match 148 = .ok (.aload_n 0, 1) := dk_42 (dk_at dksX2_match_6 9 rfl rfl)
theorem dX2_match_149 : decode cX2_match 149 = .ok (.getfield 98, 3) := dk_180 0 98 (dk_at dksX2_match_6 10 rfl rfl)
theorem dX2_match_152 : decode cX2_match 152 = .ok (.iload 6, 2) := dk_21 6 (dk_at dksX2_match_6 13 rfl rfl)
theorem dX2_match_154 : decode cX2_match 154 = .ok (.iaload, 1) := dk_46 (dk_at dksX2_match_6 15 rfl rfl)
theorem dX2_match_155 : decode cX2_match 155 = .ok (.iastore, 1) := dk_79 (dk_at dksX2_match_6 16 rfl rfl)
theorem dX2_match_156 : decode cX2_match 156 = .ok (.iinc 6 1, 3) := dk_132 6 1 (dk_at dksX2_match_6 17 rfl rfl)
theorem dX2_match_159 : decode cX2_match 159 = .ok (.goto (-23), 3) := dk_167 255 233 (dk_at dksX2_match_6 20 rfl rfl)
theorem dX2_match_162 : decode cX2_match 162 = .ok (.aload_n 0, 1) := dk_42 (dk_at dksX2_match_6 23 rfl rfl)
theorem dX2_match_163 : decode cX2_match 163 = .ok (.invokevirtual 331, 3) := dk_182 1 75 (dk_at dksX2_match_7 0 rfl rfl)
theorem dX2_match_166 : decode cX2_match 166 = .ok (.istore 4, 2) := dk_54 4 (dk_at dksX2_match_7 3 rfl rfl)
theorem dX2_match_168 : decode cX2_match 168 = .ok (.goto (-55), 3) := dk_167 255 201 (dk_at dksX2_match_7 5 rfl rfl)
theorem dX2_match_171 : decode cX2_match 171 = .ok (.iload_n 2, 1) := dk_28 (dk_at dksX2_match_7 8 rfl rfl)
theorem dX2_match_172 : decode cX2_match 172 = .ok (.iconst (-1), 1) := dk_2 (dk_at dksX2_match_7 9 rfl rfl)
theorem dX2_match_173 : decode cX2_match 173 = .ok (.if_icmp .ne 7, 3) := dk_160 0 7 (dk_at dksX2_match_7 10 rfl rfl)
theorem dX2_match_176 : decode cX2_match 176 = .ok (.iload_n 3, 1) := dk_29 (dk_at dksX2_match_7 13 rfl rfl)
theorem dX2_match_177 : decode cX2_match 177 = .ok (.goto 28, 3) := dk_167 0 28 (dk_at dksX2_match_7 14 rfl rfl)
theorem dX2_match_180 : decode cX2_match 180 = .ok (.aload_n 0, 1) := dk_42 (dk_at dksX2_match_7 17 rfl rfl)
theorem dX2_match_181 : decode cX2_match 181 = .ok (.getfield 101, 3) := dk_180 0 101 (dk_at dksX2_match_7 18 rfl rfl)
theorem dX2_match_184 : decode cX2_match 184 = .ok (.iload_n 2, 1) := dk_28 (dk_at dksX2_match_7 21 rfl rfl)
theorem dX2_match_185 : decode cX2_match 185 = .ok (.iaload, 1) := dk_46 (dk_at dksX2_match_7 22 rfl rfl)
theorem dX2_match_186 : decode cX2_match 186 = .ok (.aload_n 0, 1) := dk_42 (dk_at dksX2_match_7 23 rfl rfl)
theorem dX2_match_187 : decode cX2_match 187 = .ok (.getfield 7, 3) := dk_180 0 7 (dk_at dksX2_match_8 0 rfl rfl)
theorem dX2_match_190 : decode cX2_match 190 = .ok (.iconst 0, 1) := dk_3 (dk_at dksX2_match_8 3 rfl rfl)
theorem dX2_match_191 : decode cX2_match 191 = .ok (.iaload, 1) := dk_46 (dk_at dksX2_match_8 4 rfl rfl)
theorem dX2_match_192 : decode cX2_match 192 = .ok (.if_icmp .ne 7, 3) := dk_160 0 7 (dk_at dksX2_match_8 5 rfl rfl)
theorem dX2_match_195 : decode cX2_match 195 = .ok (.iconst (-1), 1) := dk_2 (dk_at dksX2_match_8 8 rfl rfl)
theorem dX2_match_196 : decode cX2_match 196 = .ok (.goto 9, 3) := dk_167 0 9 (dk_at dksX2_match_8 9 rfl rfl)
theorem dX2_match_199 : decode cX2_match 199 = .ok (.aload_n 0, 1) := dk_42 (dk_at dksX2_match_8 12 rfl rfl)
theorem dX2_match_200 : decode cX2_match 200 = .ok (.getfield 101, 3) := dk_180 0 101 (dk_at dksX2_match_8 13 rfl rfl)
theorem dX2_match_203 : decode cX2_match 203 = .ok (.iload_n 2, 1) := dk_28 (dk_at dksX2_match_8 16 rfl rfl)
theorem dX2_match_204 : decode cX2_match 204 = .ok (.iaload, 1) := dk_46 (dk_at dksX2_match_8 17 rfl rfl)
theorem dX2_match_205 : decode cX2_match 205 = .ok (.ireturn, 1) := dk_172 (dk_at dksX2_match_8 18 rfl rfl)
abbrev cX2_keptByLine : ByteArray := prog_18_method_73_code
def yX2_keptByLine : MethodName := ⟨RX2, "keptByLine", "()I"⟩
def dkwX2_keptByLine_5 : List UInt8 := [167, 0, 4, 3, 96, 60, 132, 4, 1, 167, 255, 139, 29, 153, 0, 7, 27, 167, 0, 4, 2, 172]
abbrev dktX2_keptByLine_5 : List UInt8 := dkwX2_keptByLine_5 ++ []
def dkwX2_keptByLine_4 : List UInt8 := [21, 5, 153, 0, 24, 42, 180, 0, 95, 16, 8, 21, 4, 104, 42, 180, 0, 98, 21, 4, 46, 96, 46]
abbrev dktX2_keptByLine_4 : List UInt8 := dkwX2_keptByLine_4 ++ dktX2_keptByLine_5
def dkwX2_keptByLine_3 : List UInt8 := [62, 28, 21, 5, 153, 0, 15, 4, 42, 180, 0, 98, 21, 4, 46, 120, 167, 0, 4, 3, 128, 61, 27]
abbrev dktX2_keptByLine_3 : List UInt8 := dkwX2_keptByLine_3 ++ dktX2_keptByLine_4
def dkwX2_keptByLine_2 : List UInt8 := [21, 5, 153, 0, 17, 28, 42, 180, 0, 98, 21, 4, 46, 184, 0, 165, 154, 0, 7, 4, 167, 0, 4, 3]
abbrev dktX2_keptByLine_2 : List UInt8 := dkwX2_keptByLine_2 ++ dktX2_keptByLine_3
def dkwX2_keptByLine_1 : List UInt8 := [21, 4, 46, 42, 180, 0, 7, 3, 46, 162, 0, 7, 4, 167, 0, 4, 3, 54, 5, 29, 153, 0, 26]
abbrev dktX2_keptByLine_1 : List UInt8 := dkwX2_keptByLine_1 ++ dktX2_keptByLine_2
def dkwX2_keptByLine_0 : List UInt8 := [3, 60, 3, 61, 4, 62, 3, 54, 4, 21, 4, 42, 180, 0, 7, 4, 46, 162, 0, 112, 42, 180, 0, 98]
abbrev dktX2_keptByLine_0 : List UInt8 := dkwX2_keptByLine_0 ++ dktX2_keptByLine_1
theorem dksX2_keptByLine_0 : cX2_keptByLine.data.toList.drop 0 = dktX2_keptByLine_0 := by decide +kernel
theorem dksX2_keptByLine_1 : cX2_keptByLine.data.toList.drop 24 = dktX2_keptByLine_1 := dk_seg dksX2_keptByLine_0 24 rfl rfl
theorem dksX2_keptByLine_2 : cX2_keptByLine.data.toList.drop 47 = dktX2_keptByLine_2 := dk_seg dksX2_keptByLine_1 23 rfl rfl
theorem dksX2_keptByLine_3 : cX2_keptByLine.data.toList.drop 71 = dktX2_keptByLine_3 := dk_seg dksX2_keptByLine_2 24 rfl rfl
theorem dksX2_keptByLine_4 : cX2_keptByLine.data.toList.drop 94 = dktX2_keptByLine_4 := dk_seg dksX2_keptByLine_3 23 rfl rfl
theorem dksX2_keptByLine_5 : cX2_keptByLine.data.toList.drop 117 = dktX2_keptByLine_5 := dk_seg dksX2_keptByLine_4 23 rfl rfl
theorem dX2_keptByLine_0 : decode cX2_keptByLine 0 = .ok (.iconst 0, 1) := dk_3 (dk_at dksX2_keptByLine_0 0 rfl rfl)
theorem dX2_keptByLine_1 : decode cX2_keptByLine 1 = .ok (.istore_n 1, 1) := dk_60 (dk_at dksX2_keptByLine_0 1 rfl rfl)
theorem dX2_keptByLine_2 : decode cX2_keptByLine 2 = .ok (.iconst 0, 1) := dk_3 (dk_at dksX2_keptByLine_0 2 rfl rfl)
theorem dX2_keptByLine_3 : decode cX2_keptByLine 3 = .ok (.istore_n 2, 1) := dk_61 (dk_at dksX2_keptByLine_0 3 rfl rfl)
theorem dX2_keptByLine_4 : decode cX2_keptByLine 4 = .ok (.iconst 1, 1) := dk_4 (dk_at dksX2_keptByLine_0 4 rfl rfl)
theorem dX2_keptByLine_5 : decode cX2_keptByLine 5 = .ok (.istore_n 3, 1) := dk_62 (dk_at dksX2_keptByLine_0 5 rfl rfl)
theorem dX2_keptByLine_6 : decode cX2_keptByLine 6 = .ok (.iconst 0, 1) := dk_3 (dk_at dksX2_keptByLine_0 6 rfl rfl)
theorem dX2_keptByLine_7 : decode cX2_keptByLine 7 = .ok (.istore 4, 2) := dk_54 4 (dk_at dksX2_keptByLine_0 7 rfl rfl)
theorem dX2_keptByLine_9 : decode cX2_keptByLine 9 = .ok (.iload 4, 2) := dk_21 4 (dk_at dksX2_keptByLine_0 9 rfl rfl)
theorem dX2_keptByLine_11 : decode cX2_keptByLine 11 = .ok (.aload_n 0, 1) := dk_42 (dk_at dksX2_keptByLine_0 11 rfl rfl)
theorem dX2_keptByLine_12 : decode cX2_keptByLine 12 = .ok (.getfield 7, 3) := dk_180 0 7 (dk_at dksX2_keptByLine_0 12 rfl rfl)
theorem dX2_keptByLine_15 : decode cX2_keptByLine 15 = .ok (.iconst 1, 1) := dk_4 (dk_at dksX2_keptByLine_0 15 rfl rfl)
theorem dX2_keptByLine_16 : decode cX2_keptByLine 16 = .ok (.iaload, 1) := dk_46 (dk_at dksX2_keptByLine_0 16 rfl rfl)
theorem dX2_keptByLine_17 : decode cX2_keptByLine 17 = .ok (.if_icmp .ge 112, 3) := dk_162 0 112 (dk_at dksX2_keptByLine_0 17 rfl rfl)
theorem dX2_keptByLine_20 : decode cX2_keptByLine 20 = .ok (.aload_n 0, 1) := dk_42 (dk_at dksX2_keptByLine_0 20 rfl rfl)
theorem dX2_keptByLine_21 : decode cX2_keptByLine 21 = .ok (.getfield 98, 3) := dk_180 0 98 (dk_at dksX2_keptByLine_0 21 rfl rfl)
theorem dX2_keptByLine_24 : decode cX2_keptByLine 24 = .ok (.iload 4, 2) := dk_21 4 (dk_at dksX2_keptByLine_1 0 rfl rfl)
theorem dX2_keptByLine_26 : decode cX2_keptByLine 26 = .ok (.iaload, 1) := dk_46 (dk_at dksX2_keptByLine_1 2 rfl rfl)
theorem dX2_keptByLine_27 : decode cX2_keptByLine 27 = .ok (.aload_n 0, 1) := dk_42 (dk_at dksX2_keptByLine_1 3 rfl rfl)
theorem dX2_keptByLine_28 : decode cX2_keptByLine 28 = .ok (.getfield 7, 3) := dk_180 0 7 (dk_at dksX2_keptByLine_1 4 rfl rfl)
theorem dX2_keptByLine_31 : decode cX2_keptByLine 31 = .ok (.iconst 0, 1) := dk_3 (dk_at dksX2_keptByLine_1 7 rfl rfl)
theorem dX2_keptByLine_32 : decode cX2_keptByLine 32 = .ok (.iaload, 1) := dk_46 (dk_at dksX2_keptByLine_1 8 rfl rfl)
theorem dX2_keptByLine_33 : decode cX2_keptByLine 33 = .ok (.if_icmp .ge 7, 3) := dk_162 0 7 (dk_at dksX2_keptByLine_1 9 rfl rfl)
theorem dX2_keptByLine_36 : decode cX2_keptByLine 36 = .ok (.iconst 1, 1) := dk_4 (dk_at dksX2_keptByLine_1 12 rfl rfl)
theorem dX2_keptByLine_37 : decode cX2_keptByLine 37 = .ok (.goto 4, 3) := dk_167 0 4 (dk_at dksX2_keptByLine_1 13 rfl rfl)
theorem dX2_keptByLine_40 : decode cX2_keptByLine 40 = .ok (.iconst 0, 1) := dk_3 (dk_at dksX2_keptByLine_1 16 rfl rfl)
theorem dX2_keptByLine_41 : decode cX2_keptByLine 41 = .ok (.istore 5, 2) := dk_54 5 (dk_at dksX2_keptByLine_1 17 rfl rfl)
theorem dX2_keptByLine_43 : decode cX2_keptByLine 43 = .ok (.iload_n 3, 1) := dk_29 (dk_at dksX2_keptByLine_1 19 rfl rfl)
theorem dX2_keptByLine_44 : decode cX2_keptByLine 44 = .ok (.ifCond .eq 26, 3) := dk_153 0 26 (dk_at dksX2_keptByLine_1 20 rfl rfl)
theorem dX2_keptByLine_47 : decode cX2_keptByLine 47 = .ok (.iload 5, 2) := dk_21 5 (dk_at dksX2_keptByLine_2 0 rfl rfl)
theorem dX2_keptByLine_49 : decode cX2_keptByLine 49 = .ok (.ifCond .eq 17, 3) := dk_153 0 17 (dk_at dksX2_keptByLine_2 2 rfl rfl)
theorem dX2_keptByLine_52 : decode cX2_keptByLine 52 = .ok (.iload_n 2, 1) := dk_28 (dk_at dksX2_keptByLine_2 5 rfl rfl)
theorem dX2_keptByLine_53 : decode cX2_keptByLine 53 = .ok (.aload_n 0, 1) := dk_42 (dk_at dksX2_keptByLine_2 6 rfl rfl)
theorem dX2_keptByLine_54 : decode cX2_keptByLine 54 = .ok (.getfield 98, 3) := dk_180 0 98 (dk_at dksX2_keptByLine_2 7 rfl rfl)
theorem dX2_keptByLine_57 : decode cX2_keptByLine 57 = .ok (.iload 4, 2) := dk_21 4 (dk_at dksX2_keptByLine_2 10 rfl rfl)
theorem dX2_keptByLine_59 : decode cX2_keptByLine 59 = .ok (.iaload, 1) := dk_46 (dk_at dksX2_keptByLine_2 12 rfl rfl)
theorem dX2_keptByLine_60 : decode cX2_keptByLine 60 = .ok (.invokestatic 165, 3) := dk_184 0 165 (dk_at dksX2_keptByLine_2 13 rfl rfl)
theorem dX2_keptByLine_63 : decode cX2_keptByLine 63 = .ok (.ifCond .ne 7, 3) := dk_154 0 7 (dk_at dksX2_keptByLine_2 16 rfl rfl)
theorem dX2_keptByLine_66 : decode cX2_keptByLine 66 = .ok (.iconst 1, 1) := dk_4 (dk_at dksX2_keptByLine_2 19 rfl rfl)
theorem dX2_keptByLine_67 : decode cX2_keptByLine 67 = .ok (.goto 4, 3) := dk_167 0 4 (dk_at dksX2_keptByLine_2 20 rfl rfl)
theorem dX2_keptByLine_70 : decode cX2_keptByLine 70 = .ok (.iconst 0, 1) := dk_3 (dk_at dksX2_keptByLine_2 23 rfl rfl)
theorem dX2_keptByLine_71 : decode cX2_keptByLine 71 = .ok (.istore_n 3, 1) := dk_62 (dk_at dksX2_keptByLine_3 0 rfl rfl)
theorem dX2_keptByLine_72 : decode cX2_keptByLine 72 = .ok (.iload_n 2, 1) := dk_28 (dk_at dksX2_keptByLine_3 1 rfl rfl)
theorem dX2_keptByLine_73 : decode cX2_keptByLine 73 = .ok (.iload 5, 2) := dk_21 5 (dk_at dksX2_keptByLine_3 2 rfl rfl)
theorem dX2_keptByLine_75 : decode cX2_keptByLine 75 = .ok (.ifCond .eq 15, 3) := dk_153 0 15 (dk_at dksX2_keptByLine_3 4 rfl rfl)
theorem dX2_keptByLine_78 : decode cX2_keptByLine 78 = .ok (.iconst 1, 1) := dk_4 (dk_at dksX2_keptByLine_3 7 rfl rfl)
theorem dX2_keptByLine_79 : decode cX2_keptByLine 79 = .ok (.aload_n 0, 1) := dk_42 (dk_at dksX2_keptByLine_3 8 rfl rfl)
theorem dX2_keptByLine_80 : decode cX2_keptByLine 80 = .ok (.getfield 98, 3) := dk_180 0 98 (dk_at dksX2_keptByLine_3 9 rfl rfl)
theorem dX2_keptByLine_83 : decode cX2_keptByLine 83 = .ok (.iload 4, 2) := dk_21 4 (dk_at dksX2_keptByLine_3 12 rfl rfl)
theorem dX2_keptByLine_85 : decode cX2_keptByLine 85 = .ok (.iaload, 1) := dk_46 (dk_at dksX2_keptByLine_3 14 rfl rfl)
theorem dX2_keptByLine_86 : decode cX2_keptByLine 86 = .ok (.ishl, 1) := dk_120 (dk_at dksX2_keptByLine_3 15 rfl rfl)
theorem dX2_keptByLine_87 : decode cX2_keptByLine 87 = .ok (.goto 4, 3) := dk_167 0 4 (dk_at dksX2_keptByLine_3 16 rfl rfl)
theorem dX2_keptByLine_90 : decode cX2_keptByLine 90 = .ok (.iconst 0, 1) := dk_3 (dk_at dksX2_keptByLine_3 19 rfl rfl)
theorem dX2_keptByLine_91 : decode cX2_keptByLine 91 = .ok (.ior, 1) := dk_128 (dk_at dksX2_keptByLine_3 20 rfl rfl)
theorem dX2_keptByLine_92 : decode cX2_keptByLine 92 = .ok (.istore_n 2, 1) := dk_61 (dk_at dksX2_keptByLine_3 21 rfl rfl)
theorem dX2_keptByLine_93 : decode cX2_keptByLine 93 = .ok (.iload_n 1, 1) := dk_27 (dk_at dksX2_keptByLine_3 22 rfl rfl)
theorem dX2_keptByLine_94 : decode cX2_keptByLine 94 = .ok (.iload 5, 2) := dk_21 5 (dk_at dksX2_keptByLine_4 0 rfl rfl)
theorem dX2_keptByLine_96 : decode cX2_keptByLine 96 = .ok (.ifCond .eq 24, 3) := dk_153 0 24 (dk_at dksX2_keptByLine_4 2 rfl rfl)
theorem dX2_keptByLine_99 : decode cX2_keptByLine 99 = .ok (.aload_n 0, 1) := dk_42 (dk_at dksX2_keptByLine_4 5 rfl rfl)
theorem dX2_keptByLine_100 : decode cX2_keptByLine 100 = .ok (.getfield 95, 3) := dk_180 0 95 (dk_at dksX2_keptByLine_4 6 rfl rfl)
theorem dX2_keptByLine_103 : decode cX2_keptByLine 103 = .ok (.bipush 8, 2) := dk_16 8 (dk_at dksX2_keptByLine_4 9 rfl rfl)
theorem dX2_keptByLine_105 : decode cX2_keptByLine 105 = .ok (.iload 4, 2) := dk_21 4 (dk_at dksX2_keptByLine_4 11 rfl rfl)
theorem dX2_keptByLine_107 : decode cX2_keptByLine 107 = .ok (.imul, 1) := dk_104 (dk_at dksX2_keptByLine_4 13 rfl rfl)
theorem dX2_keptByLine_108 : decode cX2_keptByLine 108 = .ok (.aload_n 0, 1) := dk_42 (dk_at dksX2_keptByLine_4 14 rfl rfl)
theorem dX2_keptByLine_109 : decode cX2_keptByLine 109 = .ok (.getfield 98, 3) := dk_180 0 98 (dk_at dksX2_keptByLine_4 15 rfl rfl)
theorem dX2_keptByLine_112 : decode cX2_keptByLine 112 = .ok (.iload 4, 2) := dk_21 4 (dk_at dksX2_keptByLine_4 18 rfl rfl)
theorem dX2_keptByLine_114 : decode cX2_keptByLine 114 = .ok (.iaload, 1) := dk_46 (dk_at dksX2_keptByLine_4 20 rfl rfl)
theorem dX2_keptByLine_115 : decode cX2_keptByLine 115 = .ok (.iadd, 1) := dk_96 (dk_at dksX2_keptByLine_4 21 rfl rfl)
theorem dX2_keptByLine_116 : decode cX2_keptByLine 116 = .ok (.iaload, 1) := dk_46 (dk_at dksX2_keptByLine_4 22 rfl rfl)
theorem dX2_keptByLine_117 : decode cX2_keptByLine 117 = .ok (.goto 4, 3) := dk_167 0 4 (dk_at dksX2_keptByLine_5 0 rfl rfl)
theorem dX2_keptByLine_120 : decode cX2_keptByLine 120 = .ok (.iconst 0, 1) := dk_3 (dk_at dksX2_keptByLine_5 3 rfl rfl)
theorem dX2_keptByLine_121 : decode cX2_keptByLine 121 = .ok (.iadd, 1) := dk_96 (dk_at dksX2_keptByLine_5 4 rfl rfl)
theorem dX2_keptByLine_122 : decode cX2_keptByLine 122 = .ok (.istore_n 1, 1) := dk_60 (dk_at dksX2_keptByLine_5 5 rfl rfl)
theorem dX2_keptByLine_123 : decode cX2_keptByLine 123 = .ok (.iinc 4 1, 3) := dk_132 4 1 (dk_at dksX2_keptByLine_5 6 rfl rfl)
theorem dX2_keptByLine_126 : decode cX2_keptByLine 126 = .ok (.goto (-117), 3) := dk_167 255 139 (dk_at dksX2_keptByLine_5 9 rfl rfl)
theorem dX2_keptByLine_129 : decode cX2_keptByLine 129 = .ok (.iload_n 3, 1) := dk_29 (dk_at dksX2_keptByLine_5 12 rfl rfl)
theorem dX2_keptByLine_130 : decode cX2_keptByLine 130 = .ok (.ifCond .eq 7, 3) := dk_153 0 7 (dk_at dksX2_keptByLine_5 13 rfl rfl)
theorem dX2_keptByLine_133 : decode cX2_keptByLine 133 = .ok (.iload_n 1, 1) := dk_27 (dk_at dksX2_keptByLine_5 16 rfl rfl)
theorem dX2_keptByLine_134 : decode cX2_keptByLine 134 = .ok (.goto 4, 3) := dk_167 0 4 (dk_at dksX2_keptByLine_5 17 rfl rfl)
theorem dX2_keptByLine_137 : decode cX2_keptByLine 137 = .ok (.iconst (-1), 1) := dk_2 (dk_at dksX2_keptByLine_5 20 rfl rfl)
theorem dX2_keptByLine_138 : decode cX2_keptByLine 138 = .ok (.ireturn, 1) := dk_172 (dk_at dksX2_keptByLine_5 21 rfl rfl)
abbrev cX2_nextLine : ByteArray := prog_18_method_74_code
def yX2_nextLine : MethodName := ⟨RX2, "nextLine", "()Z"⟩
def dkwX2_nextLine_2 : List UInt8 := [180, 0, 98, 27, 92, 46, 4, 96, 79, 27, 155, 0, 7, 4, 167, 0, 4, 3, 172]
abbrev dktX2_nextLine_2 : List UInt8 := dkwX2_nextLine_2 ++ []
def dkwX2_nextLine_1 : List UInt8 := [46, 160, 0, 16, 42, 180, 0, 98, 27, 3, 79, 132, 1, 255, 167, 255, 227, 27, 155, 0, 13, 42]
abbrev dktX2_nextLine_1 : List UInt8 := dkwX2_nextLine_1 ++ dktX2_nextLine_2
def dkwX2_nextLine_0 : List UInt8 := [42, 180, 0, 7, 4, 46, 4, 100, 60, 27, 155, 0, 31, 42, 180, 0, 98, 27, 46, 42, 180, 0, 7, 3]
abbrev dktX2_nextLine_0 : List UInt8 := dkwX2_nextLine_0 ++ dktX2_nextLine_1
theorem dksX2_nextLine_0 : cX2_nextLine.data.toList.drop 0 = dktX2_nextLine_0 := by decide +kernel
theorem dksX2_nextLine_1 : cX2_nextLine.data.toList.drop 24 = dktX2_nextLine_1 := dk_seg dksX2_nextLine_0 24 rfl rfl
theorem dksX2_nextLine_2 : cX2_nextLine.data.toList.drop 46 = dktX2_nextLine_2 := dk_seg dksX2_nextLine_1 22 rfl rfl
theorem dX2_nextLine_0 : decode cX2_nextLine 0 = .ok (.aload_n 0, 1) := dk_42 (dk_at dksX2_nextLine_0 0 rfl rfl)
theorem dX2_nextLine_1 : decode cX2_nextLine 1 = .ok (.getfield 7, 3) := dk_180 0 7 (dk_at dksX2_nextLine_0 1 rfl rfl)
theorem dX2_nextLine_4 : decode cX2_nextLine 4 = .ok (.iconst 1, 1) := dk_4 (dk_at dksX2_nextLine_0 4 rfl rfl)
theorem dX2_nextLine_5 : decode cX2_nextLine 5 = .ok (.iaload, 1) := dk_46 (dk_at dksX2_nextLine_0 5 rfl rfl)
theorem dX2_nextLine_6 : decode cX2_nextLine 6 = .ok (.iconst 1, 1) := dk_4 (dk_at dksX2_nextLine_0 6 rfl rfl)
theorem dX2_nextLine_7 : decode cX2_nextLine 7 = .ok (.isub, 1) := dk_100 (dk_at dksX2_nextLine_0 7 rfl rfl)
theorem dX2_nextLine_8 : decode cX2_nextLine 8 = .ok (.istore_n 1, 1) := dk_60 (dk_at dksX2_nextLine_0 8 rfl rfl)
theorem dX2_nextLine_9 : decode cX2_nextLine 9 = .ok (.iload_n 1, 1) := dk_27 (dk_at dksX2_nextLine_0 9 rfl rfl)
theorem dX2_nextLine_10 : decode cX2_nextLine 10 = .ok (.ifCond .lt 31, 3) := dk_155 0 31 (dk_at dksX2_nextLine_0 10 rfl rfl)
theorem dX2_nextLine_13 : decode cX2_nextLine 13 = .ok (.aload_n 0, 1) := dk_42 (dk_at dksX2_nextLine_0 13 rfl rfl)
theorem dX2_nextLine_14 : decode cX2_nextLine 14 = .ok (.getfield 98, 3) := dk_180 0 98 (dk_at dksX2_nextLine_0 14 rfl rfl)
theorem dX2_nextLine_17 : decode cX2_nextLine 17 = .ok (.iload_n 1, 1) := dk_27 (dk_at dksX2_nextLine_0 17 rfl rfl)
theorem dX2_nextLine_18 : decode cX2_nextLine 18 = .ok (.iaload, 1) := dk_46 (dk_at dksX2_nextLine_0 18 rfl rfl)
theorem dX2_nextLine_19 : decode cX2_nextLine 19 = .ok (.aload_n 0, 1) := dk_42 (dk_at dksX2_nextLine_0 19 rfl rfl)
theorem dX2_nextLine_20 : decode cX2_nextLine 20 = .ok (.getfield 7, 3) := dk_180 0 7 (dk_at dksX2_nextLine_0 20 rfl rfl)
theorem dX2_nextLine_23 : decode cX2_nextLine 23 = .ok (.iconst 0, 1) := dk_3 (dk_at dksX2_nextLine_0 23 rfl rfl)
theorem dX2_nextLine_24 : decode cX2_nextLine 24 = .ok (.iaload, 1) := dk_46 (dk_at dksX2_nextLine_1 0 rfl rfl)
theorem dX2_nextLine_25 : decode cX2_nextLine 25 = .ok (.if_icmp .ne 16, 3) := dk_160 0 16 (dk_at dksX2_nextLine_1 1 rfl rfl)
theorem dX2_nextLine_28 : decode cX2_nextLine 28 = .ok (.aload_n 0, 1) := dk_42 (dk_at dksX2_nextLine_1 4 rfl rfl)
theorem dX2_nextLine_29 : decode cX2_nextLine 29 = .ok (.getfield 98, 3) := dk_180 0 98 (dk_at dksX2_nextLine_1 5 rfl rfl)
theorem dX2_nextLine_32 : decode cX2_nextLine 32 = .ok (.iload_n 1, 1) := dk_27 (dk_at dksX2_nextLine_1 8 rfl rfl)
theorem dX2_nextLine_33 : decode cX2_nextLine 33 = .ok (.iconst 0, 1) := dk_3 (dk_at dksX2_nextLine_1 9 rfl rfl)
theorem dX2_nextLine_34 : decode cX2_nextLine 34 = .ok (.iastore, 1) := dk_79 (dk_at dksX2_nextLine_1 10 rfl rfl)
theorem dX2_nextLine_35 : decode cX2_nextLine 35 = .ok (.iinc 1 (-1), 3) := dk_132 1 255 (dk_at dksX2_nextLine_1 11 rfl rfl)
theorem dX2_nextLine_38 : decode cX2_nextLine 38 = .ok (.goto (-29), 3) := dk_167 255 227 (dk_at dksX2_nextLine_1 14 rfl rfl)
theorem dX2_nextLine_41 : decode cX2_nextLine 41 = .ok (.iload_n 1, 1) := dk_27 (dk_at dksX2_nextLine_1 17 rfl rfl)
theorem dX2_nextLine_42 : decode cX2_nextLine 42 = .ok (.ifCond .lt 13, 3) := dk_155 0 13 (dk_at dksX2_nextLine_1 18 rfl rfl)
theorem dX2_nextLine_45 : decode cX2_nextLine 45 = .ok (.aload_n 0, 1) := dk_42 (dk_at dksX2_nextLine_1 21 rfl rfl)
theorem dX2_nextLine_46 : decode cX2_nextLine 46 = .ok (.getfield 98, 3) := dk_180 0 98 (dk_at dksX2_nextLine_2 0 rfl rfl)
theorem dX2_nextLine_49 : decode cX2_nextLine 49 = .ok (.iload_n 1, 1) := dk_27 (dk_at dksX2_nextLine_2 3 rfl rfl)
theorem dX2_nextLine_50 : decode cX2_nextLine 50 = .ok (.dup2, 1) := dk_92 (dk_at dksX2_nextLine_2 4 rfl rfl)
theorem dX2_nextLine_51 : decode cX2_nextLine 51 = .ok (.iaload, 1) := dk_46 (dk_at dksX2_nextLine_2 5 rfl rfl)
theorem dX2_nextLine_52 : decode cX2_nextLine 52 = .ok (.iconst 1, 1) := dk_4 (dk_at dksX2_nextLine_2 6 rfl rfl)
theorem dX2_nextLine_53 : decode cX2_nextLine 53 = .ok (.iadd, 1) := dk_96 (dk_at dksX2_nextLine_2 7 rfl rfl)
theorem dX2_nextLine_54 : decode cX2_nextLine 54 = .ok (.iastore, 1) := dk_79 (dk_at dksX2_nextLine_2 8 rfl rfl)
theorem dX2_nextLine_55 : decode cX2_nextLine 55 = .ok (.iload_n 1, 1) := dk_27 (dk_at dksX2_nextLine_2 9 rfl rfl)
theorem dX2_nextLine_56 : decode cX2_nextLine 56 = .ok (.ifCond .lt 7, 3) := dk_155 0 7 (dk_at dksX2_nextLine_2 10 rfl rfl)
theorem dX2_nextLine_59 : decode cX2_nextLine 59 = .ok (.iconst 1, 1) := dk_4 (dk_at dksX2_nextLine_2 13 rfl rfl)
theorem dX2_nextLine_60 : decode cX2_nextLine 60 = .ok (.goto 4, 3) := dk_167 0 4 (dk_at dksX2_nextLine_2 14 rfl rfl)
theorem dX2_nextLine_63 : decode cX2_nextLine 63 = .ok (.iconst 0, 1) := dk_3 (dk_at dksX2_nextLine_2 17 rfl rfl)
theorem dX2_nextLine_64 : decode cX2_nextLine 64 = .ok (.ireturn, 1) := dk_172 (dk_at dksX2_nextLine_2 18 rfl rfl)
abbrev cX2_clean : ByteArray := prog_18_method_76_code
def yX2_clean : MethodName := ⟨RX2, "clean", "(III)I"⟩
def dkwX2_clean_6 : List UInt8 := [167, 255, 163, 21, 4, 172]
abbrev dktX2_clean_6 : List UInt8 := dkwX2_clean_6 ++ []
def dkwX2_clean_5 : List UInt8 := [16, 10, 27, 104, 96, 28, 96, 46, 8, 162, 0, 8, 21, 6, 167, 0, 5, 21, 4, 54, 4, 132, 6, 1]
abbrev dktX2_clean_5 : List UInt8 := dkwX2_clean_5 ++ dktX2_clean_6
def dkwX2_clean_4 : List UInt8 := [180, 0, 7, 17, 5, 19, 92, 46, 21, 6, 128, 79, 42, 29, 182, 1, 45, 42, 180, 0, 7, 17, 5, 36]
abbrev dktX2_clean_4 : List UInt8 := dkwX2_clean_4 ++ dktX2_clean_5
def dkwX2_clean_3 : List UInt8 := [21, 4, 2, 159, 0, 16, 21, 6, 184, 1, 64, 21, 4, 184, 1, 64, 162, 0, 53, 42, 182, 1, 42, 42]
abbrev dktX2_clean_3 : List UInt8 := dkwX2_clean_3 ++ dktX2_clean_4
def dkwX2_clean_2 : List UInt8 := [3, 54, 6, 21, 6, 4, 42, 180, 0, 7, 3, 46, 120, 162, 0, 86, 21, 6, 21, 5, 126, 154, 0, 72]
abbrev dktX2_clean_2 : List UInt8 := dkwX2_clean_2 ++ dktX2_clean_3
def dkwX2_clean_1 : List UInt8 := [184, 0, 109, 154, 0, 6, 16, 253, 172, 2, 54, 4, 42, 180, 0, 7, 6, 46, 4, 27, 120, 128, 54, 5]
abbrev dktX2_clean_1 : List UInt8 := dkwX2_clean_1 ++ dktX2_clean_2
def dkwX2_clean_0 : List UInt8 := [42, 27, 182, 0, 234, 153, 0, 10, 28, 184, 1, 37, 154, 0, 6, 16, 254, 172, 29, 133, 10, 20, 1, 67]
abbrev dktX2_clean_0 : List UInt8 := dkwX2_clean_0 ++ dktX2_clean_1
theorem dksX2_clean_0 : cX2_clean.data.toList.drop 0 = dktX2_clean_0 := by decide +kernel
theorem dksX2_clean_1 : cX2_clean.data.toList.drop 24 = dktX2_clean_1 := dk_seg dksX2_clean_0 24 rfl rfl
theorem dksX2_clean_2 : cX2_clean.data.toList.drop 48 = dktX2_clean_2 := dk_seg dksX2_clean_1 24 rfl rfl
theorem dksX2_clean_3 : cX2_clean.data.toList.drop 72 = dktX2_clean_3 := dk_seg dksX2_clean_2 24 rfl rfl
theorem dksX2_clean_4 : cX2_clean.data.toList.drop 96 = dktX2_clean_4 := dk_seg dksX2_clean_3 24 rfl rfl
theorem dksX2_clean_5 : cX2_clean.data.toList.drop 120 = dktX2_clean_5 := dk_seg dksX2_clean_4 24 rfl rfl
theorem dksX2_clean_6 : cX2_clean.data.toList.drop 144 = dktX2_clean_6 := dk_seg dksX2_clean_5 24 rfl rfl
theorem dX2_clean_0 : decode cX2_clean 0 = .ok (.aload_n 0, 1) := dk_42 (dk_at dksX2_clean_0 0 rfl rfl)
theorem dX2_clean_1 : decode cX2_clean 1 = .ok (.iload_n 1, 1) := dk_27 (dk_at dksX2_clean_0 1 rfl rfl)
theorem dX2_clean_2 : decode cX2_clean 2 = .ok (.invokevirtual 234, 3) := dk_182 0 234 (dk_at dksX2_clean_0 2 rfl rfl)
theorem dX2_clean_5 : decode cX2_clean 5 = .ok (.ifCond .eq 10, 3) := dk_153 0 10 (dk_at dksX2_clean_0 5 rfl rfl)
theorem dX2_clean_8 : decode cX2_clean 8 = .ok (.iload_n 2, 1) := dk_28 (dk_at dksX2_clean_0 8 rfl rfl)
theorem dX2_clean_9 : decode cX2_clean 9 = .ok (.invokestatic 293, 3) := dk_184 1 37 (dk_at dksX2_clean_0 9 rfl rfl)
theorem dX2_clean_12 : decode cX2_clean 12 = .ok (.ifCond .ne 6, 3) := dk_154 0 6 (dk_at dksX2_clean_0 12 rfl rfl)
theorem dX2_clean_15 : decode cX2_clean 15 = .ok (.bipush (-2), 2) := dk_16 254 (dk_at dksX2_clean_0 15 rfl rfl)
theorem dX2_clean_17 : decode cX2_clean 17 = .ok (.ireturn, 1) := dk_172 (dk_at dksX2_clean_0 17 rfl rfl)
theorem dX2_clean_18 : decode cX2_clean 18 = .ok (.iload_n 3, 1) := dk_29 (dk_at dksX2_clean_0 18 rfl rfl)
theorem dX2_clean_19 : decode cX2_clean 19 = .ok (.i2l, 1) := dk_133 (dk_at dksX2_clean_0 19 rfl rfl)
theorem dX2_clean_20 : decode cX2_clean 20 = .ok (.lconst 1, 1) := dk_10 (dk_at dksX2_clean_0 20 rfl rfl)
theorem dX2_clean_21 : decode cX2_clean 21 = .ok (.ldc2_w 323, 3) := dk_20 1 67 (dk_at dksX2_clean_0 21 rfl rfl)
theorem dX2_clean_24 : decode cX2_clean 24 = .ok (.invokestatic 109, 3) := dk_184 0 109 (dk_at dksX2_clean_1 0 rfl rfl)
theorem dX2_clean_27 : decode cX2_clean 27 = .ok (.ifCond .ne 6, 3) := dk_154 0 6 (dk_at dksX2_clean_1 3 rfl rfl)
theorem dX2_clean_30 : decode cX2_clean 30 = .ok (.bipush (-3), 2) := dk_16 253 (dk_at dksX2_clean_1 6 rfl rfl)
theorem dX2_clean_32 : decode cX2_clean 32 = .ok (.ireturn, 1) := dk_172 (dk_at dksX2_clean_1 8 rfl rfl)
theorem dX2_clean_33 : decode cX2_clean 33 = .ok (.iconst (-1), 1) := dk_2 (dk_at dksX2_clean_1 9 rfl rfl)
theorem dX2_clean_34 : decode cX2_clean 34 = .ok (.istore 4, 2) := dk_54 4 (dk_at dksX2_clean_1 10 rfl rfl)
theorem dX2_clean_36 : decode cX2_clean 36 = .ok (.aload_n 0, 1) := dk_42 (dk_at dksX2_clean_1 12 rfl rfl)
theorem dX2_clean_37 : decode cX2_clean 37 = .ok (.getfield 7, 3) := dk_180 0 7 (dk_at dksX2_clean_1 13 rfl rfl)
theorem dX2_clean_40 : decode cX2_clean 40 = .ok (.iconst 3, 1) := dk_6 (dk_at dksX2_clean_1 16 rfl rfl)
theorem dX2_clean_41 : decode cX2_clean 41 = .ok (.iaload, 1) := dk_46 (dk_at dksX2_clean_1 17 rfl rfl)
theorem dX2_clean_42 : decode cX2_clean 42 = .ok (.iconst 1, 1) := dk_4 (dk_at dksX2_clean_1 18 rfl rfl)
theorem dX2_clean_43 : decode cX2_clean 43 = .ok (.iload_n 1, 1) := dk_27 (dk_at dksX2_clean_1 19 rfl rfl)
theorem dX2_clean_44 : decode cX2_clean 44 = .ok (.ishl, 1) := dk_120 (dk_at dksX2_clean_1 20 rfl rfl)
theorem dX2_clean_45 : decode cX2_clean 45 = .ok (.ior, 1) := dk_128 (dk_at dksX2_clean_1 21 rfl rfl)
theorem dX2_clean_46 : decode cX2_clean 46 = .ok (.istore 5, 2) := dk_54 5 (dk_at dksX2_clean_1 22 rfl rfl)
theorem dX2_clean_48 : decode cX2_clean 48 = .ok (.iconst 0, 1) := dk_3 (dk_at dksX2_clean_2 0 rfl rfl)
theorem dX2_clean_49 : decode cX2_clean 49 = .ok (.istore 6, 2) := dk_54 6 (dk_at dksX2_clean_2 1 rfl rfl)
theorem dX2_clean_51 : decode cX2_clean 51 = .ok (.iload 6, 2) := dk_21 6 (dk_at dksX2_clean_2 3 rfl rfl)
theorem dX2_clean_53 : decode cX2_clean 53 = .ok (.iconst 1, 1) := dk_4 (dk_at dksX2_clean_2 5 rfl rfl)
theorem dX2_clean_54 : decode cX2_clean 54 = .ok (.aload_n 0, 1) := dk_42 (dk_at dksX2_clean_2 6 rfl rfl)
theorem dX2_clean_55 : decode cX2_clean 55 = .ok (.getfield 7, 3) := dk_180 0 7 (dk_at dksX2_clean_2 7 rfl rfl)
theorem dX2_clean_58 : decode cX2_clean 58 = .ok (.iconst 0, 1) := dk_3 (dk_at dksX2_clean_2 10 rfl rfl)
theorem dX2_clean_59 : decode cX2_clean 59 = .ok (.iaload, 1) := dk_46 (dk_at dksX2_clean_2 11 rfl rfl)
theorem dX2_clean_60 : decode cX2_clean 60 = .ok (.ishl, 1) := dk_120 (dk_at dksX2_clean_2 12 rfl rfl)
theorem dX2_clean_61 : decode cX2_clean 61 = .ok (.if_icmp .ge 86, 3) := dk_162 0 86 (dk_at dksX2_clean_2 13 rfl rfl)
theorem dX2_clean_64 : decode cX2_clean 64 = .ok (.iload 6, 2) := dk_21 6 (dk_at dksX2_clean_2 16 rfl rfl)
theorem dX2_clean_66 : decode cX2_clean 66 = .ok (.iload 5, 2) := dk_21 5 (dk_at dksX2_clean_2 18 rfl rfl)
theorem dX2_clean_68 : decode cX2_clean 68 = .ok (.iand, 1) := dk_126 (dk_at dksX2_clean_2 20 rfl rfl)
theorem dX2_clean_69 : decode cX2_clean 69 = .ok (.ifCond .ne 72, 3) := dk_154 0 72 (dk_at dksX2_clean_2 21 rfl rfl)
theorem dX2_clean_72 : decode cX2_clean 72 = .ok (.iload 4, 2) := dk_21 4 (dk_at dksX2_clean_3 0 rfl rfl)
theorem dX2_clean_74 : decode cX2_clean 74 = .ok (.iconst (-1), 1) := dk_2 (dk_at dksX2_clean_3 2 rfl rfl)
theorem dX2_clean_75 : decode cX2_clean 75 = .ok (.if_icmp .eq 16, 3) := dk_159 0 16 (dk_at dksX2_clean_3 3 rfl rfl)
theorem dX2_clean_78 : decode cX2_clean 78 = .ok (.iload 6, 2) := dk_21 6 (dk_at dksX2_clean_3 6 rfl rfl)
theorem dX2_clean_80 : decode cX2_clean 80 = .ok (.invokestatic 320, 3) := dk_184 1 64 (dk_at dksX2_clean_3 8 rfl rfl)
theorem dX2_clean_83 : decode cX2_clean 83 = .ok (.iload 4, 2) := dk_21 4 (dk_at dksX2_clean_3 11 rfl rfl)
theorem dX2_clean_85 : decode cX2_clean 85 = .ok (.invokestatic 320, 3) := dk_184 1 64 (dk_at dksX2_clean_3 13 rfl rfl)
theorem dX2_clean_88 : decode cX2_clean 88 = .ok (.if_icmp .ge 53, 3) := dk_162 0 53 (dk_at dksX2_clean_3 16 rfl rfl)
theorem dX2_clean_91 : decode cX2_clean 91 = .ok (.aload_n 0, 1) := dk_42 (dk_at dksX2_clean_3 19 rfl rfl)
theorem dX2_clean_92 : decode cX2_clean 92 = .ok (.invokevirtual 298, 3) := dk_182 1 42 (dk_at dksX2_clean_3 20 rfl rfl)
theorem dX2_clean_95 : decode cX2_clean 95 = .ok (.aload_n 0, 1) := dk_42 (dk_at dksX2_clean_3 23 rfl rfl)
theorem dX2_clean_96 : decode cX2_clean 96 = .ok (.getfield 7, 3) := dk_180 0 7 (dk_at dksX2_clean_4 0 rfl rfl)
theorem dX2_clean_99 : decode cX2_clean 99 = .ok (.sipush 1299, 3) := dk_17 5 19 (dk_at dksX2_clean_4 3 rfl rfl)
theorem dX2_clean_102 : decode cX2_clean 102 = .ok (.dup2, 1) := dk_92 (dk_at dksX2_clean_4 6 rfl rfl)
theorem dX2_clean_103 : decode cX2_clean 103 = .ok (.iaload, 1) := dk_46 (dk_at dksX2_clean_4 7 rfl rfl)
theorem dX2_clean_104 : decode cX2_clean 104 = .ok (.iload 6, 2) := dk_21 6 (dk_at dksX2_clean_4 8 rfl rfl)
theorem dX2_clean_106 : decode cX2_clean 106 = .ok (.ior, 1) := dk_128 (dk_at dksX2_clean_4 10 rfl rfl)
theorem dX2_clean_107 : decode cX2_clean 107 = .ok (.iastore, 1) := dk_79 (dk_at dksX2_clean_4 11 rfl rfl)
theorem dX2_clean_108 : decode cX2_clean 108 = .ok (.aload_n 0, 1) := dk_42 (dk_at dksX2_clean_4 12 rfl rfl)
theorem dX2_clean_109 : decode cX2_clean 109 = .ok (.iload_n 3, 1) := dk_29 (dk_at dksX2_clean_4 13 rfl rfl)
theorem dX2_clean_110 : decode cX2_clean 110 = .ok (.invokevirtual 301, 3) := dk_182 1 45 (dk_at dksX2_clean_4 14 rfl rfl)
theorem dX2_clean_113 : decode cX2_clean 113 = .ok (.aload_n 0, 1) := dk_42 (dk_at dksX2_clean_4 17 rfl rfl)
theorem dX2_clean_114 : decode cX2_clean 114 = .ok (.getfield 7, 3) := dk_180 0 7 (dk_at dksX2_clean_4 18 rfl rfl)
theorem dX2_clean_117 : decode cX2_clean 117 = .ok (.sipush 1316, 3) := dk_17 5 36 (dk_at dksX2_clean_4 21 rfl rfl)
theorem dX2_clean_120 : decode cX2_clean 120 = .ok (.bipush 10, 2) := dk_16 10 (dk_at dksX2_clean_5 0 rfl rfl)
theorem dX2_clean_122 : decode cX2_clean 122 = .ok (.iload_n 1, 1) := dk_27 (dk_at dksX2_clean_5 2 rfl rfl)
theorem dX2_clean_123 : decode cX2_clean 123 = .ok (.imul, 1) := dk_104 (dk_at dksX2_clean_5 3 rfl rfl)
theorem dX2_clean_124 : decode cX2_clean 124 = .ok (.iadd, 1) := dk_96 (dk_at dksX2_clean_5 4 rfl rfl)
theorem dX2_clean_125 : decode cX2_clean 125 = .ok (.iload_n 2, 1) := dk_28 (dk_at dksX2_clean_5 5 rfl rfl)
theorem dX2_clean_126 : decode cX2_clean 126 = .ok (.iadd, 1) := dk_96 (dk_at dksX2_clean_5 6 rfl rfl)
theorem dX2_clean_127 : decode cX2_clean 127 = .ok (.iaload, 1) := dk_46 (dk_at dksX2_clean_5 7 rfl rfl)
theorem dX2_clean_128 : decode cX2_clean 128 = .ok (.iconst 5, 1) := dk_8 (dk_at dksX2_clean_5 8 rfl rfl)
theorem dX2_clean_129 : decode cX2_clean 129 = .ok (.if_icmp .ge 8, 3) := dk_162 0 8 (dk_at dksX2_clean_5 9 rfl rfl)
theorem dX2_clean_132 : decode cX2_clean 132 = .ok (.iload 6, 2) := dk_21 6 (dk_at dksX2_clean_5 12 rfl rfl)
theorem dX2_clean_134 : decode cX2_clean 134 = .ok (.goto 5, 3) := dk_167 0 5 (dk_at dksX2_clean_5 14 rfl rfl)
theorem dX2_clean_137 : decode cX2_clean 137 = .ok (.iload 4, 2) := dk_21 4 (dk_at dksX2_clean_5 17 rfl rfl)
theorem dX2_clean_139 : decode cX2_clean 139 = .ok (.istore 4, 2) := dk_54 4 (dk_at dksX2_clean_5 19 rfl rfl)
theorem dX2_clean_141 : decode cX2_clean 141 = .ok (.iinc 6 1, 3) := dk_132 6 1 (dk_at dksX2_clean_5 21 rfl rfl)
theorem dX2_clean_144 : decode cX2_clean 144 = .ok (.goto (-93), 3) := dk_167 255 163 (dk_at dksX2_clean_6 0 rfl rfl)
theorem dX2_clean_147 : decode cX2_clean 147 = .ok (.iload 4, 2) := dk_21 4 (dk_at dksX2_clean_6 3 rfl rfl)
theorem dX2_clean_149 : decode cX2_clean 149 = .ok (.ireturn, 1) := dk_172 (dk_at dksX2_clean_6 5 rfl rfl)
abbrev cX2_of : ByteArray := prog_18_method_77_code
def yX2_of : MethodName := ⟨RX2, "of", "(II)I"⟩
def dkwX2_of_7 : List UInt8 := [167, 0, 18, 29, 42, 180, 0, 92, 27, 46, 160, 0, 7, 4, 167, 0, 4, 3, 172]
abbrev dktX2_of_7 : List UInt8 := dkwX2_of_7 ++ []
def dkwX2_of_6 : List UInt8 := [153, 0, 10, 21, 4, 4, 96, 167, 0, 4, 29, 62, 132, 4, 1, 167, 255, 205, 28, 4, 160, 0, 7, 29]
abbrev dktX2_of_6 : List UInt8 := dkwX2_of_6 ++ dktX2_of_7
def dkwX2_of_5 : List UInt8 := [42, 180, 0, 89, 16, 16, 27, 104, 21, 4, 96, 46, 182, 1, 78, 42, 180, 0, 83, 42, 180, 0, 217, 51]
abbrev dktX2_of_5 : List UInt8 := dkwX2_of_5 ++ dktX2_of_6
def dkwX2_of_4 : List UInt8 := [153, 0, 7, 3, 167, 0, 4, 2, 62, 3, 54, 4, 21, 4, 42, 180, 0, 92, 27, 46, 162, 0, 46, 42]
abbrev dktX2_of_4 : List UInt8 := dkwX2_of_4 ++ dktX2_of_5
def dkwX2_of_3 : List UInt8 := [167, 0, 4, 3, 84, 132, 3, 1, 167, 255, 231, 42, 182, 0, 229, 42, 180, 0, 83, 42, 180, 0, 217, 51]
abbrev dktX2_of_3 : List UInt8 := dkwX2_of_3 ++ dktX2_of_4
def dkwX2_of_2 : List UInt8 := [182, 1, 45, 3, 62, 29, 17, 0, 203, 162, 0, 24, 42, 180, 0, 83, 29, 29, 154, 0, 7, 4]
abbrev dktX2_of_2 : List UInt8 := dkwX2_of_2 ++ dktX2_of_3
def dkwX2_of_1 : List UInt8 := [154, 0, 6, 16, 253, 172, 42, 180, 0, 217, 154, 0, 6, 16, 252, 172, 42, 182, 1, 42, 42, 4]
abbrev dktX2_of_1 : List UInt8 := dkwX2_of_1 ++ dktX2_of_2
def dkwX2_of_0 : List UInt8 := [27, 133, 9, 20, 1, 53, 184, 0, 109, 154, 0, 6, 16, 254, 172, 28, 133, 9, 10, 184, 0, 109]
abbrev dktX2_of_0 : List UInt8 := dkwX2_of_0 ++ dktX2_of_1
theorem dksX2_of_0 : cX2_of.data.toList.drop 0 = dktX2_of_0 := by decide +kernel
theorem dksX2_of_1 : cX2_of.data.toList.drop 22 = dktX2_of_1 := dk_seg dksX2_of_0 22 rfl rfl
theorem dksX2_of_2 : cX2_of.data.toList.drop 44 = dktX2_of_2 := dk_seg dksX2_of_1 22 rfl rfl
theorem dksX2_of_3 : cX2_of.data.toList.drop 66 = dktX2_of_3 := dk_seg dksX2_of_2 22 rfl rfl
theorem dksX2_of_4 : cX2_of.data.toList.drop 90 = dktX2_of_4 := dk_seg dksX2_of_3 24 rfl rfl
theorem dksX2_of_5 : cX2_of.data.toList.drop 114 = dktX2_of_5 := dk_seg dksX2_of_4 24 rfl rfl
theorem dksX2_of_6 : cX2_of.data.toList.drop 138 = dktX2_of_6 := dk_seg dksX2_of_5 24 rfl rfl
theorem dksX2_of_7 : cX2_of.data.toList.drop 162 = dktX2_of_7 := dk_seg dksX2_of_6 24 rfl rfl
theorem dX2_of_0 : decode cX2_of 0 = .ok (.iload_n 1, 1) := dk_27 (dk_at dksX2_of_0 0 rfl rfl)
theorem dX2_of_1 : decode cX2_of 1 = .ok (.i2l, 1) := dk_133 (dk_at dksX2_of_0 1 rfl rfl)
theorem dX2_of_2 : decode cX2_of 2 = .ok (.lconst 0, 1) := dk_9 (dk_at dksX2_of_0 2 rfl rfl)
theorem dX2_of_3 : decode cX2_of 3 = .ok (.ldc2_w 309, 3) := dk_20 1 53 (dk_at dksX2_of_0 3 rfl rfl)
theorem dX2_of_6 : decode cX2_of 6 = .ok (.invokestatic 109, 3) := dk_184 0 109 (dk_at dksX2_of_0 6 rfl rfl)
theorem dX2_of_9 : decode cX2_of 9 = .ok (.ifCond .ne 6, 3) := dk_154 0 6 (dk_at dksX2_of_0 9 rfl rfl)
theorem dX2_of_12 : decode cX2_of 12 = .ok (.bipush (-2), 2) := dk_16 254 (dk_at dksX2_of_0 12 rfl rfl)
theorem dX2_of_14 : decode cX2_of 14 = .ok (.ireturn, 1) := dk_172 (dk_at dksX2_of_0 14 rfl rfl)
theorem dX2_of_15 : decode cX2_of 15 = .ok (.iload_n 2, 1) := dk_28 (dk_at dksX2_of_0 15 rfl rfl)
theorem dX2_of_16 : decode cX2_of 16 = .ok (.i2l, 1) := dk_133 (dk_at dksX2_of_0 16 rfl rfl)
theorem dX2_of_17 : decode cX2_of 17 = .ok (.lconst 0, 1) := dk_9 (dk_at dksX2_of_0 17 rfl rfl)
theorem dX2_of_18 : decode cX2_of 18 = .ok (.lconst 1, 1) := dk_10 (dk_at dksX2_of_0 18 rfl rfl)
theorem dX2_of_19 : decode cX2_of 19 = .ok (.invokestatic 109, 3) := dk_184 0 109 (dk_at dksX2_of_0 19 rfl rfl)
theorem dX2_of_22 : decode cX2_of 22 = .ok (.ifCond .ne 6, 3) := dk_154 0 6 (dk_at dksX2_of_1 0 rfl rfl)
theorem dX2_of_25 : decode cX2_of 25 = .ok (.bipush (-3), 2) := dk_16 253 (dk_at dksX2_of_1 3 rfl rfl)
theorem dX2_of_27 : decode cX2_of 27 = .ok (.ireturn, 1) := dk_172 (dk_at dksX2_of_1 5 rfl rfl)
theorem dX2_of_28 : decode cX2_of 28 = .ok (.aload_n 0, 1) := dk_42 (dk_at dksX2_of_1 6 rfl rfl)
theorem dX2_of_29 : decode cX2_of 29 = .ok (.getfield 217, 3) := dk_180 0 217 (dk_at dksX2_of_1 7 rfl rfl)
theorem dX2_of_32 : decode cX2_of 32 = .ok (.ifCond .ne 6, 3) := dk_154 0 6 (dk_at dksX2_of_1 10 rfl rfl)
theorem dX2_of_35 : decode cX2_of 35 = .ok (.bipush (-4), 2) := dk_16 252 (dk_at dksX2_of_1 13 rfl rfl)
theorem dX2_of_37 : decode cX2_of 37 = .ok (.ireturn, 1) := dk_172 (dk_at dksX2_of_1 15 rfl rfl)
theorem dX2_of_38 : decode cX2_of 38 = .ok (.aload_n 0, 1) := dk_42 (dk_at dksX2_of_1 16 rfl rfl)
theorem dX2_of_39 : decode cX2_of 39 = .ok (.invokevirtual 298, 3) := dk_182 1 42 (dk_at dksX2_of_1 17 rfl rfl)
theorem dX2_of_42 : decode cX2_of 42 = .ok (.aload_n 0, 1) := dk_42 (dk_at dksX2_of_1 20 rfl rfl)
theorem dX2_of_43 : decode cX2_of 43 = .ok (.iconst 1, 1) := dk_4 (dk_at dksX2_of_1 21 rfl rfl)
theorem dX2_of_44 : decode cX2_of 44 = .ok (.invokevirtual 301, 3) := dk_182 1 45 (dk_at dksX2_of_2 0 rfl rfl)
theorem dX2_of_47 : decode cX2_of 47 = .ok (.iconst 0, 1) := dk_3 (dk_at dksX2_of_2 3 rfl rfl)
theorem dX2_of_48 : decode cX2_of 48 = .ok (.istore_n 3, 1) := dk_62 (dk_at dksX2_of_2 4 rfl rfl)
theorem dX2_of_49 : decode cX2_of 49 = .ok (.iload_n 3, 1) := dk_29 (dk_at dksX2_of_2 5 rfl rfl)
theorem dX2_of_50 : decode cX2_of 50 = .ok (.sipush 203, 3) := dk_17 0 203 (dk_at dksX2_of_2 6 rfl rfl)
theorem dX2_of_53 : decode cX2_of 53 = .ok (.if_icmp .ge 24, 3) := dk_162 0 24 (dk_at dksX2_of_2 9 rfl rfl)
theorem dX2_of_56 : decode cX2_of 56 = .ok (.aload_n 0, 1) := dk_42 (dk_at dksX2_of_2 12 rfl rfl)
theorem dX2_of_57 : decode cX2_of 57 = .ok (.getfield 83, 3) := dk_180 0 83 (dk_at dksX2_of_2 13 rfl rfl)
theorem dX2_of_60 : decode cX2_of 60 = .ok (.iload_n 3, 1) := dk_29 (dk_at dksX2_of_2 16 rfl rfl)
theorem dX2_of_61 : decode cX2_of 61 = .ok (.iload_n 3, 1) := dk_29 (dk_at dksX2_of_2 17 rfl rfl)
theorem dX2_of_62 : decode cX2_of 62 = .ok (.ifCond .ne 7, 3) := dk_154 0 7 (dk_at dksX2_of_2 18 rfl rfl)
theorem dX2_of_65 : decode cX2_of 65 = .ok (.iconst 1, 1) := dk_4 (dk_at dksX2_of_2 21 rfl rfl)
theorem dX2_of_66 : decode cX2_of 66 = .ok (.goto 4, 3) := dk_167 0 4 (dk_at dksX2_of_3 0 rfl rfl)
theorem dX2_of_69 : decode cX2_of 69 = .ok (.iconst 0, 1) := dk_3 (dk_at dksX2_of_3 3 rfl rfl)
theorem dX2_of_70 : decode cX2_of 70 = .ok (.bastore, 1) := dk_84 (dk_at dksX2_of_3 4 rfl rfl)
theorem dX2_of_71 : decode cX2_of 71 = .ok (.iinc 3 1, 3) := dk_132 3 1 (dk_at dksX2_of_3 5 rfl rfl)
theorem dX2_of_74 : decode cX2_of 74 = .ok (.goto (-25), 3) := dk_167 255 231 (dk_at dksX2_of_3 8 rfl rfl)
theorem dX2_of_77 : decode cX2_of 77 = .ok (.aload_n 0, 1) := dk_42 (dk_at dksX2_of_3 11 rfl rfl)
theorem dX2_of_78 : decode cX2_of 78 = .ok (.invokevirtual 229, 3) := dk_182 0 229 (dk_at dksX2_of_3 12 rfl rfl)
theorem dX2_of_81 : decode cX2_of 81 = .ok (.aload_n 0, 1) := dk_42 (dk_at dksX2_of_3 15 rfl rfl)
theorem dX2_of_82 : decode cX2_of 82 = .ok (.getfield 83, 3) := dk_180 0 83 (dk_at dksX2_of_3 16 rfl rfl)
theorem dX2_of_85 : decode cX2_of 85 = .ok (.aload_n 0, 1) := dk_42 (dk_at dksX2_of_3 19 rfl rfl)
theorem dX2_of_86 : decode cX2_of 86 = .ok (.getfield 217, 3) := dk_180 0 217 (dk_at dksX2_of_3 20 rfl rfl)
theorem dX2_of_89 : decode cX2_of 89 = .ok (.baload, 1) := dk_51 (dk_at dksX2_of_3 23 rfl rfl)
theorem dX2_of_90 : decode cX2_of 90 = .ok (.ifCond .eq 7, 3) := dk_153 0 7 (dk_at dksX2_of_4 0 rfl rfl)
theorem dX2_of_93 : decode cX2_of 93 = .ok (.iconst 0, 1) := dk_3 (dk_at dksX2_of_4 3 rfl rfl)
theorem dX2_of_94 : decode cX2_of 94 = .ok (.goto 4, 3) := dk_167 0 4 (dk_at dksX2_of_4 4 rfl rfl)
theorem dX2_of_97 : decode cX2_of 97 = .ok (.iconst (-1), 1) := dk_2 (dk_at dksX2_of_4 7 rfl rfl)
theorem dX2_of_98 : decode cX2_of 98 = .ok (.istore_n 3, 1) := dk_62 (dk_at dksX2_of_4 8 rfl rfl)
theorem dX2_of_99 : decode cX2_of 99 = .ok (.iconst 0, 1) := dk_3 (dk_at dksX2_of_4 9 rfl rfl)
theorem dX2_of_100 : decode cX2_of 100 = .ok (.istore 4, 2) := dk_54 4 (dk_at dksX2_of_4 10 rfl rfl)
theorem dX2_of_102 : decode cX2_of 102 = .ok (.iload 4, 2) := dk_21 4 (dk_at dksX2_of_4 12 rfl rfl)
theorem dX2_of_104 : decode cX2_of 104 = .ok (.aload_n 0, 1) := dk_42 (dk_at dksX2_of_4 14 rfl rfl)
theorem dX2_of_105 : decode cX2_of 105 = .ok (.getfield 92, 3) := dk_180 0 92 (dk_at dksX2_of_4 15 rfl rfl)
theorem dX2_of_108 : decode cX2_of 108 = .ok (.iload_n 1, 1) := dk_27 (dk_at dksX2_of_4 18 rfl rfl)
theorem dX2_of_109 : decode cX2_of 109 = .ok (.iaload, 1) := dk_46 (dk_at dksX2_of_4 19 rfl rfl)
theorem dX2_of_110 : decode cX2_of 110 = .ok (.if_icmp .ge 46, 3) := dk_162 0 46 (dk_at dksX2_of_4 20 rfl rfl)
theorem dX2_of_113 : decode cX2_of 113 = .ok (.aload_n 0, 1) := dk_42 (dk_at dksX2_of_4 23 rfl rfl)
theorem dX2_of_114 : decode cX2_of 114 = .ok (.aload_n 0, 1) := dk_42 (dk_at dksX2_of_5 0 rfl rfl)
theorem dX2_of_115 : decode cX2_of 115 = .ok (.getfield 89, 3) := dk_180 0 89 (dk_at dksX2_of_5 1 rfl rfl)
theorem dX2_of_118 : decode cX2_of 118 = .ok (.bipush 16, 2) := dk_16 16 (dk_at dksX2_of_5 4 rfl rfl)
theorem dX2_of_120 : decode cX2_of 120 = .ok (.iload_n 1, 1) := dk_27 (dk_at dksX2_of_5 6 rfl rfl)
theorem dX2_of_121 : decode cX2_of 121 = .ok (.imul, 1) := dk_104 (dk_at dksX2_of_5 7 rfl rfl)
theorem dX2_of_122 : decode cX2_of 122 = .ok (.iload 4, 2) := dk_21 4 (dk_at dksX2_of_5 8 rfl rfl)
theorem dX2_of_124 : decode cX2_of 124 = .ok (.iadd, 1) := dk_96 (dk_at dksX2_of_5 10 rfl rfl)
theorem dX2_of_125 : decode cX2_of 125 = .ok (.iaload, 1) := dk_46 (dk_at dksX2_of_5 11 rfl rfl)
theorem dX2_of_126 : decode cX2_of 126 = .ok (.invokevirtual 334, 3) := dk_182 1 78 (dk_at dksX2_of_5 12 rfl rfl)
theorem dX2_of_129 : decode cX2_of 129 = .ok (.aload_n 0, 1) := dk_42 (dk_at dksX2_of_5 15 rfl rfl)
theorem dX2_of_130 : decode cX2_of 130 = .ok (.getfield 83, 3) := dk_180 0 83 (dk_at dksX2_of_5 16 rfl rfl)
theorem dX2_of_133 : decode cX2_of 133 = .ok (.aload_n 0, 1) := dk_42 (dk_at dksX2_of_5 19 rfl rfl)
theorem dX2_of_134 : decode cX2_of 134 = .ok (.getfield 217, 3) := dk_180 0 217 (dk_at dksX2_of_5 20 rfl rfl)
theorem dX2_of_137 : decode cX2_of 137 = .ok (.baload, 1) := dk_51 (dk_at dksX2_of_5 23 rfl rfl)
theorem dX2_of_138 : decode cX2_of 138 = .ok (.ifCond .eq 10, 3) := dk_153 0 10 (dk_at dksX2_of_6 0 rfl rfl)
theorem dX2_of_141 : decode cX2_of 141 = .ok (.iload 4, 2) := dk_21 4 (dk_at dksX2_of_6 3 rfl rfl)
theorem dX2_of_143 : decode cX2_of 143 = .ok (.iconst 1, 1) := dk_4 (dk_at dksX2_of_6 5 rfl rfl)
theorem dX2_of_144 : decode cX2_of 144 = .ok (.iadd, 1) := dk_96 (dk_at dksX2_of_6 6 rfl rfl)
theorem dX2_of_145 : decode cX2_of 145 = .ok (.goto 4, 3) := dk_167 0 4 (dk_at dksX2_of_6 7 rfl rfl)
theorem dX2_of_148 : decode cX2_of 148 = .ok (.iload_n 3, 1) := dk_29 (dk_at dksX2_of_6 10 rfl rfl)
theorem dX2_of_149 : decode cX2_of 149 = .ok (.istore_n 3, 1) := dk_62 (dk_at dksX2_of_6 11 rfl rfl)
theorem dX2_of_150 : decode cX2_of 150 = .ok (.iinc 4 1, 3) := dk_132 4 1 (dk_at dksX2_of_6 12 rfl rfl)
theorem dX2_of_153 : decode cX2_of 153 = .ok (.goto (-51), 3) := dk_167 255 205 (dk_at dksX2_of_6 15 rfl rfl)
theorem dX2_of_156 : decode cX2_of 156 = .ok (.iload_n 2, 1) := dk_28 (dk_at dksX2_of_6 18 rfl rfl)
theorem dX2_of_157 : decode cX2_of 157 = .ok (.iconst 1, 1) := dk_4 (dk_at dksX2_of_6 19 rfl rfl)
theorem dX2_of_158 : decode cX2_of 158 = .ok (.if_icmp .ne 7, 3) := dk_160 0 7 (dk_at dksX2_of_6 20 rfl rfl)
theorem dX2_of_161 : decode cX2_of 161 = .ok (.iload_n 3, 1) := dk_29 (dk_at dksX2_of_6 23 rfl rfl)
theorem dX2_of_162 : decode cX2_of 162 = .ok (.goto 18, 3) := dk_167 0 18 (dk_at dksX2_of_7 0 rfl rfl)
theorem dX2_of_165 : decode cX2_of 165 = .ok (.iload_n 3, 1) := dk_29 (dk_at dksX2_of_7 3 rfl rfl)
theorem dX2_of_166 : decode cX2_of 166 = .ok (.aload_n 0, 1) := dk_42 (dk_at dksX2_of_7 4 rfl rfl)
theorem dX2_of_167 : decode cX2_of 167 = .ok (.getfield 92, 3) := dk_180 0 92 (dk_at dksX2_of_7 5 rfl rfl)
theorem dX2_of_170 : decode cX2_of 170 = .ok (.iload_n 1, 1) := dk_27 (dk_at dksX2_of_7 8 rfl rfl)
theorem dX2_of_171 : decode cX2_of 171 = .ok (.iaload, 1) := dk_46 (dk_at dksX2_of_7 9 rfl rfl)
theorem dX2_of_172 : decode cX2_of 172 = .ok (.if_icmp .ne 7, 3) := dk_160 0 7 (dk_at dksX2_of_7 10 rfl rfl)
theorem dX2_of_175 : decode cX2_of 175 = .ok (.iconst 1, 1) := dk_4 (dk_at dksX2_of_7 13 rfl rfl)
theorem dX2_of_176 : decode cX2_of 176 = .ok (.goto 4, 3) := dk_167 0 4 (dk_at dksX2_of_7 14 rfl rfl)
theorem dX2_of_179 : decode cX2_of 179 = .ok (.iconst 0, 1) := dk_3 (dk_at dksX2_of_7 17 rfl rfl)
theorem dX2_of_180 : decode cX2_of 180 = .ok (.ireturn, 1) := dk_172 (dk_at dksX2_of_7 18 rfl rfl)
abbrev cX2_goOnAll : ByteArray := prog_18_method_31_code
def yX2_goOnAll : MethodName := ⟨RX2, "goOnAll", "()V"⟩
def dkwX2_goOnAll_2 : List UInt8 := [167, 255, 218, 167, 255, 207, 177]
abbrev dktX2_goOnAll_2 : List UInt8 := dkwX2_goOnAll_2 ++ []
def dkwX2_goOnAll_1 : List UInt8 := [153, 0, 11, 42, 28, 182, 0, 226, 154, 0, 7, 27, 153, 0, 7, 4, 167, 0, 4, 3, 60, 132, 2, 1]
abbrev dktX2_goOnAll_1 : List UInt8 := dkwX2_goOnAll_1 ++ dktX2_goOnAll_2
def dkwX2_goOnAll_0 : List UInt8 := [4, 60, 27, 153, 0, 51, 3, 60, 3, 61, 28, 42, 180, 0, 217, 162, 0, 36, 42, 180, 0, 83, 28, 51]
abbrev dktX2_goOnAll_0 : List UInt8 := dkwX2_goOnAll_0 ++ dktX2_goOnAll_1
theorem dksX2_goOnAll_0 : cX2_goOnAll.data.toList.drop 0 = dktX2_goOnAll_0 := by decide +kernel
theorem dksX2_goOnAll_1 : cX2_goOnAll.data.toList.drop 24 = dktX2_goOnAll_1 := dk_seg dksX2_goOnAll_0 24 rfl rfl
theorem dksX2_goOnAll_2 : cX2_goOnAll.data.toList.drop 48 = dktX2_goOnAll_2 := dk_seg dksX2_goOnAll_1 24 rfl rfl
theorem dX2_goOnAll_0 : decode cX2_goOnAll 0 = .ok (.iconst 1, 1) := dk_4 (dk_at dksX2_goOnAll_0 0 rfl rfl)
theorem dX2_goOnAll_1 : decode cX2_goOnAll 1 = .ok (.istore_n 1, 1) := dk_60 (dk_at dksX2_goOnAll_0 1 rfl rfl)
theorem dX2_goOnAll_2 : decode cX2_goOnAll 2 = .ok (.iload_n 1, 1) := dk_27 (dk_at dksX2_goOnAll_0 2 rfl rfl)
theorem dX2_goOnAll_3 : decode cX2_goOnAll 3 = .ok (.ifCond .eq 51, 3) := dk_153 0 51 (dk_at dksX2_goOnAll_0 3 rfl rfl)
theorem dX2_goOnAll_6 : decode cX2_goOnAll 6 = .ok (.iconst 0, 1) := dk_3 (dk_at dksX2_goOnAll_0 6 rfl rfl)
theorem dX2_goOnAll_7 : decode cX2_goOnAll 7 = .ok (.istore_n 1, 1) := dk_60 (dk_at dksX2_goOnAll_0 7 rfl rfl)
theorem dX2_goOnAll_8 : decode cX2_goOnAll 8 = .ok (.iconst 0, 1) := dk_3 (dk_at dksX2_goOnAll_0 8 rfl rfl)
theorem dX2_goOnAll_9 : decode cX2_goOnAll 9 = .ok (.istore_n 2, 1) := dk_61 (dk_at dksX2_goOnAll_0 9 rfl rfl)
theorem dX2_goOnAll_10 : decode cX2_goOnAll 10 = .ok (.iload_n 2, 1) := dk_28 (dk_at dksX2_goOnAll_0 10 rfl rfl)
theorem dX2_goOnAll_11 : decode cX2_goOnAll 11 = .ok (.aload_n 0, 1) := dk_42 (dk_at dksX2_goOnAll_0 11 rfl rfl)
theorem dX2_goOnAll_12 : decode cX2_goOnAll 12 = .ok (.getfield 217, 3) := dk_180 0 217 (dk_at dksX2_goOnAll_0 12 rfl rfl)
theorem dX2_goOnAll_15 : decode cX2_goOnAll 15 = .ok (.if_icmp .ge 36, 3) := dk_162 0 36 (dk_at dksX2_goOnAll_0 15 rfl rfl)
theorem dX2_goOnAll_18 : decode cX2_goOnAll 18 = .ok (.aload_n 0, 1) := dk_42 (dk_at dksX2_goOnAll_0 18 rfl rfl)
theorem dX2_goOnAll_19 : decode cX2_goOnAll 19 = .ok (.getfield 83, 3) := dk_180 0 83 (dk_at dksX2_goOnAll_0 19 rfl rfl)
theorem dX2_goOnAll_22 : decode cX2_goOnAll 22 = .ok (.iload_n 2, 1) := dk_28 (dk_at dksX2_goOnAll_0 22 rfl rfl)
theorem dX2_goOnAll_23 : decode cX2_goOnAll 23 = .ok (.baload, 1) := dk_51 (dk_at dksX2_goOnAll_0 23 rfl rfl)
theorem dX2_goOnAll_24 : decode cX2_goOnAll 24 = .ok (.ifCond .eq 11, 3) := dk_153 0 11 (dk_at dksX2_goOnAll_1 0 rfl rfl)
theorem dX2_goOnAll_27 : decode cX2_goOnAll 27 = .ok (.aload_n 0, 1) := dk_42 (dk_at dksX2_goOnAll_1 3 rfl rfl)
theorem dX2_goOnAll_28 : decode cX2_goOnAll 28 = .ok (.iload_n 2, 1) := dk_28 (dk_at dksX2_goOnAll_1 4 rfl rfl)
theorem dX2_goOnAll_29 : decode cX2_goOnAll 29 = .ok (.invokevirtual 226, 3) := dk_182 0 226 (dk_at dksX2_goOnAll_1 5 rfl rfl)
theorem dX2_goOnAll_32 : decode cX2_goOnAll 32 = .ok (.ifCond .ne 7, 3) := dk_154 0 7 (dk_at dksX2_goOnAll_1 8 rfl rfl)
theorem dX2_goOnAll_35 : decode cX2_goOnAll 35 = .ok (.iload_n 1, 1) := dk_27 (dk_at dksX2_goOnAll_1 11 rfl rfl)
theorem dX2_goOnAll_36 : decode cX2_goOnAll 36 = .ok (.ifCond .eq 7, 3) := dk_153 0 7 (dk_at dksX2_goOnAll_1 12 rfl rfl)
theorem dX2_goOnAll_39 : decode cX2_goOnAll 39 = .ok (.iconst 1, 1) := dk_4 (dk_at dksX2_goOnAll_1 15 rfl rfl)
theorem dX2_goOnAll_40 : decode cX2_goOnAll 40 = .ok (.goto 4, 3) := dk_167 0 4 (dk_at dksX2_goOnAll_1 16 rfl rfl)
theorem dX2_goOnAll_43 : decode cX2_goOnAll 43 = .ok (.iconst 0, 1) := dk_3 (dk_at dksX2_goOnAll_1 19 rfl rfl)
theorem dX2_goOnAll_44 : decode cX2_goOnAll 44 = .ok (.istore_n 1, 1) := dk_60 (dk_at dksX2_goOnAll_1 20 rfl rfl)
theorem dX2_goOnAll_45 : decode cX2_goOnAll 45 = .ok (.iinc 2 1, 3) := dk_132 2 1 (dk_at dksX2_goOnAll_1 21 rfl rfl)
theorem dX2_goOnAll_48 : decode cX2_goOnAll 48 = .ok (.goto (-38), 3) := dk_167 255 218 (dk_at dksX2_goOnAll_2 0 rfl rfl)
theorem dX2_goOnAll_51 : decode cX2_goOnAll 51 = .ok (.goto (-49), 3) := dk_167 255 207 (dk_at dksX2_goOnAll_2 3 rfl rfl)
theorem dX2_goOnAll_54 : decode cX2_goOnAll 54 = .ok (.return_, 1) := dk_177 (dk_at dksX2_goOnAll_2 6 rfl rfl)
abbrev cX2_goesOn : ByteArray := prog_18_method_30_code
def yX2_goesOn : MethodName := ⟨RX2, "goesOn", "(I)Z"⟩
def dkwX2_goesOn_10 : List UInt8 := [29, 153, 0, 7, 4, 167, 0, 4, 3, 62, 29, 172]
abbrev dktX2_goesOn_10 : List UInt8 := dkwX2_goesOn_10 ++ []
def dkwX2_goesOn_9 : List UInt8 := [180, 0, 29, 21, 4, 4, 96, 46, 16, 42, 160, 0, 24, 42, 21, 4, 5, 96, 182, 0, 223, 154, 0, 7]
abbrev dktX2_goesOn_9 : List UInt8 := dkwX2_goesOn_9 ++ dktX2_goesOn_10
def dkwX2_goesOn_8 : List UInt8 := [16, 41, 159, 0, 55, 28, 16, 42, 159, 0, 49, 21, 4, 4, 96, 42, 180, 0, 217, 162, 0, 38, 42]
abbrev dktX2_goesOn_8 : List UInt8 := dkwX2_goesOn_8 ++ dktX2_goesOn_9
def dkwX2_goesOn_7 : List UInt8 := [16, 40, 160, 0, 12, 42, 180, 0, 32, 27, 46, 167, 0, 4, 27, 54, 4, 28, 16, 124, 159, 0, 61, 28]
abbrev dktX2_goesOn_7 : List UInt8 := dkwX2_goesOn_7 ++ dktX2_goesOn_8
def dkwX2_goesOn_6 : List UInt8 := [42, 180, 0, 35, 27, 46, 182, 0, 223, 154, 0, 7, 29, 153, 0, 7, 4, 167, 0, 4, 3, 62, 28]
abbrev dktX2_goesOn_6 : List UInt8 := dkwX2_goesOn_6 ++ dktX2_goesOn_7
def dkwX2_goesOn_5 : List UInt8 := [159, 0, 9, 28, 16, 42, 160, 0, 11, 42, 27, 4, 96, 182, 0, 223, 62, 28, 16, 42, 160, 0, 26, 42]
abbrev dktX2_goesOn_5 : List UInt8 := dkwX2_goesOn_5 ++ dktX2_goesOn_6
def dkwX2_goesOn_4 : List UInt8 := [160, 0, 19, 42, 42, 180, 0, 32, 42, 180, 0, 35, 27, 46, 46, 182, 0, 223, 62, 28, 16, 41]
abbrev dktX2_goesOn_4 : List UInt8 := dkwX2_goesOn_4 ++ dktX2_goesOn_5
def dkwX2_goesOn_3 : List UInt8 := [154, 0, 7, 29, 153, 0, 7, 4, 167, 0, 4, 3, 62, 132, 4, 1, 167, 255, 198, 28, 16, 124]
abbrev dktX2_goesOn_3 : List UInt8 := dkwX2_goesOn_3 ++ dktX2_goesOn_4
def dkwX2_goesOn_2 : List UInt8 := [160, 0, 25, 42, 180, 0, 35, 21, 4, 46, 27, 160, 0, 14, 42, 21, 4, 4, 96, 182, 0, 223]
abbrev dktX2_goesOn_2 : List UInt8 := dkwX2_goesOn_2 ++ dktX2_goesOn_3
def dkwX2_goesOn_1 : List UInt8 := [4, 96, 54, 4, 21, 4, 42, 180, 0, 32, 27, 46, 162, 0, 53, 42, 180, 0, 29, 21, 4, 46, 16, 124]
abbrev dktX2_goesOn_1 : List UInt8 := dkwX2_goesOn_1 ++ dktX2_goesOn_2
def dkwX2_goesOn_0 : List UInt8 := [42, 180, 0, 29, 27, 46, 61, 3, 62, 28, 16, 40, 160, 0, 77, 42, 27, 4, 96, 182, 0, 223, 62, 27]
abbrev dktX2_goesOn_0 : List UInt8 := dkwX2_goesOn_0 ++ dktX2_goesOn_1
theorem dksX2_goesOn_0 : cX2_goesOn.data.toList.drop 0 = dktX2_goesOn_0 := by decide +kernel
theorem dksX2_goesOn_1 : cX2_goesOn.data.toList.drop 24 = dktX2_goesOn_1 := dk_seg dksX2_goesOn_0 24 rfl rfl
theorem dksX2_goesOn_2 : cX2_goesOn.data.toList.drop 48 = dktX2_goesOn_2 := dk_seg dksX2_goesOn_1 24 rfl rfl
theorem dksX2_goesOn_3 : cX2_goesOn.data.toList.drop 70 = dktX2_goesOn_3 := dk_seg dksX2_goesOn_2 22 rfl rfl
theorem dksX2_goesOn_4 : cX2_goesOn.data.toList.drop 92 = dktX2_goesOn_4 := dk_seg dksX2_goesOn_3 22 rfl rfl
theorem dksX2_goesOn_5 : cX2_goesOn.data.toList.drop 114 = dktX2_goesOn_5 := dk_seg dksX2_goesOn_4 22 rfl rfl
theorem dksX2_goesOn_6 : cX2_goesOn.data.toList.drop 138 = dktX2_goesOn_6 := dk_seg dksX2_goesOn_5 24 rfl rfl
theorem dksX2_goesOn_7 : cX2_goesOn.data.toList.drop 161 = dktX2_goesOn_7 := dk_seg dksX2_goesOn_6 23 rfl rfl
theorem dksX2_goesOn_8 : cX2_goesOn.data.toList.drop 185 = dktX2_goesOn_8 := dk_seg dksX2_goesOn_7 24 rfl rfl
theorem dksX2_goesOn_9 : cX2_goesOn.data.toList.drop 208 = dktX2_goesOn_9 := dk_seg dksX2_goesOn_8 23 rfl rfl
theorem dksX2_goesOn_10 : cX2_goesOn.data.toList.drop 232 = dktX2_goesOn_10 := dk_seg dksX2_goesOn_9 24 rfl rfl
theorem dX2_goesOn_0 : decode cX2_goesOn 0 = .ok (.aload_n 0, 1) := dk_42 (dk_at dksX2_goesOn_0 0 rfl rfl)
theorem dX2_goesOn_1 : decode cX2_goesOn 1 = .ok (.getfield 29, 3) := dk_180 0 29 (dk_at dksX2_goesOn_0 1 rfl rfl)
theorem dX2_goesOn_4 : decode cX2_goesOn 4 = .ok (.iload_n 1, 1) := dk_27 (dk_at dksX2_goesOn_0 4 rfl rfl)
theorem dX2_goesOn_5 : decode cX2_goesOn 5 = .ok (.iaload, 1) := dk_46 (dk_at dksX2_goesOn_0 5 rfl rfl)
theorem dX2_goesOn_6 : decode cX2_goesOn 6 = .ok (.istore_n 2, 1) := dk_61 (dk_at dksX2_goesOn_0 6 rfl rfl)
theorem dX2_goesOn_7 : decode cX2_goesOn 7 = .ok (.iconst 0, 1) := dk_3 (dk_at dksX2_goesOn_0 7 rfl rfl)
theorem dX2_goesOn_8 : decode cX2_goesOn 8 = .ok (.istore_n 3, 1) := dk_62 (dk_at dksX2_goesOn_0 8 rfl rfl)
theorem dX2_goesOn_9 : decode cX2_goesOn 9 = .ok (.iload_n 2, 1) := dk_28 (dk_at dksX2_goesOn_0 9 rfl rfl)
theorem dX2_goesOn_10 : decode cX2_goesOn 10 = .ok (.bipush 40, 2) := dk_16 40 (dk_at dksX2_goesOn_0 10 rfl rfl)
theorem dX2_goesOn_12 : decode cX2_goesOn 12 = .ok (.if_icmp .ne 77, 3) := dk_160 0 77 (dk_at dksX2_goesOn_0 12 rfl rfl)
theorem dX2_goesOn_15 : decode cX2_goesOn 15 = .ok (.aload_n 0, 1) := dk_42 (dk_at dksX2_goesOn_0 15 rfl rfl)
theorem dX2_goesOn_16 : decode cX2_goesOn 16 = .ok (.iload_n 1, 1) := dk_27 (dk_at dksX2_goesOn_0 16 rfl rfl)
theorem dX2_goesOn_17 : decode cX2_goesOn 17 = .ok (.iconst 1, 1) := dk_4 (dk_at dksX2_goesOn_0 17 rfl rfl)
theorem dX2_goesOn_18 : decode cX2_goesOn 18 = .ok (.iadd, 1) := dk_96 (dk_at dksX2_goesOn_0 18 rfl rfl)
theorem dX2_goesOn_19 : decode cX2_goesOn 19 = .ok (.invokevirtual 223, 3) := dk_182 0 223 (dk_at dksX2_goesOn_0 19 rfl rfl)
theorem dX2_goesOn_22 : decode cX2_goesOn 22 = .ok (.istore_n 3, 1) := dk_62 (dk_at dksX2_goesOn_0 22 rfl rfl)
theorem dX2_goesOn_23 : decode cX2_goesOn 23 = .ok (.iload_n 1, 1) := dk_27 (dk_at dksX2_goesOn_0 23 rfl rfl)
theorem dX2_goesOn_24 : decode cX2_goesOn 24 = .ok (.iconst 1, 1) := dk_4 (dk_at dksX2_goesOn_1 0 rfl rfl)
theorem dX2_goesOn_25 : decode cX2_goesOn 25 = .ok (.iadd, 1) := dk_96 (dk_at dksX2_goesOn_1 1 rfl rfl)
theorem dX2_goesOn_26 : decode cX2_goesOn 26 = .ok (.istore 4, 2) := dk_54 4 (dk_at dksX2_goesOn_1 2 rfl rfl)
theorem dX2_goesOn_28 : decode cX2_goesOn 28 = .ok (.iload 4, 2) := dk_21 4 (dk_at dksX2_goesOn_1 4 rfl rfl)
theorem dX2_goesOn_30 : decode cX2_goesOn 30 = .ok (.aload_n 0, 1) := dk_42 (dk_at dksX2_goesOn_1 6 rfl rfl)
theorem dX2_goesOn_31 : decode cX2_goesOn 31 = .ok (.getfield 32, 3) := dk_180 0 32 (dk_at dksX2_goesOn_1 7 rfl rfl)
theorem dX2_goesOn_34 : decode cX2_goesOn 34 = .ok (.iload_n 1, 1) := dk_27 (dk_at dksX2_goesOn_1 10 rfl rfl)
theorem dX2_goesOn_35 : decode cX2_goesOn 35 = .ok (.iaload, 1) := dk_46 (dk_at dksX2_goesOn_1 11 rfl rfl)
theorem dX2_goesOn_36 : decode cX2_goesOn 36 = .ok (.if_icmp .ge 53, 3) := dk_162 0 53 (dk_at dksX2_goesOn_1 12 rfl rfl)
theorem dX2_goesOn_39 : decode cX2_goesOn 39 = .ok (.aload_n 0, 1) := dk_42 (dk_at dksX2_goesOn_1 15 rfl rfl)
theorem dX2_goesOn_40 : decode cX2_goesOn 40 = .ok (.getfield 29, 3) := dk_180 0 29 (dk_at dksX2_goesOn_1 16 rfl rfl)
theorem dX2_goesOn_43 : decode cX2_goesOn 43 = .ok (.iload 4, 2) := dk_21 4 (dk_at dksX2_goesOn_1 19 rfl rfl)
theorem dX2_goesOn_45 : decode cX2_goesOn 45 = .ok (.iaload, 1) := dk_46 (dk_at dksX2_goesOn_1 21 rfl rfl)
theorem dX2_goesOn_46 : decode cX2_goesOn 46 = .ok (.bipush 124, 2) := dk_16 124 (dk_at dksX2_goesOn_1 22 rfl rfl)
theorem dX2_goesOn_48 : decode cX2_goesOn 48 = .ok (.if_icmp .ne 25, 3) := dk_160 0 25 (dk_at dksX2_goesOn_2 0 rfl rfl)
theorem dX2_goesOn_51 : decode cX2_goesOn 51 = .ok (.aload_n 0, 1) := dk_42 (dk_at dksX2_goesOn_2 3 rfl rfl)
theorem dX2_goesOn_52 : decode cX2_goesOn 52 = .ok (.getfield 35, 3) := dk_180 0 35 (dk_at dksX2_goesOn_2 4 rfl rfl)
theorem dX2_goesOn_55 : decode cX2_goesOn 55 = .ok (.iload 4, 2) := dk_21 4 (dk_at dksX2_goesOn_2 7 rfl rfl)
theorem dX2_goesOn_57 : decode cX2_goesOn 57 = .ok (.iaload, 1) := dk_46 (dk_at dksX2_goesOn_2 9 rfl rfl)
theorem dX2_goesOn_58 : decode cX2_goesOn 58 = .ok (.iload_n 1, 1) := dk_27 (dk_at dksX2_goesOn_2 10 rfl rfl)
theorem dX2_goesOn_59 : decode cX2_goesOn 59 = .ok (.if_icmp .ne 14, 3) := dk_160 0 14 (dk_at dksX2_goesOn_2 11 rfl rfl)
theorem dX2_goesOn_62 : decode cX2_goesOn 62 = .ok (.aload_n 0, 1) := dk_42 (dk_at dksX2_goesOn_2 14 rfl rfl)
theorem dX2_goesOn_63 : decode cX2_goesOn 63 = .ok (.iload 4, 2) := dk_21 4 (dk_at dksX2_goesOn_2 15 rfl rfl)
theorem dX2_goesOn_65 : decode cX2_goesOn 65 = .ok (.iconst 1, 1) := dk_4 (dk_at dksX2_goesOn_2 17 rfl rfl)
theorem dX2_goesOn_66 : decode cX2_goesOn 66 = .ok (.iadd, 1) := dk_96 (dk_at dksX2_goesOn_2 18 rfl rfl)
theorem dX2_goesOn_67 : decode cX2_goesOn 67 = .ok (.invokevirtual 223, 3) := dk_182 0 223 (dk_at dksX2_goesOn_2 19 rfl rfl)
theorem dX2_goesOn_70 : decode cX2_goesOn 70 = .ok (.ifCond .ne 7, 3) := dk_154 0 7 (dk_at dksX2_goesOn_3 0 rfl rfl)
theorem dX2_goesOn_73 : decode cX2_goesOn 73 = .ok (.iload_n 3, 1) := dk_29 (dk_at dksX2_goesOn_3 3 rfl rfl)
theorem dX2_goesOn_74 : decode cX2_goesOn 74 = .ok (.ifCond .eq 7, 3) := dk_153 0 7 (dk_at dksX2_goesOn_3 4 rfl rfl)
theorem dX2_goesOn_77 : decode cX2_goesOn 77 = .ok (.iconst 1, 1) := dk_4 (dk_at dksX2_goesOn_3 7 rfl rfl)
theorem dX2_goesOn_78 : decode cX2_goesOn 78 = .ok (.goto 4, 3) := dk_167 0 4 (dk_at dksX2_goesOn_3 8 rfl rfl)
theorem dX2_goesOn_81 : decode cX2_goesOn 81 = .ok (.iconst 0, 1) := dk_3 (dk_at dksX2_goesOn_3 11 rfl rfl)
theorem dX2_goesOn_82 : decode cX2_goesOn 82 = .ok (.istore_n 3, 1) := dk_62 (dk_at dksX2_goesOn_3 12 rfl rfl)
theorem dX2_goesOn_83 : decode cX2_goesOn 83 = .ok (.iinc 4 1, 3) := dk_132 4 1 (dk_at dksX2_goesOn_3 13 rfl rfl)
theorem dX2_goesOn_86 : decode cX2_goesOn 86 = .ok (.goto (-58), 3) := dk_167 255 198 (dk_at dksX2_goesOn_3 16 rfl rfl)
theorem dX2_goesOn_89 : decode cX2_goesOn 89 = .ok (.iload_n 2, 1) := dk_28 (dk_at dksX2_goesOn_3 19 rfl rfl)
theorem dX2_goesOn_90 : decode cX2_goesOn 90 = .ok (.bipush 124, 2) := dk_16 124 (dk_at dksX2_goesOn_3 20 rfl rfl)
theorem dX2_goesOn_92 : decode cX2_goesOn 92 = .ok (.if_icmp .ne 19, 3) := dk_160 0 19 (dk_at dksX2_goesOn_4 0 rfl rfl)
theorem dX2_goesOn_95 : decode cX2_goesOn 95 = .ok (.aload_n 0, 1) := dk_42 (dk_at dksX2_goesOn_4 3 rfl rfl)
theorem dX2_goesOn_96 : decode cX2_goesOn 96 = .ok (.aload_n 0, 1) := dk_42 (dk_at dksX2_goesOn_4 4 rfl rfl)
theorem dX2_goesOn_97 : decode cX2_goesOn 97 = .ok (.getfield 32, 3) := dk_180 0 32 (dk_at dksX2_goesOn_4 5 rfl rfl)
theorem dX2_goesOn_100 : decode cX2_goesOn 100 = .ok (.aload_n 0, 1) := dk_42 (dk_at dksX2_goesOn_4 8 rfl rfl)
theorem dX2_goesOn_101 : decode cX2_goesOn 101 = .ok (.getfield 35, 3) := dk_180 0 35 (dk_at dksX2_goesOn_4 9 rfl rfl)
theorem dX2_goesOn_104 : decode cX2_goesOn 104 = .ok (.iload_n 1, 1) := dk_27 (dk_at dksX2_goesOn_4 12 rfl rfl)
theorem dX2_goesOn_105 : decode cX2_goesOn 105 = .ok (.iaload, 1) := dk_46 (dk_at dksX2_goesOn_4 13 rfl rfl)
theorem dX2_goesOn_106 : decode cX2_goesOn 106 = .ok (.iaload, 1) := dk_46 (dk_at dksX2_goesOn_4 14 rfl rfl)
theorem dX2_goesOn_107 : decode cX2_goesOn 107 = .ok (.invokevirtual 223, 3) := dk_182 0 223 (dk_at dksX2_goesOn_4 15 rfl rfl)
theorem dX2_goesOn_110 : decode cX2_goesOn 110 = .ok (.istore_n 3, 1) := dk_62 (dk_at dksX2_goesOn_4 18 rfl rfl)
theorem dX2_goesOn_111 : decode cX2_goesOn 111 = .ok (.iload_n 2, 1) := dk_28 (dk_at dksX2_goesOn_4 19 rfl rfl)
theorem dX2_goesOn_112 : decode cX2_goesOn 112 = .ok (.bipush 41, 2) := dk_16 41 (dk_at dksX2_goesOn_4 20 rfl rfl)
theorem dX2_goesOn_114 : decode cX2_goesOn 114 = .ok (.if_icmp .eq 9, 3) := dk_159 0 9 (dk_at dksX2_goesOn_5 0 rfl rfl)
theorem dX2_goesOn_117 : decode cX2_goesOn 117 = .ok (.iload_n 2, 1) := dk_28 (dk_at dksX2_goesOn_5 3 rfl rfl)
theorem dX2_goesOn_118 : decode cX2_goesOn 118 = .ok (.bipush 42, 2) := dk_16 42 (dk_at dksX2_goesOn_5 4 rfl rfl)
theorem dX2_goesOn_120 : decode cX2_goesOn 120 = .ok (.if_icmp .ne 11, 3) := dk_160 0 11 (dk_at dksX2_goesOn_5 6 rfl rfl)
theorem dX2_goesOn_123 : decode cX2_goesOn 123 = .ok (.aload_n 0, 1) := dk_42 (dk_at dksX2_goesOn_5 9 rfl rfl)
theorem dX2_goesOn_124 : decode cX2_goesOn 124 = .ok (.iload_n 1, 1) := dk_27 (dk_at dksX2_goesOn_5 10 rfl rfl)
theorem dX2_goesOn_125 : decode cX2_goesOn 125 = .ok (.iconst 1, 1) := dk_4 (dk_at dksX2_goesOn_5 11 rfl rfl)
theorem dX2_goesOn_126 : decode cX2_goesOn 126 = .ok (.iadd, 1) := dk_96 (dk_at dksX2_goesOn_5 12 rfl rfl)
theorem dX2_goesOn_127 : decode cX2_goesOn 127 = .ok (.invokevirtual 223, 3) := dk_182 0 223 (dk_at dksX2_goesOn_5 13 rfl rfl)
theorem dX2_goesOn_130 : decode cX2_goesOn 130 = .ok (.istore_n 3, 1) := dk_62 (dk_at dksX2_goesOn_5 16 rfl rfl)
theorem dX2_goesOn_131 : decode cX2_goesOn 131 = .ok (.iload_n 2, 1) := dk_28 (dk_at dksX2_goesOn_5 17 rfl rfl)
theorem dX2_goesOn_132 : decode cX2_goesOn 132 = .ok (.bipush 42, 2) := dk_16 42 (dk_at dksX2_goesOn_5 18 rfl rfl)
theorem dX2_goesOn_134 : decode cX2_goesOn 134 = .ok (.if_icmp .ne 26, 3) := dk_160 0 26 (dk_at dksX2_goesOn_5 20 rfl rfl)
theorem dX2_goesOn_137 : decode cX2_goesOn 137 = .ok (.aload_n 0, 1) := dk_42 (dk_at dksX2_goesOn_5 23 rfl rfl)
theorem dX2_goesOn_138 : decode cX2_goesOn 138 = .ok (.aload_n 0, 1) := dk_42 (dk_at dksX2_goesOn_6 0 rfl rfl)
theorem dX2_goesOn_139 : decode cX2_goesOn 139 = .ok (.getfield 35, 3) := dk_180 0 35 (dk_at dksX2_goesOn_6 1 rfl rfl)
theorem dX2_goesOn_142 : decode cX2_goesOn 142 = .ok (.iload_n 1, 1) := dk_27 (dk_at dksX2_goesOn_6 4 rfl rfl)
theorem dX2_goesOn_143 : decode cX2_goesOn 143 = .ok (.iaload, 1) := dk_46 (dk_at dksX2_goesOn_6 5 rfl rfl)
theorem dX2_goesOn_144 : decode cX2_goesOn 144 = .ok (.invokevirtual 223, 3) := dk_182 0 223 (dk_at dksX2_goesOn_6 6 rfl rfl)
theorem dX2_goesOn_147 : decode cX2_goesOn 147 = .ok (.ifCond .ne 7, 3) := dk_154 0 7 (dk_at dksX2_goesOn_6 9 rfl rfl)
theorem dX2_goesOn_150 : decode cX2_goesOn 150 = .ok (.iload_n 3, 1) := dk_29 (dk_at dksX2_goesOn_6 12 rfl rfl)
theorem dX2_goesOn_151 : decode cX2_goesOn 151 = .ok (.ifCond .eq 7, 3) := dk_153 0 7 (dk_at dksX2_goesOn_6 13 rfl rfl)
theorem dX2_goesOn_154 : decode cX2_goesOn 154 = .ok (.iconst 1, 1) := dk_4 (dk_at dksX2_goesOn_6 16 rfl rfl)
theorem dX2_goesOn_155 : decode cX2_goesOn 155 = .ok (.goto 4, 3) := dk_167 0 4 (dk_at dksX2_goesOn_6 17 rfl rfl)
theorem dX2_goesOn_158 : decode cX2_goesOn 158 = .ok (.iconst 0, 1) := dk_3 (dk_at dksX2_goesOn_6 20 rfl rfl)
theorem dX2_goesOn_159 : decode cX2_goesOn 159 = .ok (.istore_n 3, 1) := dk_62 (dk_at dksX2_goesOn_6 21 rfl rfl)
theorem dX2_goesOn_160 : decode cX2_goesOn 160 = .ok (.iload_n 2, 1) := dk_28 (dk_at dksX2_goesOn_6 22 rfl rfl)
theorem dX2_goesOn_161 : decode cX2_goesOn 161 = .ok (.bipush 40, 2) := dk_16 40 (dk_at dksX2_goesOn_7 0 rfl rfl)
theorem dX2_goesOn_163 : decode cX2_goesOn 163 = .ok (.if_icmp .ne 12, 3) := dk_160 0 12 (dk_at dksX2_goesOn_7 2 rfl rfl)
theorem dX2_goesOn_166 : decode cX2_goesOn 166 = .ok (.aload_n 0, 1) := dk_42 (dk_at dksX2_goesOn_7 5 rfl rfl)
theorem dX2_goesOn_167 : decode cX2_goesOn 167 = .ok (.getfield 32, 3) := dk_180 0 32 (dk_at dksX2_goesOn_7 6 rfl rfl)
theorem dX2_goesOn_170 : decode cX2_goesOn 170 = .ok (.iload_n 1, 1) := dk_27 (dk_at dksX2_goesOn_7 9 rfl rfl)
theorem dX2_goesOn_171 : decode cX2_goesOn 171 = .ok (.iaload, 1) := dk_46 (dk_at dksX2_goesOn_7 10 rfl rfl)
theorem dX2_goesOn_172 : decode cX2_goesOn 172 = .ok (.goto 4, 3) := dk_167 0 4 (dk_at dksX2_goesOn_7 11 rfl rfl)
theorem dX2_goesOn_175 : decode cX2_goesOn 175 = .ok (.iload_n 1, 1) := dk_27 (dk_at dksX2_goesOn_7 14 rfl rfl)
theorem dX2_goesOn_176 : decode cX2_goesOn 176 = .ok (.istore 4, 2) := dk_54 4 (dk_at dksX2_goesOn_7 15 rfl rfl)
theorem dX2_goesOn_178 : decode cX2_goesOn 178 = .ok (.iload_n 2, 1) := dk_28 (dk_at dksX2_goesOn_7 17 rfl rfl)
theorem dX2_goesOn_179 : decode cX2_goesOn 179 = .ok (.bipush 124, 2) := dk_16 124 (dk_at dksX2_goesOn_7 18 rfl rfl)
theorem dX2_goesOn_181 : decode cX2_goesOn 181 = .ok (.if_icmp .eq 61, 3) := dk_159 0 61 (dk_at dksX2_goesOn_7 20 rfl rfl)
theorem dX2_goesOn_184 : decode cX2_goesOn 184 = .ok (.iload_n 2, 1) := dk_28 (dk_at dksX2_goesOn_7 23 rfl rfl)
theorem dX2_goesOn_185 : decode cX2_goesOn 185 = .ok (.bipush 41, 2) := dk_16 41 (dk_at dksX2_goesOn_8 0 rfl rfl)
theorem dX2_goesOn_187 : decode cX2_goesOn 187 = .ok (.if_icmp .eq 55, 3) := dk_159 0 55 (dk_at dksX2_goesOn_8 2 rfl rfl)
theorem dX2_goesOn_190 : decode cX2_goesOn 190 = .ok (.iload_n 2, 1) := dk_28 (dk_at dksX2_goesOn_8 5 rfl rfl)
theorem dX2_goesOn_191 : decode cX2_goesOn 191 = .ok (.bipush 42, 2) := dk_16 42 (dk_at dksX2_goesOn_8 6 rfl rfl)
theorem dX2_goesOn_193 : decode cX2_goesOn 193 = .ok (.if_icmp .eq 49, 3) := dk_159 0 49 (dk_at dksX2_goesOn_8 8 rfl rfl)
theorem dX2_goesOn_196 : decode cX2_goesOn 196 = .ok (.iload 4, 2) := dk_21 4 (dk_at dksX2_goesOn_8 11 rfl rfl)
theorem dX2_goesOn_198 : decode cX2_goesOn 198 = .ok (.iconst 1, 1) := dk_4 (dk_at dksX2_goesOn_8 13 rfl rfl)
theorem dX2_goesOn_199 : decode cX2_goesOn 199 = .ok (.iadd, 1) := dk_96 (dk_at dksX2_goesOn_8 14 rfl rfl)
theorem dX2_goesOn_200 : decode cX2_goesOn 200 = .ok (.aload_n 0, 1) := dk_42 (dk_at dksX2_goesOn_8 15 rfl rfl)
theorem dX2_goesOn_201 : decode cX2_goesOn 201 = .ok (.getfield 217, 3) := dk_180 0 217 (dk_at dksX2_goesOn_8 16 rfl rfl)
theorem dX2_goesOn_204 : decode cX2_goesOn 204 = .ok (.if_icmp .ge 38, 3) := dk_162 0 38 (dk_at dksX2_goesOn_8 19 rfl rfl)
theorem dX2_goesOn_207 : decode cX2_goesOn 207 = .ok (.aload_n 0, 1) := dk_42 (dk_at dksX2_goesOn_8 22 rfl rfl)
theorem dX2_goesOn_208 : decode cX2_goesOn 208 = .ok (.getfield 29, 3) := dk_180 0 29 (dk_at dksX2_goesOn_9 0 rfl rfl)
theorem dX2_goesOn_211 : decode cX2_goesOn 211 = .ok (.iload 4, 2) := dk_21 4 (dk_at dksX2_goesOn_9 3 rfl rfl)
theorem dX2_goesOn_213 : decode cX2_goesOn 213 = .ok (.iconst 1, 1) := dk_4 (dk_at dksX2_goesOn_9 5 rfl rfl)
theorem dX2_goesOn_214 : decode cX2_goesOn 214 = .ok (.iadd, 1) := dk_96 (dk_at dksX2_goesOn_9 6 rfl rfl)
theorem dX2_goesOn_215 : decode cX2_goesOn 215 = .ok (.iaload, 1) := dk_46 (dk_at dksX2_goesOn_9 7 rfl rfl)
theorem dX2_goesOn_216 : decode cX2_goesOn 216 = .ok (.bipush 42, 2) := dk_16 42 (dk_at dksX2_goesOn_9 8 rfl rfl)
theorem dX2_goesOn_218 : decode cX2_goesOn 218 = .ok (.if_icmp .ne 24, 3) := dk_160 0 24 (dk_at dksX2_goesOn_9 10 rfl rfl)
theorem dX2_goesOn_221 : decode cX2_goesOn 221 = .ok (.aload_n 0, 1) := dk_42 (dk_at dksX2_goesOn_9 13 rfl rfl)
theorem dX2_goesOn_222 : decode cX2_goesOn 222 = .ok (.iload 4, 2) := dk_21 4 (dk_at dksX2_goesOn_9 14 rfl rfl)
theorem dX2_goesOn_224 : decode cX2_goesOn 224 = .ok (.iconst 2, 1) := dk_5 (dk_at dksX2_goesOn_9 16 rfl rfl)
theorem dX2_goesOn_225 : decode cX2_goesOn 225 = .ok (.iadd, 1) := dk_96 (dk_at dksX2_goesOn_9 17 rfl rfl)
theorem dX2_goesOn_226 : decode cX2_goesOn 226 = .ok (.invokevirtual 223, 3) := dk_182 0 223 (dk_at dksX2_goesOn_9 18 rfl rfl)
theorem dX2_goesOn_229 : decode cX2_goesOn 229 = .ok (.ifCond .ne 7, 3) := dk_154 0 7 (dk_at dksX2_goesOn_9 21 rfl rfl)
theorem dX2_goesOn_232 : decode cX2_goesOn 232 = .ok (.iload_n 3, 1) := dk_29 (dk_at dksX2_goesOn_10 0 rfl rfl)
theorem dX2_goesOn_233 : decode cX2_goesOn 233 = .ok (.ifCond .eq 7, 3) := dk_153 0 7 (dk_at dksX2_goesOn_10 1 rfl rfl)
theorem dX2_goesOn_236 : decode cX2_goesOn 236 = .ok (.iconst 1, 1) := dk_4 (dk_at dksX2_goesOn_10 4 rfl rfl)
theorem dX2_goesOn_237 : decode cX2_goesOn 237 = .ok (.goto 4, 3) := dk_167 0 4 (dk_at dksX2_goesOn_10 5 rfl rfl)
theorem dX2_goesOn_240 : decode cX2_goesOn 240 = .ok (.iconst 0, 1) := dk_3 (dk_at dksX2_goesOn_10 8 rfl rfl)
theorem dX2_goesOn_241 : decode cX2_goesOn 241 = .ok (.istore_n 3, 1) := dk_62 (dk_at dksX2_goesOn_10 9 rfl rfl)
theorem dX2_goesOn_242 : decode cX2_goesOn 242 = .ok (.iload_n 3, 1) := dk_29 (dk_at dksX2_goesOn_10 10 rfl rfl)
theorem dX2_goesOn_243 : decode cX2_goesOn 243 = .ok (.ireturn, 1) := dk_172 (dk_at dksX2_goesOn_10 11 rfl rfl)
abbrev cX2_mark : ByteArray := prog_18_method_29_code
def yX2_mark : MethodName := ⟨RX2, "mark", "(I)Z"⟩
def dkwX2_mark_0 : List UInt8 := [42, 180, 0, 83, 27, 51, 154, 0, 7, 4, 167, 0, 4, 3, 61, 42, 180, 0, 83, 27, 4, 84, 28, 172]
abbrev dktX2_mark_0 : List UInt8 := dkwX2_mark_0 ++ []
theorem dksX2_mark_0 : cX2_mark.data.toList.drop 0 = dktX2_mark_0 := by decide +kernel
theorem dX2_mark_0 : decode cX2_mark 0 = .ok (.aload_n 0, 1) := dk_42 (dk_at dksX2_mark_0 0 rfl rfl)
theorem dX2_mark_1 : decode cX2_mark 1 = .ok (.getfield 83, 3) := dk_180 0 83 (dk_at dksX2_mark_0 1 rfl rfl)
theorem dX2_mark_4 : decode cX2_mark 4 = .ok (.iload_n 1, 1) := dk_27 (dk_at dksX2_mark_0 4 rfl rfl)
theorem dX2_mark_5 : decode cX2_mark 5 = .ok (.baload, 1) := dk_51 (dk_at dksX2_mark_0 5 rfl rfl)
theorem dX2_mark_6 : decode cX2_mark 6 = .ok (.ifCond .ne 7, 3) := dk_154 0 7 (dk_at dksX2_mark_0 6 rfl rfl)
theorem dX2_mark_9 : decode cX2_mark 9 = .ok (.iconst 1, 1) := dk_4 (dk_at dksX2_mark_0 9 rfl rfl)
theorem dX2_mark_10 : decode cX2_mark 10 = .ok (.goto 4, 3) := dk_167 0 4 (dk_at dksX2_mark_0 10 rfl rfl)
theorem dX2_mark_13 : decode cX2_mark 13 = .ok (.iconst 0, 1) := dk_3 (dk_at dksX2_mark_0 13 rfl rfl)
theorem dX2_mark_14 : decode cX2_mark 14 = .ok (.istore_n 2, 1) := dk_61 (dk_at dksX2_mark_0 14 rfl rfl)
theorem dX2_mark_15 : decode cX2_mark 15 = .ok (.aload_n 0, 1) := dk_42 (dk_at dksX2_mark_0 15 rfl rfl)
theorem dX2_mark_16 : decode cX2_mark 16 = .ok (.getfield 83, 3) := dk_180 0 83 (dk_at dksX2_mark_0 16 rfl rfl)
theorem dX2_mark_19 : decode cX2_mark 19 = .ok (.iload_n 1, 1) := dk_27 (dk_at dksX2_mark_0 19 rfl rfl)
theorem dX2_mark_20 : decode cX2_mark 20 = .ok (.iconst 1, 1) := dk_4 (dk_at dksX2_mark_0 20 rfl rfl)
theorem dX2_mark_21 : decode cX2_mark 21 = .ok (.bastore, 1) := dk_84 (dk_at dksX2_mark_0 21 rfl rfl)
theorem dX2_mark_22 : decode cX2_mark 22 = .ok (.iload_n 2, 1) := dk_28 (dk_at dksX2_mark_0 22 rfl rfl)
theorem dX2_mark_23 : decode cX2_mark 23 = .ok (.ireturn, 1) := dk_172 (dk_at dksX2_mark_0 23 rfl rfl)
abbrev cX2_hearWord : ByteArray := prog_18_method_32_code
def yX2_hearWord : MethodName := ⟨RX2, "hearWord", "(I)V"⟩
def dkwX2_hearWord_4 : List UInt8 := [28, 51, 84, 132, 2, 1, 167, 255, 234, 42, 182, 0, 229, 177]
abbrev dktX2_hearWord_4 : List UInt8 := dkwX2_hearWord_4 ++ []
def dkwX2_hearWord_3 : List UInt8 := [132, 2, 1, 167, 255, 184, 3, 61, 28, 17, 0, 203, 162, 0, 21, 42, 180, 0, 83, 28, 42, 180, 0, 86]
abbrev dktX2_hearWord_3 : List UInt8 := dkwX2_hearWord_3 ++ dktX2_hearWord_4
def dkwX2_hearWord_2 : List UInt8 := [159, 0, 18, 42, 180, 0, 29, 28, 4, 100, 46, 16, 97, 27, 96, 160, 0, 7, 4, 167, 0, 4, 3, 84]
abbrev dktX2_hearWord_2 : List UInt8 := dkwX2_hearWord_2 ++ dktX2_hearWord_3
def dkwX2_hearWord_1 : List UInt8 := [163, 0, 46, 42, 180, 0, 83, 28, 4, 100, 51, 153, 0, 35, 42, 180, 0, 29, 28, 4, 100, 46, 16, 46]
abbrev dktX2_hearWord_1 : List UInt8 := dkwX2_hearWord_1 ++ dktX2_hearWord_2
def dkwX2_hearWord_0 : List UInt8 := [3, 61, 28, 17, 0, 203, 162, 0, 71, 42, 180, 0, 86, 28, 28, 158, 0, 54, 28, 42, 180, 0, 217]
abbrev dktX2_hearWord_0 : List UInt8 := dkwX2_hearWord_0 ++ dktX2_hearWord_1
theorem dksX2_hearWord_0 : cX2_hearWord.data.toList.drop 0 = dktX2_hearWord_0 := by decide +kernel
theorem dksX2_hearWord_1 : cX2_hearWord.data.toList.drop 23 = dktX2_hearWord_1 := dk_seg dksX2_hearWord_0 23 rfl rfl
theorem dksX2_hearWord_2 : cX2_hearWord.data.toList.drop 47 = dktX2_hearWord_2 := dk_seg dksX2_hearWord_1 24 rfl rfl
theorem dksX2_hearWord_3 : cX2_hearWord.data.toList.drop 71 = dktX2_hearWord_3 := dk_seg dksX2_hearWord_2 24 rfl rfl
theorem dksX2_hearWord_4 : cX2_hearWord.data.toList.drop 95 = dktX2_hearWord_4 := dk_seg dksX2_hearWord_3 24 rfl rfl
theorem dX2_hearWord_0 : decode cX2_hearWord 0 = .ok (.iconst 0, 1) := dk_3 (dk_at dksX2_hearWord_0 0 rfl rfl)
theorem dX2_hearWord_1 : decode cX2_hearWord 1 = .ok (.istore_n 2, 1) := dk_61 (dk_at dksX2_hearWord_0 1 rfl rfl)
theorem dX2_hearWord_2 : decode cX2_hearWord 2 = .ok (.iload_n 2, 1) := dk_28 (dk_at dksX2_hearWord_0 2 rfl rfl)
theorem dX2_hearWord_3 : decode cX2_hearWord 3 = .ok (.sipush 203, 3) := dk_17 0 203 (dk_at dksX2_hearWord_0 3 rfl rfl)
theorem dX2_hearWord_6 : decode cX2_hearWord 6 = .ok (.if_icmp .ge 71, 3) := dk_162 0 71 (dk_at dksX2_hearWord_0 6 rfl rfl)
theorem dX2_hearWord_9 : decode cX2_hearWord 9 = .ok (.aload_n 0, 1) := dk_42 (dk_at dksX2_hearWord_0 9 rfl rfl)
theorem dX2_hearWord_10 : decode cX2_hearWord 10 = .ok (.getfield 86, 3) := dk_180 0 86 (dk_at dksX2_hearWord_0 10 rfl rfl)
theorem dX2_hearWord_13 : decode cX2_hearWord 13 = .ok (.iload_n 2, 1) := dk_28 (dk_at dksX2_hearWord_0 13 rfl rfl)
theorem dX2_hearWord_14 : decode cX2_hearWord 14 = .ok (.iload_n 2, 1) := dk_28 (dk_at dksX2_hearWord_0 14 rfl rfl)
theorem dX2_hearWord_15 : decode cX2_hearWord 15 = .ok (.ifCond .le 54, 3) := dk_158 0 54 (dk_at dksX2_hearWord_0 15 rfl rfl)
theorem dX2_hearWord_18 : decode cX2_hearWord 18 = .ok (.iload_n 2, 1) := dk_28 (dk_at dksX2_hearWord_0 18 rfl rfl)
theorem dX2_hearWord_19 : decode cX2_hearWord 19 = .ok (.aload_n 0, 1) := dk_42 (dk_at dksX2_hearWord_0 19 rfl rfl)
theorem dX2_hearWord_20 : decode cX2_hearWord 20 = .ok (.getfield 217, 3) := dk_180 0 217 (dk_at dksX2_hearWord_0 20 rfl rfl)
theorem dX2_hearWord_23 : decode cX2_hearWord 23 = .ok (.if_icmp .gt 46, 3) := dk_163 0 46 (dk_at dksX2_hearWord_1 0 rfl rfl)
theorem dX2_hearWord_26 : decode cX2_hearWord 26 = .ok (.aload_n 0, 1) := dk_42 (dk_at dksX2_hearWord_1 3 rfl rfl)
theorem dX2_hearWord_27 : decode cX2_hearWord 27 = .ok (.getfield 83, 3) := dk_180 0 83 (dk_at dksX2_hearWord_1 4 rfl rfl)
theorem dX2_hearWord_30 : decode cX2_hearWord 30 = .ok (.iload_n 2, 1) := dk_28 (dk_at dksX2_hearWord_1 7 rfl rfl)
theorem dX2_hearWord_31 : decode cX2_hearWord 31 = .ok (.iconst 1, 1) := dk_4 (dk_at dksX2_hearWord_1 8 rfl rfl)
theorem dX2_hearWord_32 : decode cX2_hearWord 32 = .ok (.isub, 1) := dk_100 (dk_at dksX2_hearWord_1 9 rfl rfl)
theorem dX2_hearWord_33 : decode cX2_hearWord 33 = .ok (.baload, 1) := dk_51 (dk_at dksX2_hearWord_1 10 rfl rfl)
theorem dX2_hearWord_34 : decode cX2_hearWord 34 = .ok (.ifCond .eq 35, 3) := dk_153 0 35 (dk_at dksX2_hearWord_1 11 rfl rfl)
theorem dX2_hearWord_37 : decode cX2_hearWord 37 = .ok (.aload_n 0, 1) := dk_42 (dk_at dksX2_hearWord_1 14 rfl rfl)
theorem dX2_hearWord_38 : decode cX2_hearWord 38 = .ok (.getfield 29, 3) := dk_180 0 29 (dk_at dksX2_hearWord_1 15 rfl rfl)
theorem dX2_hearWord_41 : decode cX2_hearWord 41 = .ok (.iload_n 2, 1) := dk_28 (dk_at dksX2_hearWord_1 18 rfl rfl)
theorem dX2_hearWord_42 : decode cX2_hearWord 42 = .ok (.iconst 1, 1) := dk_4 (dk_at dksX2_hearWord_1 19 rfl rfl)
theorem dX2_hearWord_43 : decode cX2_hearWord 43 = .ok (.isub, 1) := dk_100 (dk_at dksX2_hearWord_1 20 rfl rfl)
theorem dX2_hearWord_44 : decode cX2_hearWord 44 = .ok (.iaload, 1) := dk_46 (dk_at dksX2_hearWord_1 21 rfl rfl)
theorem dX2_hearWord_45 : decode cX2_hearWord 45 = .ok (.bipush 46, 2) := dk_16 46 (dk_at dksX2_hearWord_1 22 rfl rfl)
theorem dX2_hearWord_47 : decode cX2_hearWord 47 = .ok (.if_icmp .eq 18, 3) := dk_159 0 18 (dk_at dksX2_hearWord_2 0 rfl rfl)
theorem dX2_hearWord_50 : decode cX2_hearWord 50 = .ok (.aload_n 0, 1) := dk_42 (dk_at dksX2_hearWord_2 3 rfl rfl)
theorem dX2_hearWord_51 : decode cX2_hearWord 51 = .ok (.getfield 29, 3) := dk_180 0 29 (dk_at dksX2_hearWord_2 4 rfl rfl)
theorem dX2_hearWord_54 : decode cX2_hearWord 54 = .ok (.iload_n 2, 1) := dk_28 (dk_at dksX2_hearWord_2 7 rfl rfl)
theorem dX2_hearWord_55 : decode cX2_hearWord 55 = .ok (.iconst 1, 1) := dk_4 (dk_at dksX2_hearWord_2 8 rfl rfl)
theorem dX2_hearWord_56 : decode cX2_hearWord 56 = .ok (.isub, 1) := dk_100 (dk_at dksX2_hearWord_2 9 rfl rfl)
theorem dX2_hearWord_57 : decode cX2_hearWord 57 = .ok (.iaload, 1) := dk_46 (dk_at dksX2_hearWord_2 10 rfl rfl)
theorem dX2_hearWord_58 : decode cX2_hearWord 58 = .ok (.bipush 97, 2) := dk_16 97 (dk_at dksX2_hearWord_2 11 rfl rfl)
theorem dX2_hearWord_60 : decode cX2_hearWord 60 = .ok (.iload_n 1, 1) := dk_27 (dk_at dksX2_hearWord_2 13 rfl rfl)
theorem dX2_hearWord_61 : decode cX2_hearWord 61 = .ok (.iadd, 1) := dk_96 (dk_at dksX2_hearWord_2 14 rfl rfl)
theorem dX2_hearWord_62 : decode cX2_hearWord 62 = .ok (.if_icmp .ne 7, 3) := dk_160 0 7 (dk_at dksX2_hearWord_2 15 rfl rfl)
theorem dX2_hearWord_65 : decode cX2_hearWord 65 = .ok (.iconst 1, 1) := dk_4 (dk_at dksX2_hearWord_2 18 rfl rfl)
theorem dX2_hearWord_66 : decode cX2_hearWord 66 = .ok (.goto 4, 3) := dk_167 0 4 (dk_at dksX2_hearWord_2 19 rfl rfl)
theorem dX2_hearWord_69 : decode cX2_hearWord 69 = .ok (.iconst 0, 1) := dk_3 (dk_at dksX2_hearWord_2 22 rfl rfl)
theorem dX2_hearWord_70 : decode cX2_hearWord 70 = .ok (.bastore, 1) := dk_84 (dk_at dksX2_hearWord_2 23 rfl rfl)
theorem dX2_hearWord_71 : decode cX2_hearWord 71 = .ok (.iinc 2 1, 3) := dk_132 2 1 (dk_at dksX2_hearWord_3 0 rfl rfl)
theorem dX2_hearWord_74 : decode cX2_hearWord 74 = .ok (.goto (-72), 3) := dk_167 255 184 (dk_at dksX2_hearWord_3 3 rfl rfl)
theorem dX2_hearWord_77 : decode cX2_hearWord 77 = .ok (.iconst 0, 1) := dk_3 (dk_at dksX2_hearWord_3 6 rfl rfl)
theorem dX2_hearWord_78 : decode cX2_hearWord 78 = .ok (.istore_n 2, 1) := dk_61 (dk_at dksX2_hearWord_3 7 rfl rfl)
theorem dX2_hearWord_79 : decode cX2_hearWord 79 = .ok (.iload_n 2, 1) := dk_28 (dk_at dksX2_hearWord_3 8 rfl rfl)
theorem dX2_hearWord_80 : decode cX2_hearWord 80 = .ok (.sipush 203, 3) := dk_17 0 203 (dk_at dksX2_hearWord_3 9 rfl rfl)
theorem dX2_hearWord_83 : decode cX2_hearWord 83 = .ok (.if_icmp .ge 21, 3) := dk_162 0 21 (dk_at dksX2_hearWord_3 12 rfl rfl)
theorem dX2_hearWord_86 : decode cX2_hearWord 86 = .ok (.aload_n 0, 1) := dk_42 (dk_at dksX2_hearWord_3 15 rfl rfl)
theorem dX2_hearWord_87 : decode cX2_hearWord 87 = .ok (.getfield 83, 3) := dk_180 0 83 (dk_at dksX2_hearWord_3 16 rfl rfl)
theorem dX2_hearWord_90 : decode cX2_hearWord 90 = .ok (.iload_n 2, 1) := dk_28 (dk_at dksX2_hearWord_3 19 rfl rfl)
theorem dX2_hearWord_91 : decode cX2_hearWord 91 = .ok (.aload_n 0, 1) := dk_42 (dk_at dksX2_hearWord_3 20 rfl rfl)
theorem dX2_hearWord_92 : decode cX2_hearWord 92 = .ok (.getfield 86, 3) := dk_180 0 86 (dk_at dksX2_hearWord_3 21 rfl rfl)
theorem dX2_hearWord_95 : decode cX2_hearWord 95 = .ok (.iload_n 2, 1) := dk_28 (dk_at dksX2_hearWord_4 0 rfl rfl)
theorem dX2_hearWord_96 : decode cX2_hearWord 96 = .ok (.baload, 1) := dk_51 (dk_at dksX2_hearWord_4 1 rfl rfl)
theorem dX2_hearWord_97 : decode cX2_hearWord 97 = .ok (.bastore, 1) := dk_84 (dk_at dksX2_hearWord_4 2 rfl rfl)
theorem dX2_hearWord_98 : decode cX2_hearWord 98 = .ok (.iinc 2 1, 3) := dk_132 2 1 (dk_at dksX2_hearWord_4 3 rfl rfl)
theorem dX2_hearWord_101 : decode cX2_hearWord 101 = .ok (.goto (-22), 3) := dk_167 255 234 (dk_at dksX2_hearWord_4 6 rfl rfl)
theorem dX2_hearWord_104 : decode cX2_hearWord 104 = .ok (.aload_n 0, 1) := dk_42 (dk_at dksX2_hearWord_4 9 rfl rfl)
theorem dX2_hearWord_105 : decode cX2_hearWord 105 = .ok (.invokevirtual 229, 3) := dk_182 0 229 (dk_at dksX2_hearWord_4 10 rfl rfl)
theorem dX2_hearWord_108 : decode cX2_hearWord 108 = .ok (.return_, 1) := dk_177 (dk_at dksX2_hearWord_4 13 rfl rfl)
abbrev cX2_left : ByteArray := prog_18_method_78_code
def yX2_left : MethodName := ⟨RX2, "left", "(III)I"⟩
def dkwX2_left_6 : List UInt8 := [154, 0, 14, 21, 5, 21, 4, 100, 21, 6, 108, 167, 0, 8, 21, 5, 21, 6, 108, 172]
abbrev dktX2_left_6 : List UInt8 := dkwX2_left_6 ++ []
def dkwX2_left_5 : List UInt8 := [21, 7, 153, 0, 21, 21, 6, 21, 7, 112, 54, 8, 21, 7, 54, 6, 21, 8, 54, 7, 167, 255, 236, 29]
abbrev dktX2_left_5 : List UInt8 := dkwX2_left_5 ++ dktX2_left_6
def dkwX2_left_4 : List UInt8 := [167, 0, 4, 4, 104, 54, 5, 132, 6, 1, 167, 255, 198, 21, 5, 21, 4, 100, 54, 6, 21, 5, 54, 7]
abbrev dktX2_left_4 : List UInt8 := dkwX2_left_4 ++ dktX2_left_5
def dkwX2_left_3 : List UInt8 := [21, 7, 153, 0, 7, 28, 167, 0, 4, 4, 104, 54, 4, 21, 5, 21, 7, 153, 0, 8, 16, 10]
abbrev dktX2_left_3 : List UInt8 := dkwX2_left_3 ++ dktX2_left_4
def dkwX2_left_2 : List UInt8 := [180, 0, 7, 3, 46, 162, 0, 53, 42, 3, 21, 6, 182, 0, 241, 27, 184, 0, 165, 54, 7, 21, 4]
abbrev dktX2_left_2 : List UInt8 := dkwX2_left_2 ++ dktX2_left_3
def dkwX2_left_1 : List UInt8 := [9, 10, 184, 0, 109, 154, 0, 6, 16, 253, 172, 4, 54, 4, 4, 54, 5, 3, 54, 6, 21, 6, 42]
abbrev dktX2_left_1 : List UInt8 := dkwX2_left_1 ++ dktX2_left_2
def dkwX2_left_0 : List UInt8 := [27, 184, 1, 37, 154, 0, 6, 16, 254, 172, 28, 133, 9, 20, 1, 81, 184, 0, 109, 153, 0, 13, 29, 133]
abbrev dktX2_left_0 : List UInt8 := dkwX2_left_0 ++ dktX2_left_1
theorem dksX2_left_0 : cX2_left.data.toList.drop 0 = dktX2_left_0 := by decide +kernel
theorem dksX2_left_1 : cX2_left.data.toList.drop 24 = dktX2_left_1 := dk_seg dksX2_left_0 24 rfl rfl
theorem dksX2_left_2 : cX2_left.data.toList.drop 47 = dktX2_left_2 := dk_seg dksX2_left_1 23 rfl rfl
theorem dksX2_left_3 : cX2_left.data.toList.drop 70 = dktX2_left_3 := dk_seg dksX2_left_2 23 rfl rfl
theorem dksX2_left_4 : cX2_left.data.toList.drop 92 = dktX2_left_4 := dk_seg dksX2_left_3 22 rfl rfl
theorem dksX2_left_5 : cX2_left.data.toList.drop 116 = dktX2_left_5 := dk_seg dksX2_left_4 24 rfl rfl
theorem dksX2_left_6 : cX2_left.data.toList.drop 140 = dktX2_left_6 := dk_seg dksX2_left_5 24 rfl rfl
theorem dX2_left_0 : decode cX2_left 0 = .ok (.iload_n 1, 1) := dk_27 (dk_at dksX2_left_0 0 rfl rfl)
theorem dX2_left_1 : decode cX2_left 1 = .ok (.invokestatic 293, 3) := dk_184 1 37 (dk_at dksX2_left_0 1 rfl rfl)
theorem dX2_left_4 : decode cX2_left 4 = .ok (.ifCond .ne 6, 3) := dk_154 0 6 (dk_at dksX2_left_0 4 rfl rfl)
theorem dX2_left_7 : decode cX2_left 7 = .ok (.bipush (-2), 2) := dk_16 254 (dk_at dksX2_left_0 7 rfl rfl)
theorem dX2_left_9 : decode cX2_left 9 = .ok (.ireturn, 1) := dk_172 (dk_at dksX2_left_0 9 rfl rfl)
theorem dX2_left_10 : decode cX2_left 10 = .ok (.iload_n 2, 1) := dk_28 (dk_at dksX2_left_0 10 rfl rfl)
theorem dX2_left_11 : decode cX2_left 11 = .ok (.i2l, 1) := dk_133 (dk_at dksX2_left_0 11 rfl rfl)
theorem dX2_left_12 : decode cX2_left 12 = .ok (.lconst 0, 1) := dk_9 (dk_at dksX2_left_0 12 rfl rfl)
theorem dX2_left_13 : decode cX2_left 13 = .ok (.ldc2_w 337, 3) := dk_20 1 81 (dk_at dksX2_left_0 13 rfl rfl)
theorem dX2_left_16 : decode cX2_left 16 = .ok (.invokestatic 109, 3) := dk_184 0 109 (dk_at dksX2_left_0 16 rfl rfl)
theorem dX2_left_19 : decode cX2_left 19 = .ok (.ifCond .eq 13, 3) := dk_153 0 13 (dk_at dksX2_left_0 19 rfl rfl)
theorem dX2_left_22 : decode cX2_left 22 = .ok (.iload_n 3, 1) := dk_29 (dk_at dksX2_left_0 22 rfl rfl)
theorem dX2_left_23 : decode cX2_left 23 = .ok (.i2l, 1) := dk_133 (dk_at dksX2_left_0 23 rfl rfl)
theorem dX2_left_24 : decode cX2_left 24 = .ok (.lconst 0, 1) := dk_9 (dk_at dksX2_left_1 0 rfl rfl)
theorem dX2_left_25 : decode cX2_left 25 = .ok (.lconst 1, 1) := dk_10 (dk_at dksX2_left_1 1 rfl rfl)
theorem dX2_left_26 : decode cX2_left 26 = .ok (.invokestatic 109, 3) := dk_184 0 109 (dk_at dksX2_left_1 2 rfl rfl)
theorem dX2_left_29 : decode cX2_left 29 = .ok (.ifCond .ne 6, 3) := dk_154 0 6 (dk_at dksX2_left_1 5 rfl rfl)
theorem dX2_left_32 : decode cX2_left 32 = .ok (.bipush (-3), 2) := dk_16 253 (dk_at dksX2_left_1 8 rfl rfl)
theorem dX2_left_34 : decode cX2_left 34 = .ok (.ireturn, 1) := dk_172 (dk_at dksX2_left_1 10 rfl rfl)
theorem dX2_left_35 : decode cX2_left 35 = .ok (.iconst 1, 1) := dk_4 (dk_at dksX2_left_1 11 rfl rfl)
theorem dX2_left_36 : decode cX2_left 36 = .ok (.istore 4, 2) := dk_54 4 (dk_at dksX2_left_1 12 rfl rfl)
theorem dX2_left_38 : decode cX2_left 38 = .ok (.iconst 1, 1) := dk_4 (dk_at dksX2_left_1 14 rfl rfl)
theorem dX2_left_39 : decode cX2_left 39 = .ok (.istore 5, 2) := dk_54 5 (dk_at dksX2_left_1 15 rfl rfl)
theorem dX2_left_41 : decode cX2_left 41 = .ok (.iconst 0, 1) := dk_3 (dk_at dksX2_left_1 17 rfl rfl)
theorem dX2_left_42 : decode cX2_left 42 = .ok (.istore 6, 2) := dk_54 6 (dk_at dksX2_left_1 18 rfl rfl)
theorem dX2_left_44 : decode cX2_left 44 = .ok (.iload 6, 2) := dk_21 6 (dk_at dksX2_left_1 20 rfl rfl)
theorem dX2_left_46 : decode cX2_left 46 = .ok (.aload_n 0, 1) := dk_42 (dk_at dksX2_left_1 22 rfl rfl)
theorem dX2_left_47 : decode cX2_left 47 = .ok (.getfield 7, 3) := dk_180 0 7 (dk_at dksX2_left_2 0 rfl rfl)
theorem dX2_left_50 : decode cX2_left 50 = .ok (.iconst 0, 1) := dk_3 (dk_at dksX2_left_2 3 rfl rfl)
theorem dX2_left_51 : decode cX2_left 51 = .ok (.iaload, 1) := dk_46 (dk_at dksX2_left_2 4 rfl rfl)
theorem dX2_left_52 : decode cX2_left 52 = .ok (.if_icmp .ge 53, 3) := dk_162 0 53 (dk_at dksX2_left_2 5 rfl rfl)
theorem dX2_left_55 : decode cX2_left 55 = .ok (.aload_n 0, 1) := dk_42 (dk_at dksX2_left_2 8 rfl rfl)
theorem dX2_left_56 : decode cX2_left 56 = .ok (.iconst 0, 1) := dk_3 (dk_at dksX2_left_2 9 rfl rfl)
theorem dX2_left_57 : decode cX2_left 57 = .ok (.iload 6, 2) := dk_21 6 (dk_at dksX2_left_2 10 rfl rfl)
theorem dX2_left_59 : decode cX2_left 59 = .ok (.invokevirtual 241, 3) := dk_182 0 241 (dk_at dksX2_left_2 12 rfl rfl)
theorem dX2_left_62 : decode cX2_left 62 = .ok (.iload_n 1, 1) := dk_27 (dk_at dksX2_left_2 15 rfl rfl)
theorem dX2_left_63 : decode cX2_left 63 = .ok (.invokestatic 165, 3) := dk_184 0 165 (dk_at dksX2_left_2 16 rfl rfl)
theorem dX2_left_66 : decode cX2_left 66 = .ok (.istore 7, 2) := dk_54 7 (dk_at dksX2_left_2 19 rfl rfl)
theorem dX2_left_68 : decode cX2_left 68 = .ok (.iload 4, 2) := dk_21 4 (dk_at dksX2_left_2 21 rfl rfl)
theorem dX2_left_70 : decode cX2_left 70 = .ok (.iload 7, 2) := dk_21 7 (dk_at dksX2_left_3 0 rfl rfl)
theorem dX2_left_72 : decode cX2_left 72 = .ok (.ifCond .eq 7, 3) := dk_153 0 7 (dk_at dksX2_left_3 2 rfl rfl)
theorem dX2_left_75 : decode cX2_left 75 = .ok (.iload_n 2, 1) := dk_28 (dk_at dksX2_left_3 5 rfl rfl)
theorem dX2_left_76 : decode cX2_left 76 = .ok (.goto 4, 3) := dk_167 0 4 (dk_at dksX2_left_3 6 rfl rfl)
theorem dX2_left_79 : decode cX2_left 79 = .ok (.iconst 1, 1) := dk_4 (dk_at dksX2_left_3 9 rfl rfl)
theorem dX2_left_80 : decode cX2_left 80 = .ok (.imul, 1) := dk_104 (dk_at dksX2_left_3 10 rfl rfl)
theorem dX2_left_81 : decode cX2_left 81 = .ok (.istore 4, 2) := dk_54 4 (dk_at dksX2_left_3 11 rfl rfl)
theorem dX2_left_83 : decode cX2_left 83 = .ok (.iload 5, 2) := dk_21 5 (dk_at dksX2_left_3 13 rfl rfl)
theorem dX2_left_85 : decode cX2_left 85 = .ok (.iload 7, 2) := dk_21 7 (dk_at dksX2_left_3 15 rfl rfl)
theorem dX2_left_87 : decode cX2_left 87 = .ok (.ifCond .eq 8, 3) := dk_153 0 8 (dk_at dksX2_left_3 17 rfl rfl)
theorem dX2_left_90 : decode cX2_left 90 = .ok (.bipush 10, 2) := dk_16 10 (dk_at dksX2_left_3 20 rfl rfl)
theorem dX2_left_92 : decode cX2_left 92 = .ok (.goto 4, 3) := dk_167 0 4 (dk_at dksX2_left_4 0 rfl rfl)
theorem dX2_left_95 : decode cX2_left 95 = .ok (.iconst 1, 1) := dk_4 (dk_at dksX2_left_4 3 rfl rfl)
theorem dX2_left_96 : decode cX2_left 96 = .ok (.imul, 1) := dk_104 (dk_at dksX2_left_4 4 rfl rfl)
theorem dX2_left_97 : decode cX2_left 97 = .ok (.istore 5, 2) := dk_54 5 (dk_at dksX2_left_4 5 rfl rfl)
theorem dX2_left_99 : decode cX2_left 99 = .ok (.iinc 6 1, 3) := dk_132 6 1 (dk_at dksX2_left_4 7 rfl rfl)
theorem dX2_left_102 : decode cX2_left 102 = .ok (.goto (-58), 3) := dk_167 255 198 (dk_at dksX2_left_4 10 rfl rfl)
theorem dX2_left_105 : decode cX2_left 105 = .ok (.iload 5, 2) := dk_21 5 (dk_at dksX2_left_4 13 rfl rfl)
theorem dX2_left_107 : decode cX2_left 107 = .ok (.iload 4, 2) := dk_21 4 (dk_at dksX2_left_4 15 rfl rfl)
theorem dX2_left_109 : decode cX2_left 109 = .ok (.isub, 1) := dk_100 (dk_at dksX2_left_4 17 rfl rfl)
theorem dX2_left_110 : decode cX2_left 110 = .ok (.istore 6, 2) := dk_54 6 (dk_at dksX2_left_4 18 rfl rfl)
theorem dX2_left_112 : decode cX2_left 112 = .ok (.iload 5, 2) := dk_21 5 (dk_at dksX2_left_4 20 rfl rfl)
theorem dX2_left_114 : decode cX2_left 114 = .ok (.istore 7, 2) := dk_54 7 (dk_at dksX2_left_4 22 rfl rfl)
theorem dX2_left_116 : decode cX2_left 116 = .ok (.iload 7, 2) := dk_21 7 (dk_at dksX2_left_5 0 rfl rfl)
theorem dX2_left_118 : decode cX2_left 118 = .ok (.ifCond .eq 21, 3) := dk_153 0 21 (dk_at dksX2_left_5 2 rfl rfl)
theorem dX2_left_121 : decode cX2_left 121 = .ok (.iload 6, 2) := dk_21 6 (dk_at dksX2_left_5 5 rfl rfl)
theorem dX2_left_123 : decode cX2_left 123 = .ok (.iload 7, 2) := dk_21 7 (dk_at dksX2_left_5 7 rfl rfl)
theorem dX2_left_125 : decode cX2_left 125 = .ok (.irem, 1) := dk_112 (dk_at dksX2_left_5 9 rfl rfl)
theorem dX2_left_126 : decode cX2_left 126 = .ok (.istore 8, 2) := dk_54 8 (dk_at dksX2_left_5 10 rfl rfl)
theorem dX2_left_128 : decode cX2_left 128 = .ok (.iload 7, 2) := dk_21 7 (dk_at dksX2_left_5 12 rfl rfl)
theorem dX2_left_130 : decode cX2_left 130 = .ok (.istore 6, 2) := dk_54 6 (dk_at dksX2_left_5 14 rfl rfl)
theorem dX2_left_132 : decode cX2_left 132 = .ok (.iload 8, 2) := dk_21 8 (dk_at dksX2_left_5 16 rfl rfl)
theorem dX2_left_134 : decode cX2_left 134 = .ok (.istore 7, 2) := dk_54 7 (dk_at dksX2_left_5 18 rfl rfl)
theorem dX2_left_136 : decode cX2_left 136 = .ok (.goto (-20), 3) := dk_167 255 236 (dk_at dksX2_left_5 20 rfl rfl)
theorem dX2_left_139 : decode cX2_left 139 = .ok (.iload_n 3, 1) := dk_29 (dk_at dksX2_left_5 23 rfl rfl)
theorem dX2_left_140 : decode cX2_left 140 = .ok (.ifCond .ne 14, 3) := dk_154 0 14 (dk_at dksX2_left_6 0 rfl rfl)
theorem dX2_left_143 : decode cX2_left 143 = .ok (.iload 5, 2) := dk_21 5 (dk_at dksX2_left_6 3 rfl rfl)
theorem dX2_left_145 : decode cX2_left 145 = .ok (.iload 4, 2) := dk_21 4 (dk_at dksX2_left_6 5 rfl rfl)
theorem dX2_left_147 : decode cX2_left 147 = .ok (.isub, 1) := dk_100 (dk_at dksX2_left_6 7 rfl rfl)
theorem dX2_left_148 : decode cX2_left 148 = .ok (.iload 6, 2) := dk_21 6 (dk_at dksX2_left_6 8 rfl rfl)
theorem dX2_left_150 : decode cX2_left 150 = .ok (.idiv, 1) := dk_108 (dk_at dksX2_left_6 10 rfl rfl)
theorem dX2_left_151 : decode cX2_left 151 = .ok (.goto 8, 3) := dk_167 0 8 (dk_at dksX2_left_6 11 rfl rfl)
theorem dX2_left_154 : decode cX2_left 154 = .ok (.iload 5, 2) := dk_21 5 (dk_at dksX2_left_6 14 rfl rfl)
theorem dX2_left_156 : decode cX2_left 156 = .ok (.iload 6, 2) := dk_21 6 (dk_at dksX2_left_6 16 rfl rfl)
theorem dX2_left_158 : decode cX2_left 158 = .ok (.idiv, 1) := dk_108 (dk_at dksX2_left_6 18 rfl rfl)
theorem dX2_left_159 : decode cX2_left 159 = .ok (.ireturn, 1) := dk_172 (dk_at dksX2_left_6 19 rfl rfl)
abbrev cX2_seen : ByteArray := prog_18_method_79_code
def yX2_seen : MethodName := ⟨RX2, "seen", "(III)I"⟩
def dkwX2_seen_4 : List UInt8 := [180, 0, 209, 172]
abbrev dktX2_seen_4 : List UInt8 := dkwX2_seen_4 ++ []
def dkwX2_seen_3 : List UInt8 := [28, 79, 42, 180, 0, 26, 42, 180, 0, 209, 29, 79, 42, 89, 180, 0, 209, 4, 96, 181, 0, 209, 42]
abbrev dktX2_seen_3 : List UInt8 := dkwX2_seen_3 ++ dktX2_seen_4
def dkwX2_seen_2 : List UInt8 := [160, 0, 6, 16, 251, 172, 42, 180, 0, 20, 42, 180, 0, 209, 27, 79, 42, 180, 0, 23, 42, 180, 0, 209]
abbrev dktX2_seen_2 : List UInt8 := dkwX2_seen_2 ++ dktX2_seen_3
def dkwX2_seen_1 : List UInt8 := [16, 254, 172, 28, 133, 9, 20, 0, 232, 184, 0, 109, 154, 0, 6, 16, 253, 172, 42, 180, 0, 209, 16, 6]
abbrev dktX2_seen_1 : List UInt8 := dkwX2_seen_1 ++ dktX2_seen_2
def dkwX2_seen_0 : List UInt8 := [27, 133, 9, 20, 1, 53, 184, 0, 109, 153, 0, 15, 29, 2, 159, 0, 13, 29, 184, 1, 37, 154, 0, 6]
abbrev dktX2_seen_0 : List UInt8 := dkwX2_seen_0 ++ dktX2_seen_1
theorem dksX2_seen_0 : cX2_seen.data.toList.drop 0 = dktX2_seen_0 := by decide +kernel
theorem dksX2_seen_1 : cX2_seen.data.toList.drop 24 = dktX2_seen_1 := dk_seg dksX2_seen_0 24 rfl rfl
theorem dksX2_seen_2 : cX2_seen.data.toList.drop 48 = dktX2_seen_2 := dk_seg dksX2_seen_1 24 rfl rfl
theorem dksX2_seen_3 : cX2_seen.data.toList.drop 72 = dktX2_seen_3 := dk_seg dksX2_seen_2 24 rfl rfl
theorem dksX2_seen_4 : cX2_seen.data.toList.drop 95 = dktX2_seen_4 := dk_seg dksX2_seen_3 23 rfl rfl
theorem dX2_seen_0 : decode cX2_seen 0 = .ok (.iload_n 1, 1) := dk_27 (dk_at dksX2_seen_0 0 rfl rfl)
theorem dX2_seen_1 : decode cX2_seen 1 = .ok (.i2l, 1) := dk_133 (dk_at dksX2_seen_0 1 rfl rfl)
theorem dX2_seen_2 : decode cX2_seen 2 = .ok (.lconst 0, 1) := dk_9 (dk_at dksX2_seen_0 2 rfl rfl)
theorem dX2_seen_3 : decode cX2_seen 3 = .ok (.ldc2_w 309, 3) := dk_20 1 53 (dk_at dksX2_seen_0 3 rfl rfl)
theorem dX2_seen_6 : decode cX2_seen 6 = .ok (.invokestatic 109, 3) := dk_184 0 109 (dk_at dksX2_seen_0 6 rfl rfl)
theorem dX2_seen_9 : decode cX2_seen 9 = .ok (.ifCond .eq 15, 3) := dk_153 0 15 (dk_at dksX2_seen_0 9 rfl rfl)
theorem dX2_seen_12 : decode cX2_seen 12 = .ok (.iload_n 3, 1) := dk_29 (dk_at dksX2_seen_0 12 rfl rfl)
theorem dX2_seen_13 : decode cX2_seen 13 = .ok (.iconst (-1), 1) := dk_2 (dk_at dksX2_seen_0 13 rfl rfl)
theorem dX2_seen_14 : decode cX2_seen 14 = .ok (.if_icmp .eq 13, 3) := dk_159 0 13 (dk_at dksX2_seen_0 14 rfl rfl)
theorem dX2_seen_17 : decode cX2_seen 17 = .ok (.iload_n 3, 1) := dk_29 (dk_at dksX2_seen_0 17 rfl rfl)
theorem dX2_seen_18 : decode cX2_seen 18 = .ok (.invokestatic 293, 3) := dk_184 1 37 (dk_at dksX2_seen_0 18 rfl rfl)
theorem dX2_seen_21 : decode cX2_seen 21 = .ok (.ifCond .ne 6, 3) := dk_154 0 6 (dk_at dksX2_seen_0 21 rfl rfl)
theorem dX2_seen_24 : decode cX2_seen 24 = .ok (.bipush (-2), 2) := dk_16 254 (dk_at dksX2_seen_1 0 rfl rfl)
theorem dX2_seen_26 : decode cX2_seen 26 = .ok (.ireturn, 1) := dk_172 (dk_at dksX2_seen_1 2 rfl rfl)
theorem dX2_seen_27 : decode cX2_seen 27 = .ok (.iload_n 2, 1) := dk_28 (dk_at dksX2_seen_1 3 rfl rfl)
theorem dX2_seen_28 : decode cX2_seen 28 = .ok (.i2l, 1) := dk_133 (dk_at dksX2_seen_1 4 rfl rfl)
theorem dX2_seen_29 : decode cX2_seen 29 = .ok (.lconst 0, 1) := dk_9 (dk_at dksX2_seen_1 5 rfl rfl)
theorem dX2_seen_30 : decode cX2_seen 30 = .ok (.ldc2_w 232, 3) := dk_20 0 232 (dk_at dksX2_seen_1 6 rfl rfl)
theorem dX2_seen_33 : decode cX2_seen 33 = .ok (.invokestatic 109, 3) := dk_184 0 109 (dk_at dksX2_seen_1 9 rfl rfl)
theorem dX2_seen_36 : decode cX2_seen 36 = .ok (.ifCond .ne 6, 3) := dk_154 0 6 (dk_at dksX2_seen_1 12 rfl rfl)
theorem dX2_seen_39 : decode cX2_seen 39 = .ok (.bipush (-3), 2) := dk_16 253 (dk_at dksX2_seen_1 15 rfl rfl)
theorem dX2_seen_41 : decode cX2_seen 41 = .ok (.ireturn, 1) := dk_172 (dk_at dksX2_seen_1 17 rfl rfl)
theorem dX2_seen_42 : decode cX2_seen 42 = .ok (.aload_n 0, 1) := dk_42 (dk_at dksX2_seen_1 18 rfl rfl)
theorem dX2_seen_43 : decode cX2_seen 43 = .ok (.getfield 209, 3) := dk_180 0 209 (dk_at dksX2_seen_1 19 rfl rfl)
theorem dX2_seen_46 : decode cX2_seen 46 = .ok (.bipush 6, 2) := dk_16 6 (dk_at dksX2_seen_1 22 rfl rfl)
theorem dX2_seen_48 : decode cX2_seen 48 = .ok (.if_icmp .ne 6, 3) := dk_160 0 6 (dk_at dksX2_seen_2 0 rfl rfl)
theorem dX2_seen_51 : decode cX2_seen 51 = .ok (.bipush (-5), 2) := dk_16 251 (dk_at dksX2_seen_2 3 rfl rfl)
theorem dX2_seen_53 : decode cX2_seen 53 = .ok (.ireturn, 1) := dk_172 (dk_at dksX2_seen_2 5 rfl rfl)
theorem dX2_seen_54 : decode cX2_seen 54 = .ok (.aload_n 0, 1) := dk_42 (dk_at dksX2_seen_2 6 rfl rfl)
theorem dX2_seen_55 : decode cX2_seen 55 = .ok (.getfield 20, 3) := dk_180 0 20 (dk_at dksX2_seen_2 7 rfl rfl)
theorem dX2_seen_58 : decode cX2_seen 58 = .ok (.aload_n 0, 1) := dk_42 (dk_at dksX2_seen_2 10 rfl rfl)
theorem dX2_seen_59 : decode cX2_seen 59 = .ok (.getfield 209, 3) := dk_180 0 209 (dk_at dksX2_seen_2 11 rfl rfl)
theorem dX2_seen_62 : decode cX2_seen 62 = .ok (.iload_n 1, 1) := dk_27 (dk_at dksX2_seen_2 14 rfl rfl)
theorem dX2_seen_63 : decode cX2_seen 63 = .ok (.iastore, 1) := dk_79 (dk_at dksX2_seen_2 15 rfl rfl)
theorem dX2_seen_64 : decode cX2_seen 64 = .ok (.aload_n 0, 1) := dk_42 (dk_at dksX2_seen_2 16 rfl rfl)
theorem dX2_seen_65 : decode cX2_seen 65 = .ok (.getfield 23, 3) := dk_180 0 23 (dk_at dksX2_seen_2 17 rfl rfl)
theorem dX2_seen_68 : decode cX2_seen 68 = .ok (.aload_n 0, 1) := dk_42 (dk_at dksX2_seen_2 20 rfl rfl)
theorem dX2_seen_69 : decode cX2_seen 69 = .ok (.getfield 209, 3) := dk_180 0 209 (dk_at dksX2_seen_2 21 rfl rfl)
theorem dX2_seen_72 : decode cX2_seen 72 = .ok (.iload_n 2, 1) := dk_28 (dk_at dksX2_seen_3 0 rfl rfl)
theorem dX2_seen_73 : decode cX2_seen 73 = .ok (.iastore, 1) := dk_79 (dk_at dksX2_seen_3 1 rfl rfl)
theorem dX2_seen_74 : decode cX2_seen 74 = .ok (.aload_n 0, 1) := dk_42 (dk_at dksX2_seen_3 2 rfl rfl)
theorem dX2_seen_75 : decode cX2_seen 75 = .ok (.getfield 26, 3) := dk_180 0 26 (dk_at dksX2_seen_3 3 rfl rfl)
theorem dX2_seen_78 : decode cX2_seen 78 = .ok (.aload_n 0, 1) := dk_42 (dk_at dksX2_seen_3 6 rfl rfl)
theorem dX2_seen_79 : decode cX2_seen 79 = .ok (.getfield 209, 3) := dk_180 0 209 (dk_at dksX2_seen_3 7 rfl rfl)
theorem dX2_seen_82 : decode cX2_seen 82 = .ok (.iload_n 3, 1) := dk_29 (dk_at dksX2_seen_3 10 rfl rfl)
theorem dX2_seen_83 : decode cX2_seen 83 = .ok (.iastore, 1) := dk_79 (dk_at dksX2_seen_3 11 rfl rfl)
theorem dX2_seen_84 : decode cX2_seen 84 = .ok (.aload_n 0, 1) := dk_42 (dk_at dksX2_seen_3 12 rfl rfl)
theorem dX2_seen_85 : decode cX2_seen 85 = .ok (.dup, 1) := dk_89 (dk_at dksX2_seen_3 13 rfl rfl)
theorem dX2_seen_86 : decode cX2_seen 86 = .ok (.getfield 209, 3) := dk_180 0 209 (dk_at dksX2_seen_3 14 rfl rfl)
theorem dX2_seen_89 : decode cX2_seen 89 = .ok (.iconst 1, 1) := dk_4 (dk_at dksX2_seen_3 17 rfl rfl)
theorem dX2_seen_90 : decode cX2_seen 90 = .ok (.iadd, 1) := dk_96 (dk_at dksX2_seen_3 18 rfl rfl)
theorem dX2_seen_91 : decode cX2_seen 91 = .ok (.putfield 209, 3) := dk_181 0 209 (dk_at dksX2_seen_3 19 rfl rfl)
theorem dX2_seen_94 : decode cX2_seen 94 = .ok (.aload_n 0, 1) := dk_42 (dk_at dksX2_seen_3 22 rfl rfl)
theorem dX2_seen_95 : decode cX2_seen 95 = .ok (.getfield 209, 3) := dk_180 0 209 (dk_at dksX2_seen_4 0 rfl rfl)
theorem dX2_seen_98 : decode cX2_seen 98 = .ok (.ireturn, 1) := dk_172 (dk_at dksX2_seen_4 3 rfl rfl)
abbrev cX2_forget : ByteArray := prog_18_method_80_code
def yX2_forget : MethodName := ⟨RX2, "forget", "()I"⟩
def dkwX2_forget_0 : List UInt8 := [42, 180, 0, 209, 60, 42, 3, 181, 0, 209, 27, 172]
abbrev dktX2_forget_0 : List UInt8 := dkwX2_forget_0 ++ []
theorem dksX2_forget_0 : cX2_forget.data.toList.drop 0 = dktX2_forget_0 := by decide +kernel
theorem dX2_forget_0 : decode cX2_forget 0 = .ok (.aload_n 0, 1) := dk_42 (dk_at dksX2_forget_0 0 rfl rfl)
theorem dX2_forget_1 : decode cX2_forget 1 = .ok (.getfield 209, 3) := dk_180 0 209 (dk_at dksX2_forget_0 1 rfl rfl)
theorem dX2_forget_4 : decode cX2_forget 4 = .ok (.istore_n 1, 1) := dk_60 (dk_at dksX2_forget_0 4 rfl rfl)
theorem dX2_forget_5 : decode cX2_forget 5 = .ok (.aload_n 0, 1) := dk_42 (dk_at dksX2_forget_0 5 rfl rfl)
theorem dX2_forget_6 : decode cX2_forget 6 = .ok (.iconst 0, 1) := dk_3 (dk_at dksX2_forget_0 6 rfl rfl)
theorem dX2_forget_7 : decode cX2_forget 7 = .ok (.putfield 209, 3) := dk_181 0 209 (dk_at dksX2_forget_0 7 rfl rfl)
theorem dX2_forget_10 : decode cX2_forget 10 = .ok (.iload_n 1, 1) := dk_27 (dk_at dksX2_forget_0 10 rfl rfl)
theorem dX2_forget_11 : decode cX2_forget 11 = .ok (.ireturn, 1) := dk_172 (dk_at dksX2_forget_0 11 rfl rfl)
abbrev cX2_kinds : ByteArray := prog_18_method_81_code
def yX2_kinds : MethodName := ⟨RX2, "kinds", "(I)I"⟩
def dkwX2_kinds_5 : List UInt8 := [167, 255, 152, 28, 172]
abbrev dktX2_kinds_5 : List UInt8 := dkwX2_kinds_5 ++ []
def dkwX2_kinds_4 : List UInt8 := [132, 5, 1, 167, 255, 204, 28, 21, 4, 153, 0, 9, 4, 29, 120, 167, 0, 4, 3, 128, 61, 132, 3, 1]
abbrev dktX2_kinds_4 : List UInt8 := dkwX2_kinds_4 ++ dktX2_kinds_5
def dkwX2_kinds_3 : List UInt8 := [21, 5, 46, 182, 1, 61, 42, 180, 0, 26, 21, 5, 46, 160, 0, 7, 4, 167, 0, 4, 3, 54, 4]
abbrev dktX2_kinds_3 : List UInt8 := dkwX2_kinds_3 ++ dktX2_kinds_4
def dkwX2_kinds_2 : List UInt8 := [42, 180, 0, 209, 162, 0, 49, 21, 4, 153, 0, 35, 42, 42, 180, 0, 20, 21, 5, 46, 42, 180, 0, 23]
abbrev dktX2_kinds_2 : List UInt8 := dkwX2_kinds_2 ++ dktX2_kinds_3
def dkwX2_kinds_1 : List UInt8 := [42, 180, 0, 7, 17, 5, 20, 27, 96, 29, 79, 42, 4, 182, 1, 45, 4, 54, 4, 3, 54, 5, 21, 5]
abbrev dktX2_kinds_1 : List UInt8 := dkwX2_kinds_1 ++ dktX2_kinds_2
def dkwX2_kinds_0 : List UInt8 := [42, 27, 182, 0, 234, 154, 0, 6, 16, 254, 172, 3, 61, 3, 62, 29, 8, 162, 0, 105, 42, 182, 1, 42]
abbrev dktX2_kinds_0 : List UInt8 := dkwX2_kinds_0 ++ dktX2_kinds_1
theorem dksX2_kinds_0 : cX2_kinds.data.toList.drop 0 = dktX2_kinds_0 := by decide +kernel
theorem dksX2_kinds_1 : cX2_kinds.data.toList.drop 24 = dktX2_kinds_1 := dk_seg dksX2_kinds_0 24 rfl rfl
theorem dksX2_kinds_2 : cX2_kinds.data.toList.drop 48 = dktX2_kinds_2 := dk_seg dksX2_kinds_1 24 rfl rfl
theorem dksX2_kinds_3 : cX2_kinds.data.toList.drop 72 = dktX2_kinds_3 := dk_seg dksX2_kinds_2 24 rfl rfl
theorem dksX2_kinds_4 : cX2_kinds.data.toList.drop 95 = dktX2_kinds_4 := dk_seg dksX2_kinds_3 23 rfl rfl
theorem dksX2_kinds_5 : cX2_kinds.data.toList.drop 119 = dktX2_kinds_5 := dk_seg dksX2_kinds_4 24 rfl rfl
theorem dX2_kinds_0 : decode cX2_kinds 0 = .ok (.aload_n 0, 1) := dk_42 (dk_at dksX2_kinds_0 0 rfl rfl)
theorem dX2_kinds_1 : decode cX2_kinds 1 = .ok (.iload_n 1, 1) := dk_27 (dk_at dksX2_kinds_0 1 rfl rfl)
theorem dX2_kinds_2 : decode cX2_kinds 2 = .ok (.invokevirtual 234, 3) := dk_182 0 234 (dk_at dksX2_kinds_0 2 rfl rfl)
theorem dX2_kinds_5 : decode cX2_kinds 5 = .ok (.ifCond .ne 6, 3) := dk_154 0 6 (dk_at dksX2_kinds_0 5 rfl rfl)
theorem dX2_kinds_8 : decode cX2_kinds 8 = .ok (.bipush (-2), 2) := dk_16 254 (dk_at dksX2_kinds_0 8 rfl rfl)
theorem dX2_kinds_10 : decode cX2_kinds 10 = .ok (.ireturn, 1) := dk_172 (dk_at dksX2_kinds_0 10 rfl rfl)
theorem dX2_kinds_11 : decode cX2_kinds 11 = .ok (.iconst 0, 1) := dk_3 (dk_at dksX2_kinds_0 11 rfl rfl)
theorem dX2_kinds_12 : decode cX2_kinds 12 = .ok (.istore_n 2, 1) := dk_61 (dk_at dksX2_kinds_0 12 rfl rfl)
theorem dX2_kinds_13 : decode cX2_kinds 13 = .ok (.iconst 0, 1) := dk_3 (dk_at dksX2_kinds_0 13 rfl rfl)
theorem dX2_kinds_14 : decode cX2_kinds 14 = .ok (.istore_n 3, 1) := dk_62 (dk_at dksX2_kinds_0 14 rfl rfl)
theorem dX2_kinds_15 : decode cX2_kinds 15 = .ok (.iload_n 3, 1) := dk_29 (dk_at dksX2_kinds_0 15 rfl rfl)
theorem dX2_kinds_16 : decode cX2_kinds 16 = .ok (.iconst 5, 1) := dk_8 (dk_at dksX2_kinds_0 16 rfl rfl)
theorem dX2_kinds_17 : decode cX2_kinds 17 = .ok (.if_icmp .ge 105, 3) := dk_162 0 105 (dk_at dksX2_kinds_0 17 rfl rfl)
theorem dX2_kinds_20 : decode cX2_kinds 20 = .ok (.aload_n 0, 1) := dk_42 (dk_at dksX2_kinds_0 20 rfl rfl)
theorem dX2_kinds_21 : decode cX2_kinds 21 = .ok (.invokevirtual 298, 3) := dk_182 1 42 (dk_at dksX2_kinds_0 21 rfl rfl)
theorem dX2_kinds_24 : decode cX2_kinds 24 = .ok (.aload_n 0, 1) := dk_42 (dk_at dksX2_kinds_1 0 rfl rfl)
theorem dX2_kinds_25 : decode cX2_kinds 25 = .ok (.getfield 7, 3) := dk_180 0 7 (dk_at dksX2_kinds_1 1 rfl rfl)
theorem dX2_kinds_28 : decode cX2_kinds 28 = .ok (.sipush 1300, 3) := dk_17 5 20 (dk_at dksX2_kinds_1 4 rfl rfl)
theorem dX2_kinds_31 : decode cX2_kinds 31 = .ok (.iload_n 1, 1) := dk_27 (dk_at dksX2_kinds_1 7 rfl rfl)
theorem dX2_kinds_32 : decode cX2_kinds 32 = .ok (.iadd, 1) := dk_96 (dk_at dksX2_kinds_1 8 rfl rfl)
theorem dX2_kinds_33 : decode cX2_kinds 33 = .ok (.iload_n 3, 1) := dk_29 (dk_at dksX2_kinds_1 9 rfl rfl)
theorem dX2_kinds_34 : decode cX2_kinds 34 = .ok (.iastore, 1) := dk_79 (dk_at dksX2_kinds_1 10 rfl rfl)
theorem dX2_kinds_35 : decode cX2_kinds 35 = .ok (.aload_n 0, 1) := dk_42 (dk_at dksX2_kinds_1 11 rfl rfl)
theorem dX2_kinds_36 : decode cX2_kinds 36 = .ok (.iconst 1, 1) := dk_4 (dk_at dksX2_kinds_1 12 rfl rfl)
theorem dX2_kinds_37 : decode cX2_kinds 37 = .ok (.invokevirtual 301, 3) := dk_182 1 45 (dk_at dksX2_kinds_1 13 rfl rfl)
theorem dX2_kinds_40 : decode cX2_kinds 40 = .ok (.iconst 1, 1) := dk_4 (dk_at dksX2_kinds_1 16 rfl rfl)
theorem dX2_kinds_41 : decode cX2_kinds 41 = .ok (.istore 4, 2) := dk_54 4 (dk_at dksX2_kinds_1 17 rfl rfl)
theorem dX2_kinds_43 : decode cX2_kinds 43 = .ok (.iconst 0, 1) := dk_3 (dk_at dksX2_kinds_1 19 rfl rfl)
theorem dX2_kinds_44 : decode cX2_kinds 44 = .ok (.istore 5, 2) := dk_54 5 (dk_at dksX2_kinds_1 20 rfl rfl)
theorem dX2_kinds_46 : decode cX2_kinds 46 = .ok (.iload 5, 2) := dk_21 5 (dk_at dksX2_kinds_1 22 rfl rfl)
theorem dX2_kinds_48 : decode cX2_kinds 48 = .ok (.aload_n 0, 1) := dk_42 (dk_at dksX2_kinds_2 0 rfl rfl)
theorem dX2_kinds_49 : decode cX2_kinds 49 = .ok (.getfield 209, 3) := dk_180 0 209 (dk_at dksX2_kinds_2 1 rfl rfl)
theorem dX2_kinds_52 : decode cX2_kinds 52 = .ok (.if_icmp .ge 49, 3) := dk_162 0 49 (dk_at dksX2_kinds_2 4 rfl rfl)
theorem dX2_kinds_55 : decode cX2_kinds 55 = .ok (.iload 4, 2) := dk_21 4 (dk_at dksX2_kinds_2 7 rfl rfl)
theorem dX2_kinds_57 : decode cX2_kinds 57 = .ok (.ifCond .eq 35, 3) := dk_153 0 35 (dk_at dksX2_kinds_2 9 rfl rfl)
theorem dX2_kinds_60 : decode cX2_kinds 60 = .ok (.aload_n 0, 1) := dk_42 (dk_at dksX2_kinds_2 12 rfl rfl)
theorem dX2_kinds_61 : decode cX2_kinds 61 = .ok (.aload_n 0, 1) := dk_42 (dk_at dksX2_kinds_2 13 rfl rfl)
theorem dX2_kinds_62 : decode cX2_kinds 62 = .ok (.getfield 20, 3) := dk_180 0 20 (dk_at dksX2_kinds_2 14 rfl rfl)
theorem dX2_kinds_65 : decode cX2_kinds 65 = .ok (.iload 5, 2) := dk_21 5 (dk_at dksX2_kinds_2 17 rfl rfl)
theorem dX2_kinds_67 : decode cX2_kinds 67 = .ok (.iaload, 1) := dk_46 (dk_at dksX2_kinds_2 19 rfl rfl)
theorem dX2_kinds_68 : decode cX2_kinds 68 = .ok (.aload_n 0, 1) := dk_42 (dk_at dksX2_kinds_2 20 rfl rfl)
theorem dX2_kinds_69 : decode cX2_kinds 69 = .ok (.getfield 23, 3) := dk_180 0 23 (dk_at dksX2_kinds_2 21 rfl rfl)
theorem dX2_kinds_72 : decode cX2_kinds 72 = .ok (.iload 5, 2) := dk_21 5 (dk_at dksX2_kinds_3 0 rfl rfl)
theorem dX2_kinds_74 : decode cX2_kinds 74 = .ok (.iaload, 1) := dk_46 (dk_at dksX2_kinds_3 2 rfl rfl)
theorem dX2_kinds_75 : decode cX2_kinds 75 = .ok (.invokevirtual 317, 3) := dk_182 1 61 (dk_at dksX2_kinds_3 3 rfl rfl)
theorem dX2_kinds_78 : decode cX2_kinds 78 = .ok (.aload_n 0, 1) := dk_42 (dk_at dksX2_kinds_3 6 rfl rfl)
theorem dX2_kinds_79 : decode cX2_kinds 79 = .ok (.getfield 26, 3) := dk_180 0 26 (dk_at dksX2_kinds_3 7 rfl rfl)
theorem dX2_kinds_82 : decode cX2_kinds 82 = .ok (.iload 5, 2) := dk_21 5 (dk_at dksX2_kinds_3 10 rfl rfl)
theorem dX2_kinds_84 : decode cX2_kinds 84 = .ok (.iaload, 1) := dk_46 (dk_at dksX2_kinds_3 12 rfl rfl)
theorem dX2_kinds_85 : decode cX2_kinds 85 = .ok (.if_icmp .ne 7, 3) := dk_160 0 7 (dk_at dksX2_kinds_3 13 rfl rfl)
theorem dX2_kinds_88 : decode cX2_kinds 88 = .ok (.iconst 1, 1) := dk_4 (dk_at dksX2_kinds_3 16 rfl rfl)
theorem dX2_kinds_89 : decode cX2_kinds 89 = .ok (.goto 4, 3) := dk_167 0 4 (dk_at dksX2_kinds_3 17 rfl rfl)
theorem dX2_kinds_92 : decode cX2_kinds 92 = .ok (.iconst 0, 1) := dk_3 (dk_at dksX2_kinds_3 20 rfl rfl)
theorem dX2_kinds_93 : decode cX2_kinds 93 = .ok (.istore 4, 2) := dk_54 4 (dk_at dksX2_kinds_3 21 rfl rfl)
theorem dX2_kinds_95 : decode cX2_kinds 95 = .ok (.iinc 5 1, 3) := dk_132 5 1 (dk_at dksX2_kinds_4 0 rfl rfl)
theorem dX2_kinds_98 : decode cX2_kinds 98 = .ok (.goto (-52), 3) := dk_167 255 204 (dk_at dksX2_kinds_4 3 rfl rfl)
theorem dX2_kinds_101 : decode cX2_kinds 101 = .ok (.iload_n 2, 1) := dk_28 (dk_at dksX2_kinds_4 6 rfl rfl)
theorem dX2_kinds_102 : decode cX2_kinds 102 = .ok (.iload 4, 2) := dk_21 4 (dk_at dksX2_kinds_4 7 rfl rfl)
theorem dX2_kinds_104 : decode cX2_kinds 104 = .ok (.ifCond .eq 9, 3) := dk_153 0 9 (dk_at dksX2_kinds_4 9 rfl rfl)
theorem dX2_kinds_107 : decode cX2_kinds 107 = .ok (.iconst 1, 1) := dk_4 (dk_at dksX2_kinds_4 12 rfl rfl)
theorem dX2_kinds_108 : decode cX2_kinds 108 = .ok (.iload_n 3, 1) := dk_29 (dk_at dksX2_kinds_4 13 rfl rfl)
theorem dX2_kinds_109 : decode cX2_kinds 109 = .ok (.ishl, 1) := dk_120 (dk_at dksX2_kinds_4 14 rfl rfl)
theorem dX2_kinds_110 : decode cX2_kinds 110 = .ok (.goto 4, 3) := dk_167 0 4 (dk_at dksX2_kinds_4 15 rfl rfl)
theorem dX2_kinds_113 : decode cX2_kinds 113 = .ok (.iconst 0, 1) := dk_3 (dk_at dksX2_kinds_4 18 rfl rfl)
theorem dX2_kinds_114 : decode cX2_kinds 114 = .ok (.ior, 1) := dk_128 (dk_at dksX2_kinds_4 19 rfl rfl)
theorem dX2_kinds_115 : decode cX2_kinds 115 = .ok (.istore_n 2, 1) := dk_61 (dk_at dksX2_kinds_4 20 rfl rfl)
theorem dX2_kinds_116 : decode cX2_kinds 116 = .ok (.iinc 3 1, 3) := dk_132 3 1 (dk_at dksX2_kinds_4 21 rfl rfl)
theorem dX2_kinds_119 : decode cX2_kinds 119 = .ok (.goto (-104), 3) := dk_167 255 152 (dk_at dksX2_kinds_5 0 rfl rfl)
theorem dX2_kinds_122 : decode cX2_kinds 122 = .ok (.iload_n 2, 1) := dk_28 (dk_at dksX2_kinds_5 3 rfl rfl)
theorem dX2_kinds_123 : decode cX2_kinds 123 = .ok (.ireturn, 1) := dk_172 (dk_at dksX2_kinds_5 4 rfl rfl)
abbrev cX2_reel : ByteArray := prog_18_method_83_code
def yX2_reel : MethodName := ⟨RX2, "reel", "(III)I"⟩
def dkwX2_reel_3 : List UInt8 := [21, 4, 96, 28, 6, 160, 0, 7, 2, 167, 0, 4, 3, 79, 132, 4, 1, 167, 255, 224, 29, 172]
abbrev dktX2_reel_3 : List UInt8 := dkwX2_reel_3 ++ []
def dkwX2_reel_2 : List UInt8 := [180, 0, 41, 27, 28, 79, 3, 54, 4, 21, 4, 16, 12, 162, 0, 31, 42, 180, 0, 44, 16, 12, 27, 104]
abbrev dktX2_reel_2 : List UInt8 := dkwX2_reel_2 ++ dktX2_reel_3
def dkwX2_reel_1 : List UInt8 := [16, 12, 164, 0, 6, 16, 253, 172, 29, 156, 0, 6, 16, 240, 172, 42, 180, 0, 38, 27, 29, 79, 42]
abbrev dktX2_reel_1 : List UInt8 := dkwX2_reel_1 ++ dktX2_reel_2
def dkwX2_reel_0 : List UInt8 := [27, 184, 1, 85, 154, 0, 6, 16, 254, 172, 28, 133, 9, 20, 1, 53, 184, 0, 109, 153, 0, 9, 29]
abbrev dktX2_reel_0 : List UInt8 := dkwX2_reel_0 ++ dktX2_reel_1
theorem dksX2_reel_0 : cX2_reel.data.toList.drop 0 = dktX2_reel_0 := by decide +kernel
theorem dksX2_reel_1 : cX2_reel.data.toList.drop 23 = dktX2_reel_1 := dk_seg dksX2_reel_0 23 rfl rfl
theorem dksX2_reel_2 : cX2_reel.data.toList.drop 46 = dktX2_reel_2 := dk_seg dksX2_reel_1 23 rfl rfl
theorem dksX2_reel_3 : cX2_reel.data.toList.drop 70 = dktX2_reel_3 := dk_seg dksX2_reel_2 24 rfl rfl
theorem dX2_reel_0 : decode cX2_reel 0 = .ok (.iload_n 1, 1) := dk_27 (dk_at dksX2_reel_0 0 rfl rfl)
theorem dX2_reel_1 : decode cX2_reel 1 = .ok (.invokestatic 341, 3) := dk_184 1 85 (dk_at dksX2_reel_0 1 rfl rfl)
theorem dX2_reel_4 : decode cX2_reel 4 = .ok (.ifCond .ne 6, 3) := dk_154 0 6 (dk_at dksX2_reel_0 4 rfl rfl)
theorem dX2_reel_7 : decode cX2_reel 7 = .ok (.bipush (-2), 2) := dk_16 254 (dk_at dksX2_reel_0 7 rfl rfl)
theorem dX2_reel_9 : decode cX2_reel 9 = .ok (.ireturn, 1) := dk_172 (dk_at dksX2_reel_0 9 rfl rfl)
theorem dX2_reel_10 : decode cX2_reel 10 = .ok (.iload_n 2, 1) := dk_28 (dk_at dksX2_reel_0 10 rfl rfl)
theorem dX2_reel_11 : decode cX2_reel 11 = .ok (.i2l, 1) := dk_133 (dk_at dksX2_reel_0 11 rfl rfl)
theorem dX2_reel_12 : decode cX2_reel 12 = .ok (.lconst 0, 1) := dk_9 (dk_at dksX2_reel_0 12 rfl rfl)
theorem dX2_reel_13 : decode cX2_reel 13 = .ok (.ldc2_w 309, 3) := dk_20 1 53 (dk_at dksX2_reel_0 13 rfl rfl)
theorem dX2_reel_16 : decode cX2_reel 16 = .ok (.invokestatic 109, 3) := dk_184 0 109 (dk_at dksX2_reel_0 16 rfl rfl)
theorem dX2_reel_19 : decode cX2_reel 19 = .ok (.ifCond .eq 9, 3) := dk_153 0 9 (dk_at dksX2_reel_0 19 rfl rfl)
theorem dX2_reel_22 : decode cX2_reel 22 = .ok (.iload_n 3, 1) := dk_29 (dk_at dksX2_reel_0 22 rfl rfl)
theorem dX2_reel_23 : decode cX2_reel 23 = .ok (.bipush 12, 2) := dk_16 12 (dk_at dksX2_reel_1 0 rfl rfl)
theorem dX2_reel_25 : decode cX2_reel 25 = .ok (.if_icmp .le 6, 3) := dk_164 0 6 (dk_at dksX2_reel_1 2 rfl rfl)
theorem dX2_reel_28 : decode cX2_reel 28 = .ok (.bipush (-3), 2) := dk_16 253 (dk_at dksX2_reel_1 5 rfl rfl)
theorem dX2_reel_30 : decode cX2_reel 30 = .ok (.ireturn, 1) := dk_172 (dk_at dksX2_reel_1 7 rfl rfl)
theorem dX2_reel_31 : decode cX2_reel 31 = .ok (.iload_n 3, 1) := dk_29 (dk_at dksX2_reel_1 8 rfl rfl)
theorem dX2_reel_32 : decode cX2_reel 32 = .ok (.ifCond .ge 6, 3) := dk_156 0 6 (dk_at dksX2_reel_1 9 rfl rfl)
theorem dX2_reel_35 : decode cX2_reel 35 = .ok (.bipush (-16), 2) := dk_16 240 (dk_at dksX2_reel_1 12 rfl rfl)
theorem dX2_reel_37 : decode cX2_reel 37 = .ok (.ireturn, 1) := dk_172 (dk_at dksX2_reel_1 14 rfl rfl)
theorem dX2_reel_38 : decode cX2_reel 38 = .ok (.aload_n 0, 1) := dk_42 (dk_at dksX2_reel_1 15 rfl rfl)
theorem dX2_reel_39 : decode cX2_reel 39 = .ok (.getfield 38, 3) := dk_180 0 38 (dk_at dksX2_reel_1 16 rfl rfl)
theorem dX2_reel_42 : decode cX2_reel 42 = .ok (.iload_n 1, 1) := dk_27 (dk_at dksX2_reel_1 19 rfl rfl)
theorem dX2_reel_43 : decode cX2_reel 43 = .ok (.iload_n 3, 1) := dk_29 (dk_at dksX2_reel_1 20 rfl rfl)
theorem dX2_reel_44 : decode cX2_reel 44 = .ok (.iastore, 1) := dk_79 (dk_at dksX2_reel_1 21 rfl rfl)
theorem dX2_reel_45 : decode cX2_reel 45 = .ok (.aload_n 0, 1) := dk_42 (dk_at dksX2_reel_1 22 rfl rfl)
theorem dX2_reel_46 : decode cX2_reel 46 = .ok (.getfield 41, 3) := dk_180 0 41 (dk_at dksX2_reel_2 0 rfl rfl)
theorem dX2_reel_49 : decode cX2_reel 49 = .ok (.iload_n 1, 1) := dk_27 (dk_at dksX2_reel_2 3 rfl rfl)
theorem dX2_reel_50 : decode cX2_reel 50 = .ok (.iload_n 2, 1) := dk_28 (dk_at dksX2_reel_2 4 rfl rfl)
theorem dX2_reel_51 : decode cX2_reel 51 = .ok (.iastore, 1) := dk_79 (dk_at dksX2_reel_2 5 rfl rfl)
theorem dX2_reel_52 : decode cX2_reel 52 = .ok (.iconst 0, 1) := dk_3 (dk_at dksX2_reel_2 6 rfl rfl)
theorem dX2_reel_53 : decode cX2_reel 53 = .ok (.istore 4, 2) := dk_54 4 (dk_at dksX2_reel_2 7 rfl rfl)
theorem dX2_reel_55 : decode cX2_reel 55 = .ok (.iload 4, 2) := dk_21 4 (dk_at dksX2_reel_2 9 rfl rfl)
theorem dX2_reel_57 : decode cX2_reel 57 = .ok (.bipush 12, 2) := dk_16 12 (dk_at dksX2_reel_2 11 rfl rfl)
theorem dX2_reel_59 : decode cX2_reel 59 = .ok (.if_icmp .ge 31, 3) := dk_162 0 31 (dk_at dksX2_reel_2 13 rfl rfl)
theorem dX2_reel_62 : decode cX2_reel 62 = .ok (.aload_n 0, 1) := dk_42 (dk_at dksX2_reel_2 16 rfl rfl)
theorem dX2_reel_63 : decode cX2_reel 63 = .ok (.getfield 44, 3) := dk_180 0 44 (dk_at dksX2_reel_2 17 rfl rfl)
theorem dX2_reel_66 : decode cX2_reel 66 = .ok (.bipush 12, 2) := dk_16 12 (dk_at dksX2_reel_2 20 rfl rfl)
theorem dX2_reel_68 : decode cX2_reel 68 = .ok (.iload_n 1, 1) := dk_27 (dk_at dksX2_reel_2 22 rfl rfl)
theorem dX2_reel_69 : decode cX2_reel 69 = .ok (.imul, 1) := dk_104 (dk_at dksX2_reel_2 23 rfl rfl)
theorem dX2_reel_70 : decode cX2_reel 70 = .ok (.iload 4, 2) := dk_21 4 (dk_at dksX2_reel_3 0 rfl rfl)
theorem dX2_reel_72 : decode cX2_reel 72 = .ok (.iadd, 1) := dk_96 (dk_at dksX2_reel_3 2 rfl rfl)
theorem dX2_reel_73 : decode cX2_reel 73 = .ok (.iload_n 2, 1) := dk_28 (dk_at dksX2_reel_3 3 rfl rfl)
theorem dX2_reel_74 : decode cX2_reel 74 = .ok (.iconst 3, 1) := dk_6 (dk_at dksX2_reel_3 4 rfl rfl)
theorem dX2_reel_75 : decode cX2_reel 75 = .ok (.if_icmp .ne 7, 3) := dk_160 0 7 (dk_at dksX2_reel_3 5 rfl rfl)
theorem dX2_reel_78 : decode cX2_reel 78 = .ok (.iconst (-1), 1) := dk_2 (dk_at dksX2_reel_3 8 rfl rfl)
theorem dX2_reel_79 : decode cX2_reel 79 = .ok (.goto 4, 3) := dk_167 0 4 (dk_at dksX2_reel_3 9 rfl rfl)
theorem dX2_reel_82 : decode cX2_reel 82 = .ok (.iconst 0, 1) := dk_3 (dk_at dksX2_reel_3 12 rfl rfl)
theorem dX2_reel_83 : decode cX2_reel 83 = .ok (.iastore, 1) := dk_79 (dk_at dksX2_reel_3 13 rfl rfl)
theorem dX2_reel_84 : decode cX2_reel 84 = .ok (.iinc 4 1, 3) := dk_132 4 1 (dk_at dksX2_reel_3 14 rfl rfl)
theorem dX2_reel_87 : decode cX2_reel 87 = .ok (.goto (-32), 3) := dk_167 255 224 (dk_at dksX2_reel_3 17 rfl rfl)
theorem dX2_reel_90 : decode cX2_reel 90 = .ok (.iload_n 3, 1) := dk_29 (dk_at dksX2_reel_3 20 rfl rfl)
theorem dX2_reel_91 : decode cX2_reel 91 = .ok (.ireturn, 1) := dk_172 (dk_at dksX2_reel_3 21 rfl rfl)
abbrev cX2_isReel : ByteArray := prog_18_method_82_code
def yX2_isReel : MethodName := ⟨RX2, "isReel", "(I)Z"⟩
def dkwX2_isReel_0 : List UInt8 := [26, 133, 9, 20, 1, 83, 184, 0, 109, 172]
abbrev dktX2_isReel_0 : List UInt8 := dkwX2_isReel_0 ++ []
theorem dksX2_isReel_0 : cX2_isReel.data.toList.drop 0 = dktX2_isReel_0 := by decide +kernel
theorem dX2_isReel_0 : decode cX2_isReel 0 = .ok (.iload_n 0, 1) := dk_26 (dk_at dksX2_isReel_0 0 rfl rfl)
theorem dX2_isReel_1 : decode cX2_isReel 1 = .ok (.i2l, 1) := dk_133 (dk_at dksX2_isReel_0 1 rfl rfl)
theorem dX2_isReel_2 : decode cX2_isReel 2 = .ok (.lconst 0, 1) := dk_9 (dk_at dksX2_isReel_0 2 rfl rfl)
theorem dX2_isReel_3 : decode cX2_isReel 3 = .ok (.ldc2_w 339, 3) := dk_20 1 83 (dk_at dksX2_isReel_0 3 rfl rfl)
theorem dX2_isReel_6 : decode cX2_isReel 6 = .ok (.invokestatic 109, 3) := dk_184 0 109 (dk_at dksX2_isReel_0 6 rfl rfl)
theorem dX2_isReel_9 : decode cX2_isReel 9 = .ok (.ireturn, 1) := dk_172 (dk_at dksX2_isReel_0 9 rfl rfl)
abbrev cX2_record : ByteArray := prog_18_method_85_code
def yX2_record : MethodName := ⟨RX2, "record", "(IIII)I"⟩
def dkwX2_record_5 : List UInt8 := [167, 0, 5, 21, 4, 172]
abbrev dktX2_record_5 : List UInt8 := dkwX2_record_5 ++ []
def dkwX2_record_4 : List UInt8 := [96, 21, 6, 79, 28, 5, 162, 0, 12, 21, 6, 19, 1, 91, 96, 167, 0, 14, 28, 5, 160, 0, 7, 4]
abbrev dktX2_record_4 : List UInt8 := dkwX2_record_4 ++ dktX2_record_5
def dkwX2_record_3 : List UInt8 := [28, 4, 160, 0, 9, 21, 4, 147, 167, 0, 5, 21, 4, 54, 6, 42, 180, 0, 44, 16, 12, 27, 104, 29]
abbrev dktX2_record_3 : List UInt8 := dkwX2_record_3 ++ dktX2_record_4
def dkwX2_record_2 : List UInt8 := [29, 182, 1, 88, 54, 5, 21, 5, 153, 0, 6, 21, 5, 172, 28, 154, 0, 9, 21, 4, 145, 167, 0, 16]
abbrev dktX2_record_2 : List UInt8 := dkwX2_record_2 ++ dktX2_record_3
def dkwX2_record_1 : List UInt8 := [154, 0, 6, 16, 254, 172, 28, 133, 9, 20, 1, 53, 184, 0, 109, 154, 0, 6, 16, 253, 172, 42, 27, 28]
abbrev dktX2_record_1 : List UInt8 := dkwX2_record_1 ++ dktX2_record_2
def dkwX2_record_0 : List UInt8 := [27, 184, 1, 85, 153, 0, 23, 28, 6, 160, 0, 21, 21, 4, 2, 159, 0, 15, 42, 21, 4, 182, 0, 234]
abbrev dktX2_record_0 : List UInt8 := dkwX2_record_0 ++ dktX2_record_1
theorem dksX2_record_0 : cX2_record.data.toList.drop 0 = dktX2_record_0 := by decide +kernel
theorem dksX2_record_1 : cX2_record.data.toList.drop 24 = dktX2_record_1 := dk_seg dksX2_record_0 24 rfl rfl
theorem dksX2_record_2 : cX2_record.data.toList.drop 48 = dktX2_record_2 := dk_seg dksX2_record_1 24 rfl rfl
theorem dksX2_record_3 : cX2_record.data.toList.drop 72 = dktX2_record_3 := dk_seg dksX2_record_2 24 rfl rfl
theorem dksX2_record_4 : cX2_record.data.toList.drop 96 = dktX2_record_4 := dk_seg dksX2_record_3 24 rfl rfl
theorem dksX2_record_5 : cX2_record.data.toList.drop 120 = dktX2_record_5 := dk_seg dksX2_record_4 24 rfl rfl
theorem dX2_record_0 : decode cX2_record 0 = .ok (.iload_n 1, 1) := dk_27 (dk_at dksX2_record_0 0 rfl rfl)
theorem dX2_record_1 : decode cX2_record 1 = .ok (.invokestatic 341, 3) := dk_184 1 85 (dk_at dksX2_record_0 1 rfl rfl)
theorem dX2_record_4 : decode cX2_record 4 = .ok (.ifCond .eq 23, 3) := dk_153 0 23 (dk_at dksX2_record_0 4 rfl rfl)
theorem dX2_record_7 : decode cX2_record 7 = .ok (.iload_n 2, 1) := dk_28 (dk_at dksX2_record_0 7 rfl rfl)
theorem dX2_record_8 : decode cX2_record 8 = .ok (.iconst 3, 1) := dk_6 (dk_at dksX2_record_0 8 rfl rfl)
theorem dX2_record_9 : decode cX2_record 9 = .ok (.if_icmp .ne 21, 3) := dk_160 0 21 (dk_at dksX2_record_0 9 rfl rfl)
theorem dX2_record_12 : decode cX2_record 12 = .ok (.iload 4, 2) := dk_21 4 (dk_at dksX2_record_0 12 rfl rfl)
theorem dX2_record_14 : decode cX2_record 14 = .ok (.iconst (-1), 1) := dk_2 (dk_at dksX2_record_0 14 rfl rfl)
theorem dX2_record_15 : decode cX2_record 15 = .ok (.if_icmp .eq 15, 3) := dk_159 0 15 (dk_at dksX2_record_0 15 rfl rfl)
theorem dX2_record_18 : decode cX2_record 18 = .ok (.aload_n 0, 1) := dk_42 (dk_at dksX2_record_0 18 rfl rfl)
theorem dX2_record_19 : decode cX2_record 19 = .ok (.iload 4, 2) := dk_21 4 (dk_at dksX2_record_0 19 rfl rfl)
theorem dX2_record_21 : decode cX2_record 21 = .ok (.invokevirtual 234, 3) := dk_182 0 234 (dk_at dksX2_record_0 21 rfl rfl)
theorem dX2_record_24 : decode cX2_record 24 = .ok (.ifCond .ne 6, 3) := dk_154 0 6 (dk_at dksX2_record_1 0 rfl rfl)
theorem dX2_record_27 : decode cX2_record 27 = .ok (.bipush (-2), 2) := dk_16 254 (dk_at dksX2_record_1 3 rfl rfl)
theorem dX2_record_29 : decode cX2_record 29 = .ok (.ireturn, 1) := dk_172 (dk_at dksX2_record_1 5 rfl rfl)
theorem dX2_record_30 : decode cX2_record 30 = .ok (.iload_n 2, 1) := dk_28 (dk_at dksX2_record_1 6 rfl rfl)
theorem dX2_record_31 : decode cX2_record 31 = .ok (.i2l, 1) := dk_133 (dk_at dksX2_record_1 7 rfl rfl)
theorem dX2_record_32 : decode cX2_record 32 = .ok (.lconst 0, 1) := dk_9 (dk_at dksX2_record_1 8 rfl rfl)
theorem dX2_record_33 : decode cX2_record 33 = .ok (.ldc2_w 309, 3) := dk_20 1 53 (dk_at dksX2_record_1 9 rfl rfl)
theorem dX2_record_36 : decode cX2_record 36 = .ok (.invokestatic 109, 3) := dk_184 0 109 (dk_at dksX2_record_1 12 rfl rfl)
theorem dX2_record_39 : decode cX2_record 39 = .ok (.ifCond .ne 6, 3) := dk_154 0 6 (dk_at dksX2_record_1 15 rfl rfl)
theorem dX2_record_42 : decode cX2_record 42 = .ok (.bipush (-3), 2) := dk_16 253 (dk_at dksX2_record_1 18 rfl rfl)
theorem dX2_record_44 : decode cX2_record 44 = .ok (.ireturn, 1) := dk_172 (dk_at dksX2_record_1 20 rfl rfl)
theorem dX2_record_45 : decode cX2_record 45 = .ok (.aload_n 0, 1) := dk_42 (dk_at dksX2_record_1 21 rfl rfl)
theorem dX2_record_46 : decode cX2_record 46 = .ok (.iload_n 1, 1) := dk_27 (dk_at dksX2_record_1 22 rfl rfl)
theorem dX2_record_47 : decode cX2_record 47 = .ok (.iload_n 2, 1) := dk_28 (dk_at dksX2_record_1 23 rfl rfl)
theorem dX2_record_48 : decode cX2_record 48 = .ok (.iload_n 3, 1) := dk_29 (dk_at dksX2_record_2 0 rfl rfl)
theorem dX2_record_49 : decode cX2_record 49 = .ok (.invokevirtual 344, 3) := dk_182 1 88 (dk_at dksX2_record_2 1 rfl rfl)
theorem dX2_record_52 : decode cX2_record 52 = .ok (.istore 5, 2) := dk_54 5 (dk_at dksX2_record_2 4 rfl rfl)
theorem dX2_record_54 : decode cX2_record 54 = .ok (.iload 5, 2) := dk_21 5 (dk_at dksX2_record_2 6 rfl rfl)
theorem dX2_record_56 : decode cX2_record 56 = .ok (.ifCond .eq 6, 3) := dk_153 0 6 (dk_at dksX2_record_2 8 rfl rfl)
theorem dX2_record_59 : decode cX2_record 59 = .ok (.iload 5, 2) := dk_21 5 (dk_at dksX2_record_2 11 rfl rfl)
theorem dX2_record_61 : decode cX2_record 61 = .ok (.ireturn, 1) := dk_172 (dk_at dksX2_record_2 13 rfl rfl)
theorem dX2_record_62 : decode cX2_record 62 = .ok (.iload_n 2, 1) := dk_28 (dk_at dksX2_record_2 14 rfl rfl)
theorem dX2_record_63 : decode cX2_record 63 = .ok (.ifCond .ne 9, 3) := dk_154 0 9 (dk_at dksX2_record_2 15 rfl rfl)
theorem dX2_record_66 : decode cX2_record 66 = .ok (.iload 4, 2) := dk_21 4 (dk_at dksX2_record_2 18 rfl rfl)
theorem dX2_record_68 : decode cX2_record 68 = .ok (.i2b, 1) := dk_145 (dk_at dksX2_record_2 20 rfl rfl)
theorem dX2_record_69 : decode cX2_record 69 = .ok (.goto 16, 3) := dk_167 0 16 (dk_at dksX2_record_2 21 rfl rfl)
theorem dX2_record_72 : decode cX2_record 72 = .ok (.iload_n 2, 1) := dk_28 (dk_at dksX2_record_3 0 rfl rfl)
theorem dX2_record_73 : decode cX2_record 73 = .ok (.iconst 1, 1) := dk_4 (dk_at dksX2_record_3 1 rfl rfl)
theorem dX2_record_74 : decode cX2_record 74 = .ok (.if_icmp .ne 9, 3) := dk_160 0 9 (dk_at dksX2_record_3 2 rfl rfl)
theorem dX2_record_77 : decode cX2_record 77 = .ok (.iload 4, 2) := dk_21 4 (dk_at dksX2_record_3 5 rfl rfl)
theorem dX2_record_79 : decode cX2_record 79 = .ok (.i2s, 1) := dk_147 (dk_at dksX2_record_3 7 rfl rfl)
theorem dX2_record_80 : decode cX2_record 80 = .ok (.goto 5, 3) := dk_167 0 5 (dk_at dksX2_record_3 8 rfl rfl)
theorem dX2_record_83 : decode cX2_record 83 = .ok (.iload 4, 2) := dk_21 4 (dk_at dksX2_record_3 11 rfl rfl)
theorem dX2_record_85 : decode cX2_record 85 = .ok (.istore 6, 2) := dk_54 6 (dk_at dksX2_record_3 13 rfl rfl)
theorem dX2_record_87 : decode cX2_record 87 = .ok (.aload_n 0, 1) := dk_42 (dk_at dksX2_record_3 15 rfl rfl)
theorem dX2_record_88 : decode cX2_record 88 = .ok (.getfield 44, 3) := dk_180 0 44 (dk_at dksX2_record_3 16 rfl rfl)
theorem dX2_record_91 : decode cX2_record 91 = .ok (.bipush 12, 2) := dk_16 12 (dk_at dksX2_record_3 19 rfl rfl)
theorem dX2_record_93 : decode cX2_record 93 = .ok (.iload_n 1, 1) := dk_27 (dk_at dksX2_record_3 21 rfl rfl)
theorem dX2_record_94 : decode cX2_record 94 = .ok (.imul, 1) := dk_104 (dk_at dksX2_record_3 22 rfl rfl)
theorem dX2_record_95 : decode cX2_record 95 = .ok (.iload_n 3, 1) := dk_29 (dk_at dksX2_record_3 23 rfl rfl)
theorem dX2_record_96 : decode cX2_record 96 = .ok (.iadd, 1) := dk_96 (dk_at dksX2_record_4 0 rfl rfl)
theorem dX2_record_97 : decode cX2_record 97 = .ok (.iload 6, 2) := dk_21 6 (dk_at dksX2_record_4 1 rfl rfl)
theorem dX2_record_99 : decode cX2_record 99 = .ok (.iastore, 1) := dk_79 (dk_at dksX2_record_4 3 rfl rfl)
theorem dX2_record_100 : decode cX2_record 100 = .ok (.iload_n 2, 1) := dk_28 (dk_at dksX2_record_4 4 rfl rfl)
theorem dX2_record_101 : decode cX2_record 101 = .ok (.iconst 2, 1) := dk_5 (dk_at dksX2_record_4 5 rfl rfl)
theorem dX2_record_102 : decode cX2_record 102 = .ok (.if_icmp .ge 12, 3) := dk_162 0 12 (dk_at dksX2_record_4 6 rfl rfl)
theorem dX2_record_105 : decode cX2_record 105 = .ok (.iload 6, 2) := dk_21 6 (dk_at dksX2_record_4 9 rfl rfl)
theorem dX2_record_107 : decode cX2_record 107 = .ok (.ldc_w 347, 3) := dk_19 1 91 (dk_at dksX2_record_4 11 rfl rfl)
theorem dX2_record_110 : decode cX2_record 110 = .ok (.iadd, 1) := dk_96 (dk_at dksX2_record_4 14 rfl rfl)
theorem dX2_record_111 : decode cX2_record 111 = .ok (.goto 14, 3) := dk_167 0 14 (dk_at dksX2_record_4 15 rfl rfl)
theorem dX2_record_114 : decode cX2_record 114 = .ok (.iload_n 2, 1) := dk_28 (dk_at dksX2_record_4 18 rfl rfl)
theorem dX2_record_115 : decode cX2_record 115 = .ok (.iconst 2, 1) := dk_5 (dk_at dksX2_record_4 19 rfl rfl)
theorem dX2_record_116 : decode cX2_record 116 = .ok (.if_icmp .ne 7, 3) := dk_160 0 7 (dk_at dksX2_record_4 20 rfl rfl)
theorem dX2_record_119 : decode cX2_record 119 = .ok (.iconst 1, 1) := dk_4 (dk_at dksX2_record_4 23 rfl rfl)
theorem dX2_record_120 : decode cX2_record 120 = .ok (.goto 5, 3) := dk_167 0 5 (dk_at dksX2_record_5 0 rfl rfl)
theorem dX2_record_123 : decode cX2_record 123 = .ok (.iload 4, 2) := dk_21 4 (dk_at dksX2_record_5 3 rfl rfl)
theorem dX2_record_125 : decode cX2_record 125 = .ok (.ireturn, 1) := dk_172 (dk_at dksX2_record_5 5 rfl rfl)
abbrev cX2_noPlace : ByteArray := prog_18_method_84_code
def yX2_noPlace : MethodName := ⟨RX2, "noPlace", "(III)I"⟩
def dkwX2_noPlace_2 : List UInt8 := [16, 242, 172]
abbrev dktX2_noPlace_2 : List UInt8 := dkwX2_noPlace_2 ++ []
def dkwX2_noPlace_1 : List UInt8 := [172, 29, 133, 9, 42, 180, 0, 38, 27, 46, 4, 100, 133, 184, 0, 109, 153, 0, 7, 3, 167, 0, 5]
abbrev dktX2_noPlace_1 : List UInt8 := dkwX2_noPlace_1 ++ dktX2_noPlace_2
def dkwX2_noPlace_0 : List UInt8 := [42, 180, 0, 38, 27, 46, 156, 0, 6, 16, 245, 172, 42, 180, 0, 41, 27, 46, 28, 159, 0, 6, 16, 244]
abbrev dktX2_noPlace_0 : List UInt8 := dkwX2_noPlace_0 ++ dktX2_noPlace_1
theorem dksX2_noPlace_0 : cX2_noPlace.data.toList.drop 0 = dktX2_noPlace_0 := by decide +kernel
theorem dksX2_noPlace_1 : cX2_noPlace.data.toList.drop 24 = dktX2_noPlace_1 := dk_seg dksX2_noPlace_0 24 rfl rfl
theorem dksX2_noPlace_2 : cX2_noPlace.data.toList.drop 47 = dktX2_noPlace_2 := dk_seg dksX2_noPlace_1 23 rfl rfl
theorem dX2_noPlace_0 : decode cX2_noPlace 0 = .ok (.aload_n 0, 1) := dk_42 (dk_at dksX2_noPlace_0 0 rfl rfl)
theorem dX2_noPlace_1 : decode cX2_noPlace 1 = .ok (.getfield 38, 3) := dk_180 0 38 (dk_at dksX2_noPlace_0 1 rfl rfl)
theorem dX2_noPlace_4 : decode cX2_noPlace 4 = .ok (.iload_n 1, 1) := dk_27 (dk_at dksX2_noPlace_0 4 rfl rfl)
theorem dX2_noPlace_5 : decode cX2_noPlace 5 = .ok (.iaload, 1) := dk_46 (dk_at dksX2_noPlace_0 5 rfl rfl)
theorem dX2_noPlace_6 : decode cX2_noPlace 6 = .ok (.ifCond .ge 6, 3) := dk_156 0 6 (dk_at dksX2_noPlace_0 6 rfl rfl)
theorem dX2_noPlace_9 : decode cX2_noPlace 9 = .ok (.bipush (-11), 2) := dk_16 245 (dk_at dksX2_noPlace_0 9 rfl rfl)
theorem dX2_noPlace_11 : decode cX2_noPlace 11 = .ok (.ireturn, 1) := dk_172 (dk_at dksX2_noPlace_0 11 rfl rfl)
theorem dX2_noPlace_12 : decode cX2_noPlace 12 = .ok (.aload_n 0, 1) := dk_42 (dk_at dksX2_noPlace_0 12 rfl rfl)
theorem dX2_noPlace_13 : decode cX2_noPlace 13 = .ok (.getfield 41, 3) := dk_180 0 41 (dk_at dksX2_noPlace_0 13 rfl rfl)
theorem dX2_noPlace_16 : decode cX2_noPlace 16 = .ok (.iload_n 1, 1) := dk_27 (dk_at dksX2_noPlace_0 16 rfl rfl)
theorem dX2_noPlace_17 : decode cX2_noPlace 17 = .ok (.iaload, 1) := dk_46 (dk_at dksX2_noPlace_0 17 rfl rfl)
theorem dX2_noPlace_18 : decode cX2_noPlace 18 = .ok (.iload_n 2, 1) := dk_28 (dk_at dksX2_noPlace_0 18 rfl rfl)
theorem dX2_noPlace_19 : decode cX2_noPlace 19 = .ok (.if_icmp .eq 6, 3) := dk_159 0 6 (dk_at dksX2_noPlace_0 19 rfl rfl)
theorem dX2_noPlace_22 : decode cX2_noPlace 22 = .ok (.bipush (-12), 2) := dk_16 244 (dk_at dksX2_noPlace_0 22 rfl rfl)
theorem dX2_noPlace_24 : decode cX2_noPlace 24 = .ok (.ireturn, 1) := dk_172 (dk_at dksX2_noPlace_1 0 rfl rfl)
theorem dX2_noPlace_25 : decode cX2_noPlace 25 = .ok (.iload_n 3, 1) := dk_29 (dk_at dksX2_noPlace_1 1 rfl rfl)
theorem dX2_noPlace_26 : decode cX2_noPlace 26 = .ok (.i2l, 1) := dk_133 (dk_at dksX2_noPlace_1 2 rfl rfl)
theorem dX2_noPlace_27 : decode cX2_noPlace 27 = .ok (.lconst 0, 1) := dk_9 (dk_at dksX2_noPlace_1 3 rfl rfl)
theorem dX2_noPlace_28 : decode cX2_noPlace 28 = .ok (.aload_n 0, 1) := dk_42 (dk_at dksX2_noPlace_1 4 rfl rfl)
theorem dX2_noPlace_29 : decode cX2_noPlace 29 = .ok (.getfield 38, 3) := dk_180 0 38 (dk_at dksX2_noPlace_1 5 rfl rfl)
theorem dX2_noPlace_32 : decode cX2_noPlace 32 = .ok (.iload_n 1, 1) := dk_27 (dk_at dksX2_noPlace_1 8 rfl rfl)
theorem dX2_noPlace_33 : decode cX2_noPlace 33 = .ok (.iaload, 1) := dk_46 (dk_at dksX2_noPlace_1 9 rfl rfl)
theorem dX2_noPlace_34 : decode cX2_noPlace 34 = .ok (.iconst 1, 1) := dk_4 (dk_at dksX2_noPlace_1 10 rfl rfl)
theorem dX2_noPlace_35 : decode cX2_noPlace 35 = .ok (.isub, 1) := dk_100 (dk_at dksX2_noPlace_1 11 rfl rfl)
theorem dX2_noPlace_36 : decode cX2_noPlace 36 = .ok (.i2l, 1) := dk_133 (dk_at dksX2_noPlace_1 12 rfl rfl)
theorem dX2_noPlace_37 : decode cX2_noPlace 37 = .ok (.invokestatic 109, 3) := dk_184 0 109 (dk_at dksX2_noPlace_1 13 rfl rfl)
theorem dX2_noPlace_40 : decode cX2_noPlace 40 = .ok (.ifCond .eq 7, 3) := dk_153 0 7 (dk_at dksX2_noPlace_1 16 rfl rfl)
theorem dX2_noPlace_43 : decode cX2_noPlace 43 = .ok (.iconst 0, 1) := dk_3 (dk_at dksX2_noPlace_1 19 rfl rfl)
theorem dX2_noPlace_44 : decode cX2_noPlace 44 = .ok (.goto 5, 3) := dk_167 0 5 (dk_at dksX2_noPlace_1 20 rfl rfl)
theorem dX2_noPlace_47 : decode cX2_noPlace 47 = .ok (.bipush (-14), 2) := dk_16 242 (dk_at dksX2_noPlace_2 0 rfl rfl)
theorem dX2_noPlace_49 : decode cX2_noPlace 49 = .ok (.ireturn, 1) := dk_172 (dk_at dksX2_noPlace_2 2 rfl rfl)
abbrev cX2_play : ByteArray := prog_18_method_86_code
def yX2_play : MethodName := ⟨RX2, "play", "(III)I"⟩
def dkwX2_play_4 : List UInt8 := [4, 96, 116, 19, 1, 92, 112, 19, 1, 93, 96, 167, 0, 9, 21, 5, 19, 1, 92, 112, 172]
abbrev dktX2_play_4 : List UInt8 := dkwX2_play_4 ++ []
def dkwX2_play_3 : List UInt8 := [21, 5, 172, 28, 5, 162, 0, 12, 21, 5, 19, 1, 91, 96, 167, 0, 30, 21, 5, 156, 0, 19, 21, 5]
abbrev dktX2_play_3 : List UInt8 := dkwX2_play_3 ++ dktX2_play_4
def dkwX2_play_2 : List UInt8 := [27, 104, 29, 96, 46, 54, 5, 28, 6, 160, 0, 17, 21, 5, 2, 160, 0, 8, 16, 241, 167, 0, 5]
abbrev dktX2_play_2 : List UInt8 := dkwX2_play_2 ++ dktX2_play_3
def dkwX2_play_1 : List UInt8 := [172, 42, 27, 28, 29, 182, 1, 88, 54, 4, 21, 4, 153, 0, 6, 21, 4, 172, 42, 180, 0, 44, 16, 12]
abbrev dktX2_play_1 : List UInt8 := dkwX2_play_1 ++ dktX2_play_2
def dkwX2_play_0 : List UInt8 := [27, 184, 1, 85, 154, 0, 6, 16, 254, 172, 28, 133, 9, 20, 1, 53, 184, 0, 109, 154, 0, 6, 16, 253]
abbrev dktX2_play_0 : List UInt8 := dkwX2_play_0 ++ dktX2_play_1
theorem dksX2_play_0 : cX2_play.data.toList.drop 0 = dktX2_play_0 := by decide +kernel
theorem dksX2_play_1 : cX2_play.data.toList.drop 24 = dktX2_play_1 := dk_seg dksX2_play_0 24 rfl rfl
theorem dksX2_play_2 : cX2_play.data.toList.drop 48 = dktX2_play_2 := dk_seg dksX2_play_1 24 rfl rfl
theorem dksX2_play_3 : cX2_play.data.toList.drop 71 = dktX2_play_3 := dk_seg dksX2_play_2 23 rfl rfl
theorem dksX2_play_4 : cX2_play.data.toList.drop 95 = dktX2_play_4 := dk_seg dksX2_play_3 24 rfl rfl
theorem dX2_play_0 : decode cX2_play 0 = .ok (.iload_n 1, 1) := dk_27 (dk_at dksX2_play_0 0 rfl rfl)
theorem dX2_play_1 : decode cX2_play 1 = .ok (.invokestatic 341, 3) := dk_184 1 85 (dk_at dksX2_play_0 1 rfl rfl)
theorem dX2_play_4 : decode cX2_play 4 = .ok (.ifCond .ne 6, 3) := dk_154 0 6 (dk_at dksX2_play_0 4 rfl rfl)
theorem dX2_play_7 : decode cX2_play 7 = .ok (.bipush (-2), 2) := dk_16 254 (dk_at dksX2_play_0 7 rfl rfl)
theorem dX2_play_9 : decode cX2_play 9 = .ok (.ireturn, 1) := dk_172 (dk_at dksX2_play_0 9 rfl rfl)
theorem dX2_play_10 : decode cX2_play 10 = .ok (.iload_n 2, 1) := dk_28 (dk_at dksX2_play_0 10 rfl rfl)
theorem dX2_play_11 : decode cX2_play 11 = .ok (.i2l, 1) := dk_133 (dk_at dksX2_play_0 11 rfl rfl)
theorem dX2_play_12 : decode cX2_play 12 = .ok (.lconst 0, 1) := dk_9 (dk_at dksX2_play_0 12 rfl rfl)
theorem dX2_play_13 : decode cX2_play 13 = .ok (.ldc2_w 309, 3) := dk_20 1 53 (dk_at dksX2_play_0 13 rfl rfl)
theorem dX2_play_16 : decode cX2_play 16 = .ok (.invokestatic 109, 3) := dk_184 0 109 (dk_at dksX2_play_0 16 rfl rfl)
theorem dX2_play_19 : decode cX2_play 19 = .ok (.ifCond .ne 6, 3) := dk_154 0 6 (dk_at dksX2_play_0 19 rfl rfl)
theorem dX2_play_22 : decode cX2_play 22 = .ok (.bipush (-3), 2) := dk_16 253 (dk_at dksX2_play_0 22 rfl rfl)
theorem dX2_play_24 : decode cX2_play 24 = .ok (.ireturn, 1) := dk_172 (dk_at dksX2_play_1 0 rfl rfl)
theorem dX2_play_25 : decode cX2_play 25 = .ok (.aload_n 0, 1) := dk_42 (dk_at dksX2_play_1 1 rfl rfl)
theorem dX2_play_26 : decode cX2_play 26 = .ok (.iload_n 1, 1) := dk_27 (dk_at dksX2_play_1 2 rfl rfl)
theorem dX2_play_27 : decode cX2_play 27 = .ok (.iload_n 2, 1) := dk_28 (dk_at dksX2_play_1 3 rfl rfl)
theorem dX2_play_28 : decode cX2_play 28 = .ok (.iload_n 3, 1) := dk_29 (dk_at dksX2_play_1 4 rfl rfl)
theorem dX2_play_29 : decode cX2_play 29 = .ok (.invokevirtual 344, 3) := dk_182 1 88 (dk_at dksX2_play_1 5 rfl rfl)
theorem dX2_play_32 : decode cX2_play 32 = .ok (.istore 4, 2) := dk_54 4 (dk_at dksX2_play_1 8 rfl rfl)
theorem dX2_play_34 : decode cX2_play 34 = .ok (.iload 4, 2) := dk_21 4 (dk_at dksX2_play_1 10 rfl rfl)
theorem dX2_play_36 : decode cX2_play 36 = .ok (.ifCond .eq 6, 3) := dk_153 0 6 (dk_at dksX2_play_1 12 rfl rfl)
theorem dX2_play_39 : decode cX2_play 39 = .ok (.iload 4, 2) := dk_21 4 (dk_at dksX2_play_1 15 rfl rfl)
theorem dX2_play_41 : decode cX2_play 41 = .ok (.ireturn, 1) := dk_172 (dk_at dksX2_play_1 17 rfl rfl)
theorem dX2_play_42 : decode cX2_play 42 = .ok (.aload_n 0, 1) := dk_42 (dk_at dksX2_play_1 18 rfl rfl)
theorem dX2_play_43 : decode cX2_play 43 = .ok (.getfield 44, 3) := dk_180 0 44 (dk_at dksX2_play_1 19 rfl rfl)
theorem dX2_play_46 : decode cX2_play 46 = .ok (.bipush 12, 2) := dk_16 12 (dk_at dksX2_play_1 22 rfl rfl)
theorem dX2_play_48 : decode cX2_play 48 = .ok (.iload_n 1, 1) := dk_27 (dk_at dksX2_play_2 0 rfl rfl)
theorem dX2_play_49 : decode cX2_play 49 = .ok (.imul, 1) := dk_104 (dk_at dksX2_play_2 1 rfl rfl)
theorem dX2_play_50 : decode cX2_play 50 = .ok (.iload_n 3, 1) := dk_29 (dk_at dksX2_play_2 2 rfl rfl)
theorem dX2_play_51 : decode cX2_play 51 = .ok (.iadd, 1) := dk_96 (dk_at dksX2_play_2 3 rfl rfl)
theorem dX2_play_52 : decode cX2_play 52 = .ok (.iaload, 1) := dk_46 (dk_at dksX2_play_2 4 rfl rfl)
theorem dX2_play_53 : decode cX2_play 53 = .ok (.istore 5, 2) := dk_54 5 (dk_at dksX2_play_2 5 rfl rfl)
theorem dX2_play_55 : decode cX2_play 55 = .ok (.iload_n 2, 1) := dk_28 (dk_at dksX2_play_2 7 rfl rfl)
theorem dX2_play_56 : decode cX2_play 56 = .ok (.iconst 3, 1) := dk_6 (dk_at dksX2_play_2 8 rfl rfl)
theorem dX2_play_57 : decode cX2_play 57 = .ok (.if_icmp .ne 17, 3) := dk_160 0 17 (dk_at dksX2_play_2 9 rfl rfl)
theorem dX2_play_60 : decode cX2_play 60 = .ok (.iload 5, 2) := dk_21 5 (dk_at dksX2_play_2 12 rfl rfl)
theorem dX2_play_62 : decode cX2_play 62 = .ok (.iconst (-1), 1) := dk_2 (dk_at dksX2_play_2 14 rfl rfl)
theorem dX2_play_63 : decode cX2_play 63 = .ok (.if_icmp .ne 8, 3) := dk_160 0 8 (dk_at dksX2_play_2 15 rfl rfl)
theorem dX2_play_66 : decode cX2_play 66 = .ok (.bipush (-15), 2) := dk_16 241 (dk_at dksX2_play_2 18 rfl rfl)
theorem dX2_play_68 : decode cX2_play 68 = .ok (.goto 5, 3) := dk_167 0 5 (dk_at dksX2_play_2 20 rfl rfl)
theorem dX2_play_71 : decode cX2_play 71 = .ok (.iload 5, 2) := dk_21 5 (dk_at dksX2_play_3 0 rfl rfl)
theorem dX2_play_73 : decode cX2_play 73 = .ok (.ireturn, 1) := dk_172 (dk_at dksX2_play_3 2 rfl rfl)
theorem dX2_play_74 : decode cX2_play 74 = .ok (.iload_n 2, 1) := dk_28 (dk_at dksX2_play_3 3 rfl rfl)
theorem dX2_play_75 : decode cX2_play 75 = .ok (.iconst 2, 1) := dk_5 (dk_at dksX2_play_3 4 rfl rfl)
theorem dX2_play_76 : decode cX2_play 76 = .ok (.if_icmp .ge 12, 3) := dk_162 0 12 (dk_at dksX2_play_3 5 rfl rfl)
theorem dX2_play_79 : decode cX2_play 79 = .ok (.iload 5, 2) := dk_21 5 (dk_at dksX2_play_3 8 rfl rfl)
theorem dX2_play_81 : decode cX2_play 81 = .ok (.ldc_w 347, 3) := dk_19 1 91 (dk_at dksX2_play_3 10 rfl rfl)
theorem dX2_play_84 : decode cX2_play 84 = .ok (.iadd, 1) := dk_96 (dk_at dksX2_play_3 13 rfl rfl)
theorem dX2_play_85 : decode cX2_play 85 = .ok (.goto 30, 3) := dk_167 0 30 (dk_at dksX2_play_3 14 rfl rfl)
theorem dX2_play_88 : decode cX2_play 88 = .ok (.iload 5, 2) := dk_21 5 (dk_at dksX2_play_3 17 rfl rfl)
theorem dX2_play_90 : decode cX2_play 90 = .ok (.ifCond .ge 19, 3) := dk_156 0 19 (dk_at dksX2_play_3 19 rfl rfl)
theorem dX2_play_93 : decode cX2_play 93 = .ok (.iload 5, 2) := dk_21 5 (dk_at dksX2_play_3 22 rfl rfl)
theorem dX2_play_95 : decode cX2_play 95 = .ok (.iconst 1, 1) := dk_4 (dk_at dksX2_play_4 0 rfl rfl)
theorem dX2_play_96 : decode cX2_play 96 = .ok (.iadd, 1) := dk_96 (dk_at dksX2_play_4 1 rfl rfl)
theorem dX2_play_97 : decode cX2_play 97 = .ok (.ineg, 1) := dk_116 (dk_at dksX2_play_4 2 rfl rfl)
theorem dX2_play_98 : decode cX2_play 98 = .ok (.ldc_w 348, 3) := dk_19 1 92 (dk_at dksX2_play_4 3 rfl rfl)
theorem dX2_play_101 : decode cX2_play 101 = .ok (.irem, 1) := dk_112 (dk_at dksX2_play_4 6 rfl rfl)
theorem dX2_play_102 : decode cX2_play 102 = .ok (.ldc_w 349, 3) := dk_19 1 93 (dk_at dksX2_play_4 7 rfl rfl)
theorem dX2_play_105 : decode cX2_play 105 = .ok (.iadd, 1) := dk_96 (dk_at dksX2_play_4 10 rfl rfl)
theorem dX2_play_106 : decode cX2_play 106 = .ok (.goto 9, 3) := dk_167 0 9 (dk_at dksX2_play_4 11 rfl rfl)
theorem dX2_play_109 : decode cX2_play 109 = .ok (.iload 5, 2) := dk_21 5 (dk_at dksX2_play_4 14 rfl rfl)
theorem dX2_play_111 : decode cX2_play 111 = .ok (.ldc_w 348, 3) := dk_19 1 92 (dk_at dksX2_play_4 16 rfl rfl)
theorem dX2_play_114 : decode cX2_play 114 = .ok (.irem, 1) := dk_112 (dk_at dksX2_play_4 19 rfl rfl)
theorem dX2_play_115 : decode cX2_play 115 = .ok (.ireturn, 1) := dk_172 (dk_at dksX2_play_4 20 rfl rfl)
abbrev cX2_splice : ByteArray := prog_18_method_88_code
def yX2_splice : MethodName := ⟨RX2, "splice", "(IIIII)I"⟩
def dkwX2_splice_6 : List UInt8 := [21, 6, 96, 42, 180, 0, 104, 21, 6, 46, 79, 132, 6, 1, 167, 255, 224, 21, 5, 172]
abbrev dktX2_splice_6 : List UInt8 := dkwX2_splice_6 ++ []
def dkwX2_splice_5 : List UInt8 := [167, 255, 225, 3, 54, 6, 21, 6, 21, 5, 162, 0, 31, 42, 180, 0, 44, 16, 12, 29, 104, 21, 4, 96]
abbrev dktX2_splice_5 : List UInt8 := dkwX2_splice_5 ++ dktX2_splice_6
def dkwX2_splice_4 : List UInt8 := [180, 0, 104, 21, 6, 42, 180, 0, 44, 16, 12, 27, 104, 28, 96, 21, 6, 96, 46, 79, 132, 6, 1]
abbrev dktX2_splice_4 : List UInt8 := dkwX2_splice_4 ++ dktX2_splice_5
def dkwX2_splice_3 : List UInt8 := [21, 4, 21, 5, 182, 1, 94, 154, 0, 6, 16, 242, 172, 3, 54, 6, 21, 6, 21, 5, 162, 0, 30, 42]
abbrev dktX2_splice_3 : List UInt8 := dkwX2_splice_3 ++ dktX2_splice_4
def dkwX2_splice_2 : List UInt8 := [180, 0, 41, 29, 46, 159, 0, 6, 16, 243, 172, 42, 27, 28, 21, 5, 182, 1, 94, 153, 0, 15, 42, 29]
abbrev dktX2_splice_2 : List UInt8 := dkwX2_splice_2 ++ dktX2_splice_3
def dkwX2_splice_1 : List UInt8 := [155, 0, 12, 42, 180, 0, 38, 29, 46, 156, 0, 6, 16, 245, 172, 42, 180, 0, 41, 27, 46, 42]
abbrev dktX2_splice_1 : List UInt8 := dkwX2_splice_1 ++ dktX2_splice_2
def dkwX2_splice_0 : List UInt8 := [27, 184, 1, 85, 153, 0, 10, 29, 184, 1, 85, 154, 0, 6, 16, 254, 172, 42, 180, 0, 38, 27, 46]
abbrev dktX2_splice_0 : List UInt8 := dkwX2_splice_0 ++ dktX2_splice_1
theorem dksX2_splice_0 : cX2_splice.data.toList.drop 0 = dktX2_splice_0 := by decide +kernel
theorem dksX2_splice_1 : cX2_splice.data.toList.drop 23 = dktX2_splice_1 := dk_seg dksX2_splice_0 23 rfl rfl
theorem dksX2_splice_2 : cX2_splice.data.toList.drop 45 = dktX2_splice_2 := dk_seg dksX2_splice_1 22 rfl rfl
theorem dksX2_splice_3 : cX2_splice.data.toList.drop 69 = dktX2_splice_3 := dk_seg dksX2_splice_2 24 rfl rfl
theorem dksX2_splice_4 : cX2_splice.data.toList.drop 93 = dktX2_splice_4 := dk_seg dksX2_splice_3 24 rfl rfl
theorem dksX2_splice_5 : cX2_splice.data.toList.drop 116 = dktX2_splice_5 := dk_seg dksX2_splice_4 23 rfl rfl
theorem dksX2_splice_6 : cX2_splice.data.toList.drop 140 = dktX2_splice_6 := dk_seg dksX2_splice_5 24 rfl rfl
theorem dX2_splice_0 : decode cX2_splice 0 = .ok (.iload_n 1, 1) := dk_27 (dk_at dksX2_splice_0 0 rfl rfl)
theorem dX2_splice_1 : decode cX2_splice 1 = .ok (.invokestatic 341, 3) := dk_184 1 85 (dk_at dksX2_splice_0 1 rfl rfl)
theorem dX2_splice_4 : decode cX2_splice 4 = .ok (.ifCond .eq 10, 3) := dk_153 0 10 (dk_at dksX2_splice_0 4 rfl rfl)
theorem dX2_splice_7 : decode cX2_splice 7 = .ok (.iload_n 3, 1) := dk_29 (dk_at dksX2_splice_0 7 rfl rfl)
theorem dX2_splice_8 : decode cX2_splice 8 = .ok (.invokestatic 341, 3) := dk_184 1 85 (dk_at dksX2_splice_0 8 rfl rfl)
theorem dX2_splice_11 : decode cX2_splice 11 = .ok (.ifCond .ne 6, 3) := dk_154 0 6 (dk_at dksX2_splice_0 11 rfl rfl)
theorem dX2_splice_14 : decode cX2_splice 14 = .ok (.bipush (-2), 2) := dk_16 254 (dk_at dksX2_splice_0 14 rfl rfl)
theorem dX2_splice_16 : decode cX2_splice 16 = .ok (.ireturn, 1) := dk_172 (dk_at dksX2_splice_0 16 rfl rfl)
theorem dX2_splice_17 : decode cX2_splice 17 = .ok (.aload_n 0, 1) := dk_42 (dk_at dksX2_splice_0 17 rfl rfl)
theorem dX2_splice_18 : decode cX2_splice 18 = .ok (.getfield 38, 3) := dk_180 0 38 (dk_at dksX2_splice_0 18 rfl rfl)
theorem dX2_splice_21 : decode cX2_splice 21 = .ok (.iload_n 1, 1) := dk_27 (dk_at dksX2_splice_0 21 rfl rfl)
theorem dX2_splice_22 : decode cX2_splice 22 = .ok (.iaload, 1) := dk_46 (dk_at dksX2_splice_0 22 rfl rfl)
theorem dX2_splice_23 : decode cX2_splice 23 = .ok (.ifCond .lt 12, 3) := dk_155 0 12 (dk_at dksX2_splice_1 0 rfl rfl)
theorem dX2_splice_26 : decode cX2_splice 26 = .ok (.aload_n 0, 1) := dk_42 (dk_at dksX2_splice_1 3 rfl rfl)
theorem dX2_splice_27 : decode cX2_splice 27 = .ok (.getfield 38, 3) := dk_180 0 38 (dk_at dksX2_splice_1 4 rfl rfl)
theorem dX2_splice_30 : decode cX2_splice 30 = .ok (.iload_n 3, 1) := dk_29 (dk_at dksX2_splice_1 7 rfl rfl)
theorem dX2_splice_31 : decode cX2_splice 31 = .ok (.iaload, 1) := dk_46 (dk_at dksX2_splice_1 8 rfl rfl)
theorem dX2_splice_32 : decode cX2_splice 32 = .ok (.ifCond .ge 6, 3) := dk_156 0 6 (dk_at dksX2_splice_1 9 rfl rfl)
theorem dX2_splice_35 : decode cX2_splice 35 = .ok (.bipush (-11), 2) := dk_16 245 (dk_at dksX2_splice_1 12 rfl rfl)
theorem dX2_splice_37 : decode cX2_splice 37 = .ok (.ireturn, 1) := dk_172 (dk_at dksX2_splice_1 14 rfl rfl)
theorem dX2_splice_38 : decode cX2_splice 38 = .ok (.aload_n 0, 1) := dk_42 (dk_at dksX2_splice_1 15 rfl rfl)
theorem dX2_splice_39 : decode cX2_splice 39 = .ok (.getfield 41, 3) := dk_180 0 41 (dk_at dksX2_splice_1 16 rfl rfl)
theorem dX2_splice_42 : decode cX2_splice 42 = .ok (.iload_n 1, 1) := dk_27 (dk_at dksX2_splice_1 19 rfl rfl)
theorem dX2_splice_43 : decode cX2_splice 43 = .ok (.iaload, 1) := dk_46 (dk_at dksX2_splice_1 20 rfl rfl)
theorem dX2_splice_44 : decode cX2_splice 44 = .ok (.aload_n 0, 1) := dk_42 (dk_at dksX2_splice_1 21 rfl rfl)
theorem dX2_splice_45 : decode cX2_splice 45 = .ok (.getfield 41, 3) := dk_180 0 41 (dk_at dksX2_splice_2 0 rfl rfl)
theorem dX2_splice_48 : decode cX2_splice 48 = .ok (.iload_n 3, 1) := dk_29 (dk_at dksX2_splice_2 3 rfl rfl)
theorem dX2_splice_49 : decode cX2_splice 49 = .ok (.iaload, 1) := dk_46 (dk_at dksX2_splice_2 4 rfl rfl)
theorem dX2_splice_50 : decode cX2_splice 50 = .ok (.if_icmp .eq 6, 3) := dk_159 0 6 (dk_at dksX2_splice_2 5 rfl rfl)
theorem dX2_splice_53 : decode cX2_splice 53 = .ok (.bipush (-13), 2) := dk_16 243 (dk_at dksX2_splice_2 8 rfl rfl)
theorem dX2_splice_55 : decode cX2_splice 55 = .ok (.ireturn, 1) := dk_172 (dk_at dksX2_splice_2 10 rfl rfl)
theorem dX2_splice_56 : decode cX2_splice 56 = .ok (.aload_n 0, 1) := dk_42 (dk_at dksX2_splice_2 11 rfl rfl)
theorem dX2_splice_57 : decode cX2_splice 57 = .ok (.iload_n 1, 1) := dk_27 (dk_at dksX2_splice_2 12 rfl rfl)
theorem dX2_splice_58 : decode cX2_splice 58 = .ok (.iload_n 2, 1) := dk_28 (dk_at dksX2_splice_2 13 rfl rfl)
theorem dX2_splice_59 : decode cX2_splice 59 = .ok (.iload 5, 2) := dk_21 5 (dk_at dksX2_splice_2 14 rfl rfl)
theorem dX2_splice_61 : decode cX2_splice 61 = .ok (.invokevirtual 350, 3) := dk_182 1 94 (dk_at dksX2_splice_2 16 rfl rfl)
theorem dX2_splice_64 : decode cX2_splice 64 = .ok (.ifCond .eq 15, 3) := dk_153 0 15 (dk_at dksX2_splice_2 19 rfl rfl)
theorem dX2_splice_67 : decode cX2_splice 67 = .ok (.aload_n 0, 1) := dk_42 (dk_at dksX2_splice_2 22 rfl rfl)
theorem dX2_splice_68 : decode cX2_splice 68 = .ok (.iload_n 3, 1) := dk_29 (dk_at dksX2_splice_2 23 rfl rfl)
theorem dX2_splice_69 : decode cX2_splice 69 = .ok (.iload 4, 2) := dk_21 4 (dk_at dksX2_splice_3 0 rfl rfl)
theorem dX2_splice_71 : decode cX2_splice 71 = .ok (.iload 5, 2) := dk_21 5 (dk_at dksX2_splice_3 2 rfl rfl)
theorem dX2_splice_73 : decode cX2_splice 73 = .ok (.invokevirtual 350, 3) := dk_182 1 94 (dk_at dksX2_splice_3 4 rfl rfl)
theorem dX2_splice_76 : decode cX2_splice 76 = .ok (.ifCond .ne 6, 3) := dk_154 0 6 (dk_at dksX2_splice_3 7 rfl rfl)
theorem dX2_splice_79 : decode cX2_splice 79 = .ok (.bipush (-14), 2) := dk_16 242 (dk_at dksX2_splice_3 10 rfl rfl)
theorem dX2_splice_81 : decode cX2_splice 81 = .ok (.ireturn, 1) := dk_172 (dk_at dksX2_splice_3 12 rfl rfl)
theorem dX2_splice_82 : decode cX2_splice 82 = .ok (.iconst 0, 1) := dk_3 (dk_at dksX2_splice_3 13 rfl rfl)
theorem dX2_splice_83 : decode cX2_splice 83 = .ok (.istore 6, 2) := dk_54 6 (dk_at dksX2_splice_3 14 rfl rfl)
theorem dX2_splice_85 : decode cX2_splice 85 = .ok (.iload 6, 2) := dk_21 6 (dk_at dksX2_splice_3 16 rfl rfl)
theorem dX2_splice_87 : decode cX2_splice 87 = .ok (.iload 5, 2) := dk_21 5 (dk_at dksX2_splice_3 18 rfl rfl)
theorem dX2_splice_89 : decode cX2_splice 89 = .ok (.if_icmp .ge 30, 3) := dk_162 0 30 (dk_at dksX2_splice_3 20 rfl rfl)
theorem dX2_splice_92 : decode cX2_splice 92 = .ok (.aload_n 0, 1) := dk_42 (dk_at dksX2_splice_3 23 rfl rfl)
theorem dX2_splice_93 : decode cX2_splice 93 = .ok (.getfield 104, 3) := dk_180 0 104 (dk_at dksX2_splice_4 0 rfl rfl)
theorem dX2_splice_96 : decode cX2_splice 96 = .ok (.iload 6, 2) := dk_21 6 (dk_at dksX2_splice_4 3 rfl rfl)
theorem dX2_splice_98 : decode cX2_splice 98 = .ok (.aload_n 0, 1) := dk_42 (dk_at dksX2_splice_4 5 rfl rfl)
theorem dX2_splice_99 : decode cX2_splice 99 = .ok (.getfield 44, 3) := dk_180 0 44 (dk_at dksX2_splice_4 6 rfl rfl)
theorem dX2_splice_102 : decode cX2_splice 102 = .ok (.bipush 12, 2) := dk_16 12 (dk_at dksX2_splice_4 9 rfl rfl)
theorem dX2_splice_104 : decode cX2_splice 104 = .ok (.iload_n 1, 1) := dk_27 (dk_at dksX2_splice_4 11 rfl rfl)
theorem dX2_splice_105 : decode cX2_splice 105 = .ok (.imul, 1) := dk_104 (dk_at dksX2_splice_4 12 rfl rfl)
theorem dX2_splice_106 : decode cX2_splice 106 = .ok (.iload_n 2, 1) := dk_28 (dk_at dksX2_splice_4 13 rfl rfl)
theorem dX2_splice_107 : decode cX2_splice 107 = .ok (.iadd, 1) := dk_96 (dk_at dksX2_splice_4 14 rfl rfl)
theorem dX2_splice_108 : decode cX2_splice 108 = .ok (.iload 6, 2) := dk_21 6 (dk_at dksX2_splice_4 15 rfl rfl)
theorem dX2_splice_110 : decode cX2_splice 110 = .ok (.iadd, 1) := dk_96 (dk_at dksX2_splice_4 17 rfl rfl)
theorem dX2_splice_111 : decode cX2_splice 111 = .ok (.iaload, 1) := dk_46 (dk_at dksX2_splice_4 18 rfl rfl)
theorem dX2_splice_112 : decode cX2_splice 112 = .ok (.iastore, 1) := dk_79 (dk_at dksX2_splice_4 19 rfl rfl)
theorem dX2_splice_113 : decode cX2_splice 113 = .ok (.iinc 6 1, 3) := dk_132 6 1 (dk_at dksX2_splice_4 20 rfl rfl)
theorem dX2_splice_116 : decode cX2_splice 116 = .ok (.goto (-31), 3) := dk_167 255 225 (dk_at dksX2_splice_5 0 rfl rfl)
theorem dX2_splice_119 : decode cX2_splice 119 = .ok (.iconst 0, 1) := dk_3 (dk_at dksX2_splice_5 3 rfl rfl)
theorem dX2_splice_120 : decode cX2_splice 120 = .ok (.istore 6, 2) := dk_54 6 (dk_at dksX2_splice_5 4 rfl rfl)
theorem dX2_splice_122 : decode cX2_splice 122 = .ok (.iload 6, 2) := dk_21 6 (dk_at dksX2_splice_5 6 rfl rfl)
theorem dX2_splice_124 : decode cX2_splice 124 = .ok (.iload 5, 2) := dk_21 5 (dk_at dksX2_splice_5 8 rfl rfl)
theorem dX2_splice_126 : decode cX2_splice 126 = .ok (.if_icmp .ge 31, 3) := dk_162 0 31 (dk_at dksX2_splice_5 10 rfl rfl)
theorem dX2_splice_129 : decode cX2_splice 129 = .ok (.aload_n 0, 1) := dk_42 (dk_at dksX2_splice_5 13 rfl rfl)
theorem dX2_splice_130 : decode cX2_splice 130 = .ok (.getfield 44, 3) := dk_180 0 44 (dk_at dksX2_splice_5 14 rfl rfl)
theorem dX2_splice_133 : decode cX2_splice 133 = .ok (.bipush 12, 2) := dk_16 12 (dk_at dksX2_splice_5 17 rfl rfl)
theorem dX2_splice_135 : decode cX2_splice 135 = .ok (.iload_n 3, 1) := dk_29 (dk_at dksX2_splice_5 19 rfl rfl)
theorem dX2_splice_136 : decode cX2_splice 136 = .ok (.imul, 1) := dk_104 (dk_at dksX2_splice_5 20 rfl rfl)
theorem dX2_splice_137 : decode cX2_splice 137 = .ok (.iload 4, 2) := dk_21 4 (dk_at dksX2_splice_5 21 rfl rfl)
theorem dX2_splice_139 : decode cX2_splice 139 = .ok (.iadd, 1) := dk_96 (dk_at dksX2_splice_5 23 rfl rfl)
theorem dX2_splice_140 : decode cX2_splice 140 = .ok (.iload 6, 2) := dk_21 6 (dk_at dksX2_splice_6 0 rfl rfl)
theorem dX2_splice_142 : decode cX2_splice 142 = .ok (.iadd, 1) := dk_96 (dk_at dksX2_splice_6 2 rfl rfl)
theorem dX2_splice_143 : decode cX2_splice 143 = .ok (.aload_n 0, 1) := dk_42 (dk_at dksX2_splice_6 3 rfl rfl)
theorem dX2_splice_144 : decode cX2_splice 144 = .ok (.getfield 104, 3) := dk_180 0 104 (dk_at dksX2_splice_6 4 rfl rfl)
theorem dX2_splice_147 : decode cX2_splice 147 = .ok (.iload 6, 2) := dk_21 6 (dk_at dksX2_splice_6 7 rfl rfl)
theorem dX2_splice_149 : decode cX2_splice 149 = .ok (.iaload, 1) := dk_46 (dk_at dksX2_splice_6 9 rfl rfl)
theorem dX2_splice_150 : decode cX2_splice 150 = .ok (.iastore, 1) := dk_79 (dk_at dksX2_splice_6 10 rfl rfl)
theorem dX2_splice_151 : decode cX2_splice 151 = .ok (.iinc 6 1, 3) := dk_132 6 1 (dk_at dksX2_splice_6 11 rfl rfl)
theorem dX2_splice_154 : decode cX2_splice 154 = .ok (.goto (-32), 3) := dk_167 255 224 (dk_at dksX2_splice_6 14 rfl rfl)
theorem dX2_splice_157 : decode cX2_splice 157 = .ok (.iload 5, 2) := dk_21 5 (dk_at dksX2_splice_6 17 rfl rfl)
theorem dX2_splice_159 : decode cX2_splice 159 = .ok (.ireturn, 1) := dk_172 (dk_at dksX2_splice_6 19 rfl rfl)
abbrev cX2_isSpan : ByteArray := prog_18_method_87_code
def yX2_isSpan : MethodName := ⟨RX2, "isSpan", "(III)Z"⟩
def dkwX2_isSpan_1 : List UInt8 := [4, 167, 0, 4, 3, 172]
abbrev dktX2_isSpan_1 : List UInt8 := dkwX2_isSpan_1 ++ []
def dkwX2_isSpan_0 : List UInt8 := [28, 155, 0, 27, 29, 155, 0, 23, 28, 133, 29, 133, 97, 42, 180, 0, 38, 27, 46, 133, 148, 157, 0, 7]
abbrev dktX2_isSpan_0 : List UInt8 := dkwX2_isSpan_0 ++ dktX2_isSpan_1
theorem dksX2_isSpan_0 : cX2_isSpan.data.toList.drop 0 = dktX2_isSpan_0 := by decide +kernel
theorem dksX2_isSpan_1 : cX2_isSpan.data.toList.drop 24 = dktX2_isSpan_1 := dk_seg dksX2_isSpan_0 24 rfl rfl
theorem dX2_isSpan_0 : decode cX2_isSpan 0 = .ok (.iload_n 2, 1) := dk_28 (dk_at dksX2_isSpan_0 0 rfl rfl)
theorem dX2_isSpan_1 : decode cX2_isSpan 1 = .ok (.ifCond .lt 27, 3) := dk_155 0 27 (dk_at dksX2_isSpan_0 1 rfl rfl)
theorem dX2_isSpan_4 : decode cX2_isSpan 4 = .ok (.iload_n 3, 1) := dk_29 (dk_at dksX2_isSpan_0 4 rfl rfl)
theorem dX2_isSpan_5 : decode cX2_isSpan 5 = .ok (.ifCond .lt 23, 3) := dk_155 0 23 (dk_at dksX2_isSpan_0 5 rfl rfl)
theorem dX2_isSpan_8 : decode cX2_isSpan 8 = .ok (.iload_n 2, 1) := dk_28 (dk_at dksX2_isSpan_0 8 rfl rfl)
theorem dX2_isSpan_9 : decode cX2_isSpan 9 = .ok (.i2l, 1) := dk_133 (dk_at dksX2_isSpan_0 9 rfl rfl)
theorem dX2_isSpan_10 : decode cX2_isSpan 10 = .ok (.iload_n 3, 1) := dk_29 (dk_at dksX2_isSpan_0 10 rfl rfl)
theorem dX2_isSpan_11 : decode cX2_isSpan 11 = .ok (.i2l, 1) := dk_133 (dk_at dksX2_isSpan_0 11 rfl rfl)
theorem dX2_isSpan_12 : decode cX2_isSpan 12 = .ok (.ladd, 1) := dk_97 (dk_at dksX2_isSpan_0 12 rfl rfl)
theorem dX2_isSpan_13 : decode cX2_isSpan 13 = .ok (.aload_n 0, 1) := dk_42 (dk_at dksX2_isSpan_0 13 rfl rfl)
theorem dX2_isSpan_14 : decode cX2_isSpan 14 = .ok (.getfield 38, 3) := dk_180 0 38 (dk_at dksX2_isSpan_0 14 rfl rfl)
theorem dX2_isSpan_17 : decode cX2_isSpan 17 = .ok (.iload_n 1, 1) := dk_27 (dk_at dksX2_isSpan_0 17 rfl rfl)
theorem dX2_isSpan_18 : decode cX2_isSpan 18 = .ok (.iaload, 1) := dk_46 (dk_at dksX2_isSpan_0 18 rfl rfl)
theorem dX2_isSpan_19 : decode cX2_isSpan 19 = .ok (.i2l, 1) := dk_133 (dk_at dksX2_isSpan_0 19 rfl rfl)
theorem dX2_isSpan_20 : decode cX2_isSpan 20 = .ok (.lcmp, 1) := dk_148 (dk_at dksX2_isSpan_0 20 rfl rfl)
theorem dX2_isSpan_21 : decode cX2_isSpan 21 = .ok (.ifCond .gt 7, 3) := dk_157 0 7 (dk_at dksX2_isSpan_0 21 rfl rfl)
theorem dX2_isSpan_24 : decode cX2_isSpan 24 = .ok (.iconst 1, 1) := dk_4 (dk_at dksX2_isSpan_1 0 rfl rfl)
theorem dX2_isSpan_25 : decode cX2_isSpan 25 = .ok (.goto 4, 3) := dk_167 0 4 (dk_at dksX2_isSpan_1 1 rfl rfl)
theorem dX2_isSpan_28 : decode cX2_isSpan 28 = .ok (.iconst 0, 1) := dk_3 (dk_at dksX2_isSpan_1 4 rfl rfl)
theorem dX2_isSpan_29 : decode cX2_isSpan 29 = .ok (.ireturn, 1) := dk_172 (dk_at dksX2_isSpan_1 5 rfl rfl)
abbrev cX2_drop : ByteArray := prog_18_method_89_code
def yX2_drop : MethodName := ⟨RX2, "drop", "(I)I"⟩
def dkwX2_drop_1 : List UInt8 := [180, 0, 38, 27, 46, 61, 42, 180, 0, 38, 27, 2, 79, 28, 172]
abbrev dktX2_drop_1 : List UInt8 := dkwX2_drop_1 ++ []
def dkwX2_drop_0 : List UInt8 := [27, 184, 1, 85, 154, 0, 6, 16, 254, 172, 42, 180, 0, 38, 27, 46, 156, 0, 6, 16, 245, 172, 42]
abbrev dktX2_drop_0 : List UInt8 := dkwX2_drop_0 ++ dktX2_drop_1
theorem dksX2_drop_0 : cX2_drop.data.toList.drop 0 = dktX2_drop_0 := by decide +kernel
theorem dksX2_drop_1 : cX2_drop.data.toList.drop 23 = dktX2_drop_1 := dk_seg dksX2_drop_0 23 rfl rfl
theorem dX2_drop_0 : decode cX2_drop 0 = .ok (.iload_n 1, 1) := dk_27 (dk_at dksX2_drop_0 0 rfl rfl)
theorem dX2_drop_1 : decode cX2_drop 1 = .ok (.invokestatic 341, 3) := dk_184 1 85 (dk_at dksX2_drop_0 1 rfl rfl)
theorem dX2_drop_4 : decode cX2_drop 4 = .ok (.ifCond .ne 6, 3) := dk_154 0 6 (dk_at dksX2_drop_0 4 rfl rfl)
theorem dX2_drop_7 : decode cX2_drop 7 = .ok (.bipush (-2), 2) := dk_16 254 (dk_at dksX2_drop_0 7 rfl rfl)
theorem dX2_drop_9 : decode cX2_drop 9 = .ok (.ireturn, 1) := dk_172 (dk_at dksX2_drop_0 9 rfl rfl)
theorem dX2_drop_10 : decode cX2_drop 10 = .ok (.aload_n 0, 1) := dk_42 (dk_at dksX2_drop_0 10 rfl rfl)
theorem dX2_drop_11 : decode cX2_drop 11 = .ok (.getfield 38, 3) := dk_180 0 38 (dk_at dksX2_drop_0 11 rfl rfl)
theorem dX2_drop_14 : decode cX2_drop 14 = .ok (.iload_n 1, 1) := dk_27 (dk_at dksX2_drop_0 14 rfl rfl)
theorem dX2_drop_15 : decode cX2_drop 15 = .ok (.iaload, 1) := dk_46 (dk_at dksX2_drop_0 15 rfl rfl)
theorem dX2_drop_16 : decode cX2_drop 16 = .ok (.ifCond .ge 6, 3) := dk_156 0 6 (dk_at dksX2_drop_0 16 rfl rfl)
theorem dX2_drop_19 : decode cX2_drop 19 = .ok (.bipush (-11), 2) := dk_16 245 (dk_at dksX2_drop_0 19 rfl rfl)
theorem dX2_drop_21 : decode cX2_drop 21 = .ok (.ireturn, 1) := dk_172 (dk_at dksX2_drop_0 21 rfl rfl)
theorem dX2_drop_22 : decode cX2_drop 22 = .ok (.aload_n 0, 1) := dk_42 (dk_at dksX2_drop_0 22 rfl rfl)
theorem dX2_drop_23 : decode cX2_drop 23 = .ok (.getfield 38, 3) := dk_180 0 38 (dk_at dksX2_drop_1 0 rfl rfl)
theorem dX2_drop_26 : decode cX2_drop 26 = .ok (.iload_n 1, 1) := dk_27 (dk_at dksX2_drop_1 3 rfl rfl)
theorem dX2_drop_27 : decode cX2_drop 27 = .ok (.iaload, 1) := dk_46 (dk_at dksX2_drop_1 4 rfl rfl)
theorem dX2_drop_28 : decode cX2_drop 28 = .ok (.istore_n 2, 1) := dk_61 (dk_at dksX2_drop_1 5 rfl rfl)
theorem dX2_drop_29 : decode cX2_drop 29 = .ok (.aload_n 0, 1) := dk_42 (dk_at dksX2_drop_1 6 rfl rfl)
theorem dX2_drop_30 : decode cX2_drop 30 = .ok (.getfield 38, 3) := dk_180 0 38 (dk_at dksX2_drop_1 7 rfl rfl)
theorem dX2_drop_33 : decode cX2_drop 33 = .ok (.iload_n 1, 1) := dk_27 (dk_at dksX2_drop_1 10 rfl rfl)
theorem dX2_drop_34 : decode cX2_drop 34 = .ok (.iconst (-1), 1) := dk_2 (dk_at dksX2_drop_1 11 rfl rfl)
theorem dX2_drop_35 : decode cX2_drop 35 = .ok (.iastore, 1) := dk_79 (dk_at dksX2_drop_1 12 rfl rfl)
theorem dX2_drop_36 : decode cX2_drop 36 = .ok (.iload_n 2, 1) := dk_28 (dk_at dksX2_drop_1 13 rfl rfl)
theorem dX2_drop_37 : decode cX2_drop 37 = .ok (.ireturn, 1) := dk_172 (dk_at dksX2_drop_1 14 rfl rfl)
abbrev cX2_count : ByteArray := prog_18_method_93_code
def yX2_count : MethodName := ⟨RX2, "count", "(I)I"⟩
def dkwX2_count_4 : List UInt8 := [180, 0, 206, 172, 42, 180, 0, 113, 172, 42, 182, 1, 104, 172, 16, 253, 172]
abbrev dktX2_count_4 : List UInt8 := dkwX2_count_4 ++ []
def dkwX2_count_3 : List UInt8 := [180, 0, 7, 6, 46, 172, 42, 182, 1, 98, 172, 42, 180, 0, 209, 172, 42, 182, 1, 101, 172, 42]
abbrev dktX2_count_3 : List UInt8 := dkwX2_count_3 ++ dktX2_count_4
def dkwX2_count_2 : List UInt8 := [42, 180, 0, 7, 3, 46, 172, 42, 180, 0, 7, 4, 46, 172, 42, 180, 0, 7, 5, 46, 172, 42]
abbrev dktX2_count_2 : List UInt8 := dkwX2_count_2 ++ dktX2_count_3
def dkwX2_count_1 : List UInt8 := [170, 0, 0, 0, 0, 0, 113, 0, 0, 0, 0, 0, 0, 0, 9, 0, 0, 0, 55, 0, 0, 0, 62, 0, 0, 0, 69, 0, 0, 0, 76, 0, 0, 0, 83, 0, 0, 0, 88, 0, 0, 0, 93, 0, 0, 0, 98, 0, 0, 0, 103, 0, 0, 0, 108]
abbrev dktX2_count_1 : List UInt8 := dkwX2_count_1 ++ dktX2_count_2
def dkwX2_count_0 : List UInt8 := [27]
abbrev dktX2_count_0 : List UInt8 := dkwX2_count_0 ++ dktX2_count_1
theorem dksX2_count_0 : cX2_count.data.toList.drop 0 = dktX2_count_0 := by decide +kernel
theorem dksX2_count_1 : cX2_count.data.toList.drop 1 = dktX2_count_1 := dk_seg dksX2_count_0 1 rfl rfl
theorem dksX2_count_2 : cX2_count.data.toList.drop 56 = dktX2_count_2 := dk_seg dksX2_count_1 55 rfl rfl
theorem dksX2_count_3 : cX2_count.data.toList.drop 78 = dktX2_count_3 := dk_seg dksX2_count_2 22 rfl rfl
theorem dksX2_count_4 : cX2_count.data.toList.drop 100 = dktX2_count_4 := dk_seg dksX2_count_3 22 rfl rfl
theorem dX2_count_0 : decode cX2_count 0 = .ok (.iload_n 1, 1) := dk_27 (dk_at dksX2_count_0 0 rfl rfl)
theorem dX2_count_1 : decode cX2_count 1 = .ok (.tableswitch 113 0 9 #[55, 62, 69, 76, 83, 88, 93, 98, 103, 108], 55) := by decide +kernel
theorem dX2_count_56 : decode cX2_count 56 = .ok (.aload_n 0, 1) := dk_42 (dk_at dksX2_count_2 0 rfl rfl)
theorem dX2_count_57 : decode cX2_count 57 = .ok (.getfield 7, 3) := dk_180 0 7 (dk_at dksX2_count_2 1 rfl rfl)
theorem dX2_count_60 : decode cX2_count 60 = .ok (.iconst 0, 1) := dk_3 (dk_at dksX2_count_2 4 rfl rfl)
theorem dX2_count_61 : decode cX2_count 61 = .ok (.iaload, 1) := dk_46 (dk_at dksX2_count_2 5 rfl rfl)
theorem dX2_count_62 : decode cX2_count 62 = .ok (.ireturn, 1) := dk_172 (dk_at dksX2_count_2 6 rfl rfl)
theorem dX2_count_63 : decode cX2_count 63 = .ok (.aload_n 0, 1) := dk_42 (dk_at dksX2_count_2 7 rfl rfl)
theorem dX2_count_64 : decode cX2_count 64 = .ok (.getfield 7, 3) := dk_180 0 7 (dk_at dksX2_count_2 8 rfl rfl)
theorem dX2_count_67 : decode cX2_count 67 = .ok (.iconst 1, 1) := dk_4 (dk_at dksX2_count_2 11 rfl rfl)
theorem dX2_count_68 : decode cX2_count 68 = .ok (.iaload, 1) := dk_46 (dk_at dksX2_count_2 12 rfl rfl)
theorem dX2_count_69 : decode cX2_count 69 = .ok (.ireturn, 1) := dk_172 (dk_at dksX2_count_2 13 rfl rfl)
theorem dX2_count_70 : decode cX2_count 70 = .ok (.aload_n 0, 1) := dk_42 (dk_at dksX2_count_2 14 rfl rfl)
theorem dX2_count_71 : decode cX2_count 71 = .ok (.getfield 7, 3) := dk_180 0 7 (dk_at dksX2_count_2 15 rfl rfl)
theorem dX2_count_74 : decode cX2_count 74 = .ok (.iconst 2, 1) := dk_5 (dk_at dksX2_count_2 18 rfl rfl)
theorem dX2_count_75 : decode cX2_count 75 = .ok (.iaload, 1) := dk_46 (dk_at dksX2_count_2 19 rfl rfl)
theorem dX2_count_76 : decode cX2_count 76 = .ok (.ireturn, 1) := dk_172 (dk_at dksX2_count_2 20 rfl rfl)
theorem dX2_count_77 : decode cX2_count 77 = .ok (.aload_n 0, 1) := dk_42 (dk_at dksX2_count_2 21 rfl rfl)
theorem dX2_count_78 : decode cX2_count 78 = .ok (.getfield 7, 3) := dk_180 0 7 (dk_at dksX2_count_3 0 rfl rfl)
theorem dX2_count_81 : decode cX2_count 81 = .ok (.iconst 3, 1) := dk_6 (dk_at dksX2_count_3 3 rfl rfl)
theorem dX2_count_82 : decode cX2_count 82 = .ok (.iaload, 1) := dk_46 (dk_at dksX2_count_3 4 rfl rfl)
theorem dX2_count_83 : decode cX2_count 83 = .ok (.ireturn, 1) := dk_172 (dk_at dksX2_count_3 5 rfl rfl)
theorem dX2_count_84 : decode cX2_count 84 = .ok (.aload_n 0, 1) := dk_42 (dk_at dksX2_count_3 6 rfl rfl)
theorem dX2_count_85 : decode cX2_count 85 = .ok (.invokevirtual 354, 3) := dk_182 1 98 (dk_at dksX2_count_3 7 rfl rfl)
theorem dX2_count_88 : decode cX2_count 88 = .ok (.ireturn, 1) := dk_172 (dk_at dksX2_count_3 10 rfl rfl)
theorem dX2_count_89 : decode cX2_count 89 = .ok (.aload_n 0, 1) := dk_42 (dk_at dksX2_count_3 11 rfl rfl)
theorem dX2_count_90 : decode cX2_count 90 = .ok (.getfield 209, 3) := dk_180 0 209 (dk_at dksX2_count_3 12 rfl rfl)
theorem dX2_count_93 : decode cX2_count 93 = .ok (.ireturn, 1) := dk_172 (dk_at dksX2_count_3 15 rfl rfl)
theorem dX2_count_94 : decode cX2_count 94 = .ok (.aload_n 0, 1) := dk_42 (dk_at dksX2_count_3 16 rfl rfl)
theorem dX2_count_95 : decode cX2_count 95 = .ok (.invokevirtual 357, 3) := dk_182 1 101 (dk_at dksX2_count_3 17 rfl rfl)
theorem dX2_count_98 : decode cX2_count 98 = .ok (.ireturn, 1) := dk_172 (dk_at dksX2_count_3 20 rfl rfl)
theorem dX2_count_99 : decode cX2_count 99 = .ok (.aload_n 0, 1) := dk_42 (dk_at dksX2_count_3 21 rfl rfl)
theorem dX2_count_100 : decode cX2_count 100 = .ok (.getfield 206, 3) := dk_180 0 206 (dk_at dksX2_count_4 0 rfl rfl)
theorem dX2_count_103 : decode cX2_count 103 = .ok (.ireturn, 1) := dk_172 (dk_at dksX2_count_4 3 rfl rfl)
theorem dX2_count_104 : decode cX2_count 104 = .ok (.aload_n 0, 1) := dk_42 (dk_at dksX2_count_4 4 rfl rfl)
theorem dX2_count_105 : decode cX2_count 105 = .ok (.getfield 113, 3) := dk_180 0 113 (dk_at dksX2_count_4 5 rfl rfl)
theorem dX2_count_108 : decode cX2_count 108 = .ok (.ireturn, 1) := dk_172 (dk_at dksX2_count_4 8 rfl rfl)
theorem dX2_count_109 : decode cX2_count 109 = .ok (.aload_n 0, 1) := dk_42 (dk_at dksX2_count_4 9 rfl rfl)
theorem dX2_count_110 : decode cX2_count 110 = .ok (.invokevirtual 360, 3) := dk_182 1 104 (dk_at dksX2_count_4 10 rfl rfl)
theorem dX2_count_113 : decode cX2_count 113 = .ok (.ireturn, 1) := dk_172 (dk_at dksX2_count_4 13 rfl rfl)
theorem dX2_count_114 : decode cX2_count 114 = .ok (.bipush (-3), 2) := dk_16 253 (dk_at dksX2_count_4 14 rfl rfl)
theorem dX2_count_116 : decode cX2_count 116 = .ok (.ireturn, 1) := dk_172 (dk_at dksX2_count_4 16 rfl rfl)
abbrev cX2_menWords : ByteArray := prog_18_method_90_code
def yX2_menWords : MethodName := ⟨RX2, "menWords", "()I"⟩
def dkwX2_menWords_1 : List UInt8 := [184, 1, 64, 96, 60, 132, 2, 1, 167, 255, 228, 27, 172]
abbrev dktX2_menWords_1 : List UInt8 := dkwX2_menWords_1 ++ []
def dkwX2_menWords_0 : List UInt8 := [3, 60, 3, 61, 28, 42, 180, 0, 7, 4, 46, 162, 0, 24, 27, 42, 180, 0, 7, 16, 100, 28, 96, 46]
abbrev dktX2_menWords_0 : List UInt8 := dkwX2_menWords_0 ++ dktX2_menWords_1
theorem dksX2_menWords_0 : cX2_menWords.data.toList.drop 0 = dktX2_menWords_0 := by decide +kernel
theorem dksX2_menWords_1 : cX2_menWords.data.toList.drop 24 = dktX2_menWords_1 := dk_seg dksX2_menWords_0 24 rfl rfl
theorem dX2_menWords_0 : decode cX2_menWords 0 = .ok (.iconst 0, 1) := dk_3 (dk_at dksX2_menWords_0 0 rfl rfl)
theorem dX2_menWords_1 : decode cX2_menWords 1 = .ok (.istore_n 1, 1) := dk_60 (dk_at dksX2_menWords_0 1 rfl rfl)
theorem dX2_menWords_2 : decode cX2_menWords 2 = .ok (.iconst 0, 1) := dk_3 (dk_at dksX2_menWords_0 2 rfl rfl)
theorem dX2_menWords_3 : decode cX2_menWords 3 = .ok (.istore_n 2, 1) := dk_61 (dk_at dksX2_menWords_0 3 rfl rfl)
theorem dX2_menWords_4 : decode cX2_menWords 4 = .ok (.iload_n 2, 1) := dk_28 (dk_at dksX2_menWords_0 4 rfl rfl)
theorem dX2_menWords_5 : decode cX2_menWords 5 = .ok (.aload_n 0, 1) := dk_42 (dk_at dksX2_menWords_0 5 rfl rfl)
theorem dX2_menWords_6 : decode cX2_menWords 6 = .ok (.getfield 7, 3) := dk_180 0 7 (dk_at dksX2_menWords_0 6 rfl rfl)
theorem dX2_menWords_9 : decode cX2_menWords 9 = .ok (.iconst 1, 1) := dk_4 (dk_at dksX2_menWords_0 9 rfl rfl)
theorem dX2_menWords_10 : decode cX2_menWords 10 = .ok (.iaload, 1) := dk_46 (dk_at dksX2_menWords_0 10 rfl rfl)
theorem dX2_menWords_11 : decode cX2_menWords 11 = .ok (.if_icmp .ge 24, 3) := dk_162 0 24 (dk_at dksX2_menWords_0 11 rfl rfl)
theorem dX2_menWords_14 : decode cX2_menWords 14 = .ok (.iload_n 1, 1) := dk_27 (dk_at dksX2_menWords_0 14 rfl rfl)
theorem dX2_menWords_15 : decode cX2_menWords 15 = .ok (.aload_n 0, 1) := dk_42 (dk_at dksX2_menWords_0 15 rfl rfl)
theorem dX2_menWords_16 : decode cX2_menWords 16 = .ok (.getfield 7, 3) := dk_180 0 7 (dk_at dksX2_menWords_0 16 rfl rfl)
theorem dX2_menWords_19 : decode cX2_menWords 19 = .ok (.bipush 100, 2) := dk_16 100 (dk_at dksX2_menWords_0 19 rfl rfl)
theorem dX2_menWords_21 : decode cX2_menWords 21 = .ok (.iload_n 2, 1) := dk_28 (dk_at dksX2_menWords_0 21 rfl rfl)
theorem dX2_menWords_22 : decode cX2_menWords 22 = .ok (.iadd, 1) := dk_96 (dk_at dksX2_menWords_0 22 rfl rfl)
theorem dX2_menWords_23 : decode cX2_menWords 23 = .ok (.iaload, 1) := dk_46 (dk_at dksX2_menWords_0 23 rfl rfl)
theorem dX2_menWords_24 : decode cX2_menWords 24 = .ok (.invokestatic 320, 3) := dk_184 1 64 (dk_at dksX2_menWords_1 0 rfl rfl)
theorem dX2_menWords_27 : decode cX2_menWords 27 = .ok (.iadd, 1) := dk_96 (dk_at dksX2_menWords_1 3 rfl rfl)
theorem dX2_menWords_28 : decode cX2_menWords 28 = .ok (.istore_n 1, 1) := dk_60 (dk_at dksX2_menWords_1 4 rfl rfl)
theorem dX2_menWords_29 : decode cX2_menWords 29 = .ok (.iinc 2 1, 3) := dk_132 2 1 (dk_at dksX2_menWords_1 5 rfl rfl)
theorem dX2_menWords_32 : decode cX2_menWords 32 = .ok (.goto (-28), 3) := dk_167 255 228 (dk_at dksX2_menWords_1 8 rfl rfl)
theorem dX2_menWords_35 : decode cX2_menWords 35 = .ok (.iload_n 1, 1) := dk_27 (dk_at dksX2_menWords_1 11 rfl rfl)
theorem dX2_menWords_36 : decode cX2_menWords 36 = .ok (.ireturn, 1) := dk_172 (dk_at dksX2_menWords_1 12 rfl rfl)
abbrev cX2_reelsThere : ByteArray := prog_18_method_92_code
def yX2_reelsThere : MethodName := ⟨RX2, "reelsThere", "()I"⟩
def dkwX2_reelsThere_1 : List UInt8 := [96, 60, 132, 2, 1, 167, 255, 231, 27, 172]
abbrev dktX2_reelsThere_1 : List UInt8 := dkwX2_reelsThere_1 ++ []
def dkwX2_reelsThere_0 : List UInt8 := [3, 60, 3, 61, 28, 6, 162, 0, 26, 27, 42, 180, 0, 38, 28, 46, 156, 0, 7, 3, 167, 0, 4, 4]
abbrev dktX2_reelsThere_0 : List UInt8 := dkwX2_reelsThere_0 ++ dktX2_reelsThere_1
theorem dksX2_reelsThere_0 : cX2_reelsThere.data.toList.drop 0 = dktX2_reelsThere_0 := by decide +kernel
theorem dksX2_reelsThere_1 : cX2_reelsThere.data.toList.drop 24 = dktX2_reelsThere_1 := dk_seg dksX2_reelsThere_0 24 rfl rfl
theorem dX2_reelsThere_0 : decode cX2_reelsThere 0 = .ok (.iconst 0, 1) := dk_3 (dk_at dksX2_reelsThere_0 0 rfl rfl)
theorem dX2_reelsThere_1 : decode cX2_reelsThere 1 = .ok (.istore_n 1, 1) := dk_60 (dk_at dksX2_reelsThere_0 1 rfl rfl)
theorem dX2_reelsThere_2 : decode cX2_reelsThere 2 = .ok (.iconst 0, 1) := dk_3 (dk_at dksX2_reelsThere_0 2 rfl rfl)
theorem dX2_reelsThere_3 : decode cX2_reelsThere 3 = .ok (.istore_n 2, 1) := dk_61 (dk_at dksX2_reelsThere_0 3 rfl rfl)
theorem dX2_reelsThere_4 : decode cX2_reelsThere 4 = .ok (.iload_n 2, 1) := dk_28 (dk_at dksX2_reelsThere_0 4 rfl rfl)
theorem dX2_reelsThere_5 : decode cX2_reelsThere 5 = .ok (.iconst 3, 1) := dk_6 (dk_at dksX2_reelsThere_0 5 rfl rfl)
theorem dX2_reelsThere_6 : decode cX2_reelsThere 6 = .ok (.if_icmp .ge 26, 3) := dk_162 0 26 (dk_at dksX2_reelsThere_0 6 rfl rfl)
theorem dX2_reelsThere_9 : decode cX2_reelsThere 9 = .ok (.iload_n 1, 1) := dk_27 (dk_at dksX2_reelsThere_0 9 rfl rfl)
theorem dX2_reelsThere_10 : decode cX2_reelsThere 10 = .ok (.aload_n 0, 1) := dk_42 (dk_at dksX2_reelsThere_0 10 rfl rfl)
theorem dX2_reelsThere_11 : decode cX2_reelsThere 11 = .ok (.getfield 38, 3) := dk_180 0 38 (dk_at dksX2_reelsThere_0 11 rfl rfl)
theorem dX2_reelsThere_14 : decode cX2_reelsThere 14 = .ok (.iload_n 2, 1) := dk_28 (dk_at dksX2_reelsThere_0 14 rfl rfl)
theorem dX2_reelsThere_15 : decode cX2_reelsThere 15 = .ok (.iaload, 1) := dk_46 (dk_at dksX2_reelsThere_0 15 rfl rfl)
theorem dX2_reelsThere_16 : decode cX2_reelsThere 16 = .ok (.ifCond .ge 7, 3) := dk_156 0 7 (dk_at dksX2_reelsThere_0 16 rfl rfl)
theorem dX2_reelsThere_19 : decode cX2_reelsThere 19 = .ok (.iconst 0, 1) := dk_3 (dk_at dksX2_reelsThere_0 19 rfl rfl)
theorem dX2_reelsThere_20 : decode cX2_reelsThere 20 = .ok (.goto 4, 3) := dk_167 0 4 (dk_at dksX2_reelsThere_0 20 rfl rfl)
theorem dX2_reelsThere_23 : decode cX2_reelsThere 23 = .ok (.iconst 1, 1) := dk_4 (dk_at dksX2_reelsThere_0 23 rfl rfl)
theorem dX2_reelsThere_24 : decode cX2_reelsThere 24 = .ok (.iadd, 1) := dk_96 (dk_at dksX2_reelsThere_1 0 rfl rfl)
theorem dX2_reelsThere_25 : decode cX2_reelsThere 25 = .ok (.istore_n 1, 1) := dk_60 (dk_at dksX2_reelsThere_1 1 rfl rfl)
theorem dX2_reelsThere_26 : decode cX2_reelsThere 26 = .ok (.iinc 2 1, 3) := dk_132 2 1 (dk_at dksX2_reelsThere_1 2 rfl rfl)
theorem dX2_reelsThere_29 : decode cX2_reelsThere 29 = .ok (.goto (-25), 3) := dk_167 255 231 (dk_at dksX2_reelsThere_1 5 rfl rfl)
theorem dX2_reelsThere_32 : decode cX2_reelsThere 32 = .ok (.iload_n 1, 1) := dk_27 (dk_at dksX2_reelsThere_1 8 rfl rfl)
theorem dX2_reelsThere_33 : decode cX2_reelsThere 33 = .ok (.ireturn, 1) := dk_172 (dk_at dksX2_reelsThere_1 9 rfl rfl)
abbrev cX2_allWellKnown : ByteArray := prog_18_method_91_code
def yX2_allWellKnown : MethodName := ⟨RX2, "allWellKnown", "()I"⟩
def dkwX2_allWellKnown_1 : List UInt8 := [132, 2, 1, 167, 255, 234, 27, 172]
abbrev dktX2_allWellKnown_1 : List UInt8 := dkwX2_allWellKnown_1 ++ []
def dkwX2_allWellKnown_0 : List UInt8 := [3, 60, 3, 61, 28, 42, 180, 0, 7, 3, 46, 162, 0, 18, 27, 42, 3, 28, 182, 0, 241, 128, 60]
abbrev dktX2_allWellKnown_0 : List UInt8 := dkwX2_allWellKnown_0 ++ dktX2_allWellKnown_1
theorem dksX2_allWellKnown_0 : cX2_allWellKnown.data.toList.drop 0 = dktX2_allWellKnown_0 := by decide +kernel
theorem dksX2_allWellKnown_1 : cX2_allWellKnown.data.toList.drop 23 = dktX2_allWellKnown_1 := dk_seg dksX2_allWellKnown_0 23 rfl rfl
theorem dX2_allWellKnown_0 : decode cX2_allWellKnown 0 = .ok (.iconst 0, 1) := dk_3 (dk_at dksX2_allWellKnown_0 0 rfl rfl)
theorem dX2_allWellKnown_1 : decode cX2_allWellKnown 1 = .ok (.istore_n 1, 1) := dk_60 (dk_at dksX2_allWellKnown_0 1 rfl rfl)
theorem dX2_allWellKnown_2 : decode cX2_allWellKnown 2 = .ok (.iconst 0, 1) := dk_3 (dk_at dksX2_allWellKnown_0 2 rfl rfl)
theorem dX2_allWellKnown_3 : decode cX2_allWellKnown 3 = .ok (.istore_n 2, 1) := dk_61 (dk_at dksX2_allWellKnown_0 3 rfl rfl)
theorem dX2_allWellKnown_4 : decode cX2_allWellKnown 4 = .ok (.iload_n 2, 1) := dk_28 (dk_at dksX2_allWellKnown_0 4 rfl rfl)
theorem dX2_allWellKnown_5 : decode cX2_allWellKnown 5 = .ok (.aload_n 0, 1) := dk_42 (dk_at dksX2_allWellKnown_0 5 rfl rfl)
theorem dX2_allWellKnown_6 : decode cX2_allWellKnown 6 = .ok (.getfield 7, 3) := dk_180 0 7 (dk_at dksX2_allWellKnown_0 6 rfl rfl)
theorem dX2_allWellKnown_9 : decode cX2_allWellKnown 9 = .ok (.iconst 0, 1) := dk_3 (dk_at dksX2_allWellKnown_0 9 rfl rfl)
theorem dX2_allWellKnown_10 : decode cX2_allWellKnown 10 = .ok (.iaload, 1) := dk_46 (dk_at dksX2_allWellKnown_0 10 rfl rfl)
theorem dX2_allWellKnown_11 : decode cX2_allWellKnown 11 = .ok (.if_icmp .ge 18, 3) := dk_162 0 18 (dk_at dksX2_allWellKnown_0 11 rfl rfl)
theorem dX2_allWellKnown_14 : decode cX2_allWellKnown 14 = .ok (.iload_n 1, 1) := dk_27 (dk_at dksX2_allWellKnown_0 14 rfl rfl)
theorem dX2_allWellKnown_15 : decode cX2_allWellKnown 15 = .ok (.aload_n 0, 1) := dk_42 (dk_at dksX2_allWellKnown_0 15 rfl rfl)
theorem dX2_allWellKnown_16 : decode cX2_allWellKnown 16 = .ok (.iconst 0, 1) := dk_3 (dk_at dksX2_allWellKnown_0 16 rfl rfl)
theorem dX2_allWellKnown_17 : decode cX2_allWellKnown 17 = .ok (.iload_n 2, 1) := dk_28 (dk_at dksX2_allWellKnown_0 17 rfl rfl)
theorem dX2_allWellKnown_18 : decode cX2_allWellKnown 18 = .ok (.invokevirtual 241, 3) := dk_182 0 241 (dk_at dksX2_allWellKnown_0 18 rfl rfl)
theorem dX2_allWellKnown_21 : decode cX2_allWellKnown 21 = .ok (.ior, 1) := dk_128 (dk_at dksX2_allWellKnown_0 21 rfl rfl)
theorem dX2_allWellKnown_22 : decode cX2_allWellKnown 22 = .ok (.istore_n 1, 1) := dk_60 (dk_at dksX2_allWellKnown_0 22 rfl rfl)
theorem dX2_allWellKnown_23 : decode cX2_allWellKnown 23 = .ok (.iinc 2 1, 3) := dk_132 2 1 (dk_at dksX2_allWellKnown_1 0 rfl rfl)
theorem dX2_allWellKnown_26 : decode cX2_allWellKnown 26 = .ok (.goto (-22), 3) := dk_167 255 234 (dk_at dksX2_allWellKnown_1 3 rfl rfl)
theorem dX2_allWellKnown_29 : decode cX2_allWellKnown 29 = .ok (.iload_n 1, 1) := dk_27 (dk_at dksX2_allWellKnown_1 6 rfl rfl)
theorem dX2_allWellKnown_30 : decode cX2_allWellKnown 30 = .ok (.ireturn, 1) := dk_172 (dk_at dksX2_allWellKnown_1 7 rfl rfl)
theorem q92 : (Jvm.Cond.initialized "ParrotSpeechModel") ∈ lw_all := lw_g (lw_at lw_m1 5 rfl) rfl
theorem q722 : (Jvm.Cond.selects "ParrotSpeechModel" ({ cls := "java/lang/Object", name := "equals", desc := "(Ljava/lang/Object;)Z" } : Jvm.MethodName) ({ cls := "java/lang/Object", name := "equals", desc := "(Ljava/lang/Object;)Z" } : Jvm.MethodName)) ∈ lw_all := lw_g (lw_at lw_m3 155 rfl) rfl
theorem q979 : (Jvm.Cond.selects "ParrotSpeechModel" ({ cls := "java/lang/Object", name := "getClass", desc := "()Ljava/lang/Class;" } : Jvm.MethodName) ({ cls := "java/lang/Object", name := "getClass", desc := "()Ljava/lang/Class;" } : Jvm.MethodName)) ∈ lw_all := lw_g (lw_at lw_m4 172 rfl) rfl
theorem q1731 : (Jvm.Cond.instantiable "ParrotSpeechModel" (42 : Nat)) ∈ lw_all := lw_g (lw_at lw_m7 204 rfl) rfl
theorem q1733 : (Jvm.Cond.instanceMethod ({ cls := "ParrotSpeechModel", name := "<init>", desc := "()V" } : Jvm.MethodName)) ∈ lw_all := lw_g (lw_at lw_m7 206 rfl) rfl
theorem q1734 : (Jvm.Cond.code ({ cls := "ParrotSpeechModel", name := "<init>", desc := "()V" } : Jvm.MethodName) prog_18_method_1_code (1 : Nat) (Option.none : Option Jvm.ClassFile.FieldType)) ∈ lw_all := lw_g (lw_at lw_m7 207 rfl) rfl
theorem q1735 : (Jvm.Cond.methodLink "ParrotSpeechModel" (1 : Nat) ({ cls := "java/lang/Object", name := "<init>", desc := "()V" } : Jvm.MethodName)) ∈ lw_all := lw_g (lw_at lw_m7 208 rfl) rfl
theorem q1736 : (Jvm.Cond.fieldLink "ParrotSpeechModel" (7 : Nat) "ParrotSpeechModel" "row" "[I") ∈ lw_all := lw_g (lw_at lw_m7 209 rfl) rfl
theorem q1737 : (Jvm.Cond.fieldLink "ParrotSpeechModel" (206 : Nat) "ParrotSpeechModel" "undos" "I") ∈ lw_all := lw_g (lw_at lw_m7 210 rfl) rfl
theorem q1738 : (Jvm.Cond.fieldLink "ParrotSpeechModel" (13 : Nat) "ParrotSpeechModel" "isKept" "[Z") ∈ lw_all := lw_g (lw_at lw_m7 211 rfl) rfl
theorem q1739 : (Jvm.Cond.fieldLink "ParrotSpeechModel" (17 : Nat) "ParrotSpeechModel" "text" "[I") ∈ lw_all := lw_g (lw_at lw_m7 212 rfl) rfl
theorem q1740 : (Jvm.Cond.fieldLink "ParrotSpeechModel" (113 : Nat) "ParrotSpeechModel" "length" "I") ∈ lw_all := lw_g (lw_at lw_m7 213 rfl) rfl
theorem q1741 : (Jvm.Cond.fieldLink "ParrotSpeechModel" (209 : Nat) "ParrotSpeechModel" "seenMany" "I") ∈ lw_all := lw_g (lw_at lw_m7 214 rfl) rfl
theorem q1742 : (Jvm.Cond.fieldLink "ParrotSpeechModel" (20 : Nat) "ParrotSpeechModel" "seenPerch" "[I") ∈ lw_all := lw_g (lw_at lw_m7 215 rfl) rfl
theorem q1743 : (Jvm.Cond.fieldLink "ParrotSpeechModel" (23 : Nat) "ParrotSpeechModel" "seenPlace" "[I") ∈ lw_all := lw_g (lw_at lw_m7 216 rfl) rfl
theorem q1744 : (Jvm.Cond.fieldLink "ParrotSpeechModel" (26 : Nat) "ParrotSpeechModel" "seenWord" "[I") ∈ lw_all := lw_g (lw_at lw_m7 217 rfl) rfl
theorem q1745 : (Jvm.Cond.fieldLink "ParrotSpeechModel" (217 : Nat) "ParrotSpeechModel" "tongueSize" "I") ∈ lw_all := lw_g (lw_at lw_m7 218 rfl) rfl
theorem q1746 : (Jvm.Cond.fieldLink "ParrotSpeechModel" (29 : Nat) "ParrotSpeechModel" "letters" "[I") ∈ lw_all := lw_g (lw_at lw_m7 219 rfl) rfl
theorem q1747 : (Jvm.Cond.fieldLink "ParrotSpeechModel" (32 : Nat) "ParrotSpeechModel" "ends" "[I") ∈ lw_all := lw_g (lw_at lw_m7 220 rfl) rfl
theorem q1748 : (Jvm.Cond.fieldLink "ParrotSpeechModel" (35 : Nat) "ParrotSpeechModel" "begins" "[I") ∈ lw_all := lw_g (lw_at lw_m7 221 rfl) rfl
theorem q1749 : (Jvm.Cond.fieldLink "ParrotSpeechModel" (38 : Nat) "ParrotSpeechModel" "sizes" "[I") ∈ lw_all := lw_g (lw_at lw_m7 222 rfl) rfl
theorem q1750 : (Jvm.Cond.fieldLink "ParrotSpeechModel" (41 : Nat) "ParrotSpeechModel" "sorts" "[I") ∈ lw_all := lw_g (lw_at lw_m7 223 rfl) rfl
theorem q1751 : (Jvm.Cond.fieldLink "ParrotSpeechModel" (44 : Nat) "ParrotSpeechModel" "places" "[I") ∈ lw_all := lw_g (lw_at lw_m7 224 rfl) rfl
theorem q1752 : (Jvm.Cond.fieldLink "ParrotSpeechModel" (128 : Nat) "ParrotSpeechModel" "first" "I") ∈ lw_all := lw_g (lw_at lw_m7 225 rfl) rfl
theorem q1753 : (Jvm.Cond.fieldLink "ParrotSpeechModel" (125 : Nat) "ParrotSpeechModel" "behind" "I") ∈ lw_all := lw_g (lw_at lw_m7 226 rfl) rfl
theorem q1754 : (Jvm.Cond.fieldLink "ParrotSpeechModel" (149 : Nat) "ParrotSpeechModel" "readBirds" "I") ∈ lw_all := lw_g (lw_at lw_m7 227 rfl) rfl
theorem q1755 : (Jvm.Cond.fieldLink "ParrotSpeechModel" (159 : Nat) "ParrotSpeechModel" "readMen" "I") ∈ lw_all := lw_g (lw_at lw_m7 228 rfl) rfl
theorem q1756 : (Jvm.Cond.fieldLink "ParrotSpeechModel" (47 : Nat) "ParrotSpeechModel" "readBy" "[I") ∈ lw_all := lw_g (lw_at lw_m7 229 rfl) rfl
theorem q1757 : (Jvm.Cond.fieldLink "ParrotSpeechModel" (192 : Nat) "ParrotSpeechModel" "clauses" "I") ∈ lw_all := lw_g (lw_at lw_m7 230 rfl) rfl
theorem q1758 : (Jvm.Cond.fieldLink "ParrotSpeechModel" (155 : Nat) "ParrotSpeechModel" "doing" "Z") ∈ lw_all := lw_g (lw_at lw_m7 231 rfl) rfl
theorem q1759 : (Jvm.Cond.fieldLink "ParrotSpeechModel" (50 : Nat) "ParrotSpeechModel" "harbourWord" "[I") ∈ lw_all := lw_g (lw_at lw_m7 232 rfl) rfl
theorem q1760 : (Jvm.Cond.fieldLink "ParrotSpeechModel" (53 : Nat) "ParrotSpeechModel" "parrotWord" "[I") ∈ lw_all := lw_g (lw_at lw_m7 233 rfl) rfl
theorem q1761 : (Jvm.Cond.fieldLink "ParrotSpeechModel" (56 : Nat) "ParrotSpeechModel" "greyWord" "[I") ∈ lw_all := lw_g (lw_at lw_m7 234 rfl) rfl
theorem q1762 : (Jvm.Cond.fieldLink "ParrotSpeechModel" (59 : Nat) "ParrotSpeechModel" "cockatooWord" "[I") ∈ lw_all := lw_g (lw_at lw_m7 235 rfl) rfl
theorem q1763 : (Jvm.Cond.fieldLink "ParrotSpeechModel" (62 : Nat) "ParrotSpeechModel" "hawkWord" "[I") ∈ lw_all := lw_g (lw_at lw_m7 236 rfl) rfl
theorem q1764 : (Jvm.Cond.fieldLink "ParrotSpeechModel" (65 : Nat) "ParrotSpeechModel" "greenWord" "[I") ∈ lw_all := lw_g (lw_at lw_m7 237 rfl) rfl
theorem q1765 : (Jvm.Cond.fieldLink "ParrotSpeechModel" (68 : Nat) "ParrotSpeechModel" "manWord" "[I") ∈ lw_all := lw_g (lw_at lw_m7 238 rfl) rfl
theorem q1766 : (Jvm.Cond.fieldLink "ParrotSpeechModel" (71 : Nat) "ParrotSpeechModel" "knowsWord" "[I") ∈ lw_all := lw_g (lw_at lw_m7 239 rfl) rfl
theorem q1767 : (Jvm.Cond.fieldLink "ParrotSpeechModel" (74 : Nat) "ParrotSpeechModel" "sitsWord" "[I") ∈ lw_all := lw_g (lw_at lw_m8 0 rfl) rfl
theorem q1768 : (Jvm.Cond.fieldLink "ParrotSpeechModel" (77 : Nat) "ParrotSpeechModel" "coverWord" "[I") ∈ lw_all := lw_g (lw_at lw_m8 1 rfl) rfl
theorem q1769 : (Jvm.Cond.fieldLink "ParrotSpeechModel" (80 : Nat) "ParrotSpeechModel" "open" "[I") ∈ lw_all := lw_g (lw_at lw_m8 2 rfl) rfl
theorem q1770 : (Jvm.Cond.fieldLink "ParrotSpeechModel" (83 : Nat) "ParrotSpeechModel" "isNow" "[Z") ∈ lw_all := lw_g (lw_at lw_m8 3 rfl) rfl
theorem q1771 : (Jvm.Cond.fieldLink "ParrotSpeechModel" (86 : Nat) "ParrotSpeechModel" "isThen" "[Z") ∈ lw_all := lw_g (lw_at lw_m8 4 rfl) rfl
theorem q1772 : (Jvm.Cond.fieldLink "ParrotSpeechModel" (89 : Nat) "ParrotSpeechModel" "saidWords" "[I") ∈ lw_all := lw_g (lw_at lw_m8 5 rfl) rfl
theorem q1773 : (Jvm.Cond.fieldLink "ParrotSpeechModel" (92 : Nat) "ParrotSpeechModel" "saidMany" "[I") ∈ lw_all := lw_g (lw_at lw_m8 6 rfl) rfl
theorem q1774 : (Jvm.Cond.fieldLink "ParrotSpeechModel" (95 : Nat) "ParrotSpeechModel" "keepsBy" "[I") ∈ lw_all := lw_g (lw_at lw_m8 7 rfl) rfl
theorem q1775 : (Jvm.Cond.fieldLink "ParrotSpeechModel" (98 : Nat) "ParrotSpeechModel" "line" "[I") ∈ lw_all := lw_g (lw_at lw_m8 8 rfl) rfl
theorem q1776 : (Jvm.Cond.fieldLink "ParrotSpeechModel" (101 : Nat) "ParrotSpeechModel" "bestLine" "[I") ∈ lw_all := lw_g (lw_at lw_m8 9 rfl) rfl
theorem q1777 : (Jvm.Cond.fieldLink "ParrotSpeechModel" (104 : Nat) "ParrotSpeechModel" "moved" "[I") ∈ lw_all := lw_g (lw_at lw_m8 10 rfl) rfl
theorem q1778 : (Jvm.Cond.laysFinal "ParrotSpeechModel" "ParrotSpeechModel" "row" "[I") ∈ lw_all := lw_g (lw_at lw_m8 11 rfl) rfl
theorem q1779 : (Jvm.Cond.soleField "ParrotSpeechModel" "row") ∈ lw_all := lw_g (lw_at lw_m8 12 rfl) rfl
theorem q1780 : (Jvm.Cond.lays "ParrotSpeechModel" "ParrotSpeechModel" "undos" "I") ∈ lw_all := lw_g (lw_at lw_m8 13 rfl) rfl
theorem q1781 : (Jvm.Cond.soleField "ParrotSpeechModel" "undos") ∈ lw_all := lw_g (lw_at lw_m8 14 rfl) rfl
theorem q1782 : (Jvm.Cond.laysFinal "ParrotSpeechModel" "ParrotSpeechModel" "isKept" "[Z") ∈ lw_all := lw_g (lw_at lw_m8 15 rfl) rfl
theorem q1783 : (Jvm.Cond.soleField "ParrotSpeechModel" "isKept") ∈ lw_all := lw_g (lw_at lw_m8 16 rfl) rfl
theorem q1784 : (Jvm.Cond.laysFinal "ParrotSpeechModel" "ParrotSpeechModel" "text" "[I") ∈ lw_all := lw_g (lw_at lw_m8 17 rfl) rfl
theorem q1785 : (Jvm.Cond.soleField "ParrotSpeechModel" "text") ∈ lw_all := lw_g (lw_at lw_m8 18 rfl) rfl
theorem q1786 : (Jvm.Cond.lays "ParrotSpeechModel" "ParrotSpeechModel" "length" "I") ∈ lw_all := lw_g (lw_at lw_m8 19 rfl) rfl
theorem q1787 : (Jvm.Cond.soleField "ParrotSpeechModel" "length") ∈ lw_all := lw_g (lw_at lw_m8 20 rfl) rfl
theorem q1788 : (Jvm.Cond.lays "ParrotSpeechModel" "ParrotSpeechModel" "seenMany" "I") ∈ lw_all := lw_g (lw_at lw_m8 21 rfl) rfl
theorem q1789 : (Jvm.Cond.soleField "ParrotSpeechModel" "seenMany") ∈ lw_all := lw_g (lw_at lw_m8 22 rfl) rfl
theorem q1790 : (Jvm.Cond.laysFinal "ParrotSpeechModel" "ParrotSpeechModel" "seenPerch" "[I") ∈ lw_all := lw_g (lw_at lw_m8 23 rfl) rfl
theorem q1791 : (Jvm.Cond.soleField "ParrotSpeechModel" "seenPerch") ∈ lw_all := lw_g (lw_at lw_m8 24 rfl) rfl
theorem q1792 : (Jvm.Cond.laysFinal "ParrotSpeechModel" "ParrotSpeechModel" "seenPlace" "[I") ∈ lw_all := lw_g (lw_at lw_m8 25 rfl) rfl
theorem q1793 : (Jvm.Cond.soleField "ParrotSpeechModel" "seenPlace") ∈ lw_all := lw_g (lw_at lw_m8 26 rfl) rfl
theorem q1794 : (Jvm.Cond.laysFinal "ParrotSpeechModel" "ParrotSpeechModel" "seenWord" "[I") ∈ lw_all := lw_g (lw_at lw_m8 27 rfl) rfl
theorem q1795 : (Jvm.Cond.soleField "ParrotSpeechModel" "seenWord") ∈ lw_all := lw_g (lw_at lw_m8 28 rfl) rfl
theorem q1796 : (Jvm.Cond.lays "ParrotSpeechModel" "ParrotSpeechModel" "tongueSize" "I") ∈ lw_all := lw_g (lw_at lw_m8 29 rfl) rfl
theorem q1797 : (Jvm.Cond.soleField "ParrotSpeechModel" "tongueSize") ∈ lw_all := lw_g (lw_at lw_m8 30 rfl) rfl
theorem q1798 : (Jvm.Cond.laysFinal "ParrotSpeechModel" "ParrotSpeechModel" "letters" "[I") ∈ lw_all := lw_g (lw_at lw_m8 31 rfl) rfl
theorem q1799 : (Jvm.Cond.soleField "ParrotSpeechModel" "letters") ∈ lw_all := lw_g (lw_at lw_m8 32 rfl) rfl
theorem q1800 : (Jvm.Cond.laysFinal "ParrotSpeechModel" "ParrotSpeechModel" "ends" "[I") ∈ lw_all := lw_g (lw_at lw_m8 33 rfl) rfl
theorem q1801 : (Jvm.Cond.soleField "ParrotSpeechModel" "ends") ∈ lw_all := lw_g (lw_at lw_m8 34 rfl) rfl
theorem q1802 : (Jvm.Cond.laysFinal "ParrotSpeechModel" "ParrotSpeechModel" "begins" "[I") ∈ lw_all := lw_g (lw_at lw_m8 35 rfl) rfl
theorem q1803 : (Jvm.Cond.soleField "ParrotSpeechModel" "begins") ∈ lw_all := lw_g (lw_at lw_m8 36 rfl) rfl
theorem q1804 : (Jvm.Cond.laysFinal "ParrotSpeechModel" "ParrotSpeechModel" "sizes" "[I") ∈ lw_all := lw_g (lw_at lw_m8 37 rfl) rfl
theorem q1805 : (Jvm.Cond.soleField "ParrotSpeechModel" "sizes") ∈ lw_all := lw_g (lw_at lw_m8 38 rfl) rfl
theorem q1806 : (Jvm.Cond.laysFinal "ParrotSpeechModel" "ParrotSpeechModel" "sorts" "[I") ∈ lw_all := lw_g (lw_at lw_m8 39 rfl) rfl
theorem q1807 : (Jvm.Cond.soleField "ParrotSpeechModel" "sorts") ∈ lw_all := lw_g (lw_at lw_m8 40 rfl) rfl
theorem q1808 : (Jvm.Cond.laysFinal "ParrotSpeechModel" "ParrotSpeechModel" "places" "[I") ∈ lw_all := lw_g (lw_at lw_m8 41 rfl) rfl
theorem q1809 : (Jvm.Cond.soleField "ParrotSpeechModel" "places") ∈ lw_all := lw_g (lw_at lw_m8 42 rfl) rfl
theorem q1810 : (Jvm.Cond.lays "ParrotSpeechModel" "ParrotSpeechModel" "first" "I") ∈ lw_all := lw_g (lw_at lw_m8 43 rfl) rfl
theorem q1811 : (Jvm.Cond.soleField "ParrotSpeechModel" "first") ∈ lw_all := lw_g (lw_at lw_m8 44 rfl) rfl
theorem q1812 : (Jvm.Cond.lays "ParrotSpeechModel" "ParrotSpeechModel" "behind" "I") ∈ lw_all := lw_g (lw_at lw_m8 45 rfl) rfl
theorem q1813 : (Jvm.Cond.soleField "ParrotSpeechModel" "behind") ∈ lw_all := lw_g (lw_at lw_m8 46 rfl) rfl
theorem q1814 : (Jvm.Cond.lays "ParrotSpeechModel" "ParrotSpeechModel" "readBirds" "I") ∈ lw_all := lw_g (lw_at lw_m8 47 rfl) rfl
theorem q1815 : (Jvm.Cond.soleField "ParrotSpeechModel" "readBirds") ∈ lw_all := lw_g (lw_at lw_m8 48 rfl) rfl
theorem q1816 : (Jvm.Cond.lays "ParrotSpeechModel" "ParrotSpeechModel" "readMen" "I") ∈ lw_all := lw_g (lw_at lw_m8 49 rfl) rfl
theorem q1817 : (Jvm.Cond.soleField "ParrotSpeechModel" "readMen") ∈ lw_all := lw_g (lw_at lw_m8 50 rfl) rfl
theorem q1818 : (Jvm.Cond.laysFinal "ParrotSpeechModel" "ParrotSpeechModel" "readBy" "[I") ∈ lw_all := lw_g (lw_at lw_m8 51 rfl) rfl
theorem q1819 : (Jvm.Cond.soleField "ParrotSpeechModel" "readBy") ∈ lw_all := lw_g (lw_at lw_m8 52 rfl) rfl
theorem q1820 : (Jvm.Cond.lays "ParrotSpeechModel" "ParrotSpeechModel" "clauses" "I") ∈ lw_all := lw_g (lw_at lw_m8 53 rfl) rfl
theorem q1821 : (Jvm.Cond.soleField "ParrotSpeechModel" "clauses") ∈ lw_all := lw_g (lw_at lw_m8 54 rfl) rfl
theorem q1822 : (Jvm.Cond.lays "ParrotSpeechModel" "ParrotSpeechModel" "doing" "Z") ∈ lw_all := lw_g (lw_at lw_m8 55 rfl) rfl
theorem q1823 : (Jvm.Cond.soleField "ParrotSpeechModel" "doing") ∈ lw_all := lw_g (lw_at lw_m8 56 rfl) rfl
theorem q1824 : (Jvm.Cond.laysFinal "ParrotSpeechModel" "ParrotSpeechModel" "harbourWord" "[I") ∈ lw_all := lw_g (lw_at lw_m8 57 rfl) rfl
theorem q1825 : (Jvm.Cond.soleField "ParrotSpeechModel" "harbourWord") ∈ lw_all := lw_g (lw_at lw_m8 58 rfl) rfl
theorem q1826 : (Jvm.Cond.laysFinal "ParrotSpeechModel" "ParrotSpeechModel" "parrotWord" "[I") ∈ lw_all := lw_g (lw_at lw_m8 59 rfl) rfl
theorem q1827 : (Jvm.Cond.soleField "ParrotSpeechModel" "parrotWord") ∈ lw_all := lw_g (lw_at lw_m8 60 rfl) rfl
theorem q1828 : (Jvm.Cond.laysFinal "ParrotSpeechModel" "ParrotSpeechModel" "greyWord" "[I") ∈ lw_all := lw_g (lw_at lw_m8 61 rfl) rfl
theorem q1829 : (Jvm.Cond.soleField "ParrotSpeechModel" "greyWord") ∈ lw_all := lw_g (lw_at lw_m8 62 rfl) rfl
theorem q1830 : (Jvm.Cond.laysFinal "ParrotSpeechModel" "ParrotSpeechModel" "cockatooWord" "[I") ∈ lw_all := lw_g (lw_at lw_m8 63 rfl) rfl
theorem q1831 : (Jvm.Cond.soleField "ParrotSpeechModel" "cockatooWord") ∈ lw_all := lw_g (lw_at lw_m8 64 rfl) rfl
theorem q1832 : (Jvm.Cond.laysFinal "ParrotSpeechModel" "ParrotSpeechModel" "hawkWord" "[I") ∈ lw_all := lw_g (lw_at lw_m8 65 rfl) rfl
theorem q1833 : (Jvm.Cond.soleField "ParrotSpeechModel" "hawkWord") ∈ lw_all := lw_g (lw_at lw_m8 66 rfl) rfl
theorem q1834 : (Jvm.Cond.laysFinal "ParrotSpeechModel" "ParrotSpeechModel" "greenWord" "[I") ∈ lw_all := lw_g (lw_at lw_m8 67 rfl) rfl
theorem q1835 : (Jvm.Cond.soleField "ParrotSpeechModel" "greenWord") ∈ lw_all := lw_g (lw_at lw_m8 68 rfl) rfl
theorem q1836 : (Jvm.Cond.laysFinal "ParrotSpeechModel" "ParrotSpeechModel" "manWord" "[I") ∈ lw_all := lw_g (lw_at lw_m8 69 rfl) rfl
theorem q1837 : (Jvm.Cond.soleField "ParrotSpeechModel" "manWord") ∈ lw_all := lw_g (lw_at lw_m8 70 rfl) rfl
theorem q1838 : (Jvm.Cond.laysFinal "ParrotSpeechModel" "ParrotSpeechModel" "knowsWord" "[I") ∈ lw_all := lw_g (lw_at lw_m8 71 rfl) rfl
theorem q1839 : (Jvm.Cond.soleField "ParrotSpeechModel" "knowsWord") ∈ lw_all := lw_g (lw_at lw_m8 72 rfl) rfl
theorem q1840 : (Jvm.Cond.laysFinal "ParrotSpeechModel" "ParrotSpeechModel" "sitsWord" "[I") ∈ lw_all := lw_g (lw_at lw_m8 73 rfl) rfl
theorem q1841 : (Jvm.Cond.soleField "ParrotSpeechModel" "sitsWord") ∈ lw_all := lw_g (lw_at lw_m8 74 rfl) rfl
theorem q1842 : (Jvm.Cond.laysFinal "ParrotSpeechModel" "ParrotSpeechModel" "coverWord" "[I") ∈ lw_all := lw_g (lw_at lw_m8 75 rfl) rfl
theorem q1843 : (Jvm.Cond.soleField "ParrotSpeechModel" "coverWord") ∈ lw_all := lw_g (lw_at lw_m8 76 rfl) rfl
theorem q1844 : (Jvm.Cond.laysFinal "ParrotSpeechModel" "ParrotSpeechModel" "open" "[I") ∈ lw_all := lw_g (lw_at lw_m8 77 rfl) rfl
theorem q1845 : (Jvm.Cond.soleField "ParrotSpeechModel" "open") ∈ lw_all := lw_g (lw_at lw_m8 78 rfl) rfl
theorem q1846 : (Jvm.Cond.laysFinal "ParrotSpeechModel" "ParrotSpeechModel" "isNow" "[Z") ∈ lw_all := lw_g (lw_at lw_m8 79 rfl) rfl
theorem q1847 : (Jvm.Cond.soleField "ParrotSpeechModel" "isNow") ∈ lw_all := lw_g (lw_at lw_m8 80 rfl) rfl
theorem q1848 : (Jvm.Cond.laysFinal "ParrotSpeechModel" "ParrotSpeechModel" "isThen" "[Z") ∈ lw_all := lw_g (lw_at lw_m8 81 rfl) rfl
theorem q1849 : (Jvm.Cond.soleField "ParrotSpeechModel" "isThen") ∈ lw_all := lw_g (lw_at lw_m8 82 rfl) rfl
theorem q1850 : (Jvm.Cond.laysFinal "ParrotSpeechModel" "ParrotSpeechModel" "saidWords" "[I") ∈ lw_all := lw_g (lw_at lw_m8 83 rfl) rfl
theorem q1851 : (Jvm.Cond.soleField "ParrotSpeechModel" "saidWords") ∈ lw_all := lw_g (lw_at lw_m8 84 rfl) rfl
theorem q1852 : (Jvm.Cond.laysFinal "ParrotSpeechModel" "ParrotSpeechModel" "saidMany" "[I") ∈ lw_all := lw_g (lw_at lw_m8 85 rfl) rfl
theorem q1853 : (Jvm.Cond.soleField "ParrotSpeechModel" "saidMany") ∈ lw_all := lw_g (lw_at lw_m8 86 rfl) rfl
theorem q1854 : (Jvm.Cond.laysFinal "ParrotSpeechModel" "ParrotSpeechModel" "keepsBy" "[I") ∈ lw_all := lw_g (lw_at lw_m8 87 rfl) rfl
theorem q1855 : (Jvm.Cond.soleField "ParrotSpeechModel" "keepsBy") ∈ lw_all := lw_g (lw_at lw_m8 88 rfl) rfl
theorem q1856 : (Jvm.Cond.laysFinal "ParrotSpeechModel" "ParrotSpeechModel" "line" "[I") ∈ lw_all := lw_g (lw_at lw_m8 89 rfl) rfl
theorem q1857 : (Jvm.Cond.soleField "ParrotSpeechModel" "line") ∈ lw_all := lw_g (lw_at lw_m8 90 rfl) rfl
theorem q1858 : (Jvm.Cond.laysFinal "ParrotSpeechModel" "ParrotSpeechModel" "bestLine" "[I") ∈ lw_all := lw_g (lw_at lw_m8 91 rfl) rfl
theorem q1859 : (Jvm.Cond.soleField "ParrotSpeechModel" "bestLine") ∈ lw_all := lw_g (lw_at lw_m8 92 rfl) rfl
theorem q1860 : (Jvm.Cond.laysFinal "ParrotSpeechModel" "ParrotSpeechModel" "moved" "[I") ∈ lw_all := lw_g (lw_at lw_m8 93 rfl) rfl
theorem q1861 : (Jvm.Cond.soleField "ParrotSpeechModel" "moved") ∈ lw_all := lw_g (lw_at lw_m8 94 rfl) rfl
theorem q1862 : (Jvm.Cond.superclass "ParrotSpeechModel" "java/lang/Object") ∈ lw_all := lw_g (lw_at lw_m8 95 rfl) rfl
theorem q1865 : (Jvm.Cond.instanceMethod ({ cls := "ParrotSpeechModel", name := "write", desc := "(I)I" } : Jvm.MethodName)) ∈ lw_all := lw_g (lw_at lw_m8 98 rfl) rfl
theorem q1866 : (Jvm.Cond.selects "ParrotSpeechModel" ({ cls := "ParrotSpeechModel", name := "write", desc := "(I)I" } : Jvm.MethodName) ({ cls := "ParrotSpeechModel", name := "write", desc := "(I)I" } : Jvm.MethodName)) ∈ lw_all := lw_g (lw_at lw_m8 99 rfl) rfl
theorem q1867 : (Jvm.Cond.code ({ cls := "ParrotSpeechModel", name := "write", desc := "(I)I" } : Jvm.MethodName) prog_18_method_5_code (2 : Nat) (Option.some Jvm.ClassFile.FieldType.int)) ∈ lw_all := lw_g (lw_at lw_m8 100 rfl) rfl
theorem q1868 : (Jvm.Cond.constantLong "ParrotSpeechModel" (107 : Nat) (255 : Int64)) ∈ lw_all := lw_g (lw_at lw_m8 101 rfl) rfl
theorem q1869 : (Jvm.Cond.methodLink "ParrotSpeechModel" (109 : Nat) ({ cls := "ParrotSpeechModel", name := "in", desc := "(JJJ)Z" } : Jvm.MethodName)) ∈ lw_all := lw_g (lw_at lw_m8 102 rfl) rfl
theorem q1870 : (Jvm.Cond.static ({ cls := "ParrotSpeechModel", name := "in", desc := "(JJJ)Z" } : Jvm.MethodName)) ∈ lw_all := lw_g (lw_at lw_m8 103 rfl) rfl
theorem q1871 : (Jvm.Cond.code ({ cls := "ParrotSpeechModel", name := "in", desc := "(JJJ)Z" } : Jvm.MethodName) prog_18_method_2_code (6 : Nat) (Option.some Jvm.ClassFile.FieldType.boolean)) ∈ lw_all := lw_g (lw_at lw_m8 104 rfl) rfl
theorem q1873 : (Jvm.Cond.instanceMethod ({ cls := "ParrotSpeechModel", name := "erase", desc := "()I" } : Jvm.MethodName)) ∈ lw_all := lw_g (lw_at lw_m8 106 rfl) rfl
theorem q1874 : (Jvm.Cond.selects "ParrotSpeechModel" ({ cls := "ParrotSpeechModel", name := "erase", desc := "()I" } : Jvm.MethodName) ({ cls := "ParrotSpeechModel", name := "erase", desc := "()I" } : Jvm.MethodName)) ∈ lw_all := lw_g (lw_at lw_m8 107 rfl) rfl
theorem q1875 : (Jvm.Cond.code ({ cls := "ParrotSpeechModel", name := "erase", desc := "()I" } : Jvm.MethodName) prog_18_method_6_code (2 : Nat) (Option.some Jvm.ClassFile.FieldType.int)) ∈ lw_all := lw_g (lw_at lw_m8 108 rfl) rfl
theorem q1877 : (Jvm.Cond.instanceMethod ({ cls := "ParrotSpeechModel", name := "harbour", desc := "()I" } : Jvm.MethodName)) ∈ lw_all := lw_g (lw_at lw_m8 110 rfl) rfl
theorem q1878 : (Jvm.Cond.selects "ParrotSpeechModel" ({ cls := "ParrotSpeechModel", name := "harbour", desc := "()I" } : Jvm.MethodName) ({ cls := "ParrotSpeechModel", name := "harbour", desc := "()I" } : Jvm.MethodName)) ∈ lw_all := lw_g (lw_at lw_m8 111 rfl) rfl
theorem q1879 : (Jvm.Cond.code ({ cls := "ParrotSpeechModel", name := "harbour", desc := "()I" } : Jvm.MethodName) prog_18_method_24_code (1 : Nat) (Option.some Jvm.ClassFile.FieldType.int)) ∈ lw_all := lw_g (lw_at lw_m8 112 rfl) rfl
theorem q1880 : (Jvm.Cond.methodLink "ParrotSpeechModel" (198 : Nat) ({ cls := "ParrotSpeechModel", name := "reads", desc := "(Z)Z" } : Jvm.MethodName)) ∈ lw_all := lw_g (lw_at lw_m8 113 rfl) rfl
theorem q1881 : (Jvm.Cond.privateMethod ({ cls := "ParrotSpeechModel", name := "reads", desc := "(Z)Z" } : Jvm.MethodName)) ∈ lw_tbl := lw_at lw_m8 114 rfl
theorem q1882 : (Jvm.Cond.instanceMethod ({ cls := "ParrotSpeechModel", name := "reads", desc := "(Z)Z" } : Jvm.MethodName)) ∈ lw_all := lw_g (lw_at lw_m8 115 rfl) rfl
theorem q1883 : (Jvm.Cond.code ({ cls := "ParrotSpeechModel", name := "reads", desc := "(Z)Z" } : Jvm.MethodName) prog_18_method_22_code (3 : Nat) (Option.some Jvm.ClassFile.FieldType.boolean)) ∈ lw_all := lw_g (lw_at lw_m8 116 rfl) rfl
theorem q1884 : (Jvm.Cond.methodLink "ParrotSpeechModel" (142 : Nat) ({ cls := "ParrotSpeechModel", name := "nextToken", desc := "()V" } : Jvm.MethodName)) ∈ lw_all := lw_g (lw_at lw_m8 117 rfl) rfl
theorem q1885 : (Jvm.Cond.privateMethod ({ cls := "ParrotSpeechModel", name := "nextToken", desc := "()V" } : Jvm.MethodName)) ∈ lw_tbl := lw_at lw_m8 118 rfl
theorem q1886 : (Jvm.Cond.instanceMethod ({ cls := "ParrotSpeechModel", name := "nextToken", desc := "()V" } : Jvm.MethodName)) ∈ lw_all := lw_g (lw_at lw_m8 119 rfl) rfl
theorem q1887 : (Jvm.Cond.code ({ cls := "ParrotSpeechModel", name := "nextToken", desc := "()V" } : Jvm.MethodName) prog_18_method_9_code (1 : Nat) (Option.none : Option Jvm.ClassFile.FieldType)) ∈ lw_all := lw_g (lw_at lw_m8 120 rfl) rfl
theorem q1888 : (Jvm.Cond.methodLink "ParrotSpeechModel" (131 : Nat) ({ cls := "ParrotSpeechModel", name := "isLetter", desc := "(I)Z" } : Jvm.MethodName)) ∈ lw_all := lw_g (lw_at lw_m8 121 rfl) rfl
theorem q1889 : (Jvm.Cond.static ({ cls := "ParrotSpeechModel", name := "isLetter", desc := "(I)Z" } : Jvm.MethodName)) ∈ lw_all := lw_g (lw_at lw_m8 122 rfl) rfl
theorem q1890 : (Jvm.Cond.code ({ cls := "ParrotSpeechModel", name := "isLetter", desc := "(I)Z" } : Jvm.MethodName) prog_18_method_7_code (1 : Nat) (Option.some Jvm.ClassFile.FieldType.boolean)) ∈ lw_all := lw_g (lw_at lw_m8 123 rfl) rfl
theorem q1891 : (Jvm.Cond.constantLong "ParrotSpeechModel" (117 : Nat) (97 : Int64)) ∈ lw_all := lw_g (lw_at lw_m8 124 rfl) rfl
theorem q1892 : (Jvm.Cond.constantLong "ParrotSpeechModel" (119 : Nat) (122 : Int64)) ∈ lw_all := lw_g (lw_at lw_m8 125 rfl) rfl
theorem q1893 : (Jvm.Cond.methodLink "ParrotSpeechModel" (135 : Nat) ({ cls := "ParrotSpeechModel", name := "isDigit", desc := "(I)Z" } : Jvm.MethodName)) ∈ lw_all := lw_g (lw_at lw_m8 126 rfl) rfl
theorem q1894 : (Jvm.Cond.static ({ cls := "ParrotSpeechModel", name := "isDigit", desc := "(I)Z" } : Jvm.MethodName)) ∈ lw_all := lw_g (lw_at lw_m8 127 rfl) rfl
theorem q1895 : (Jvm.Cond.code ({ cls := "ParrotSpeechModel", name := "isDigit", desc := "(I)Z" } : Jvm.MethodName) prog_18_method_8_code (1 : Nat) (Option.some Jvm.ClassFile.FieldType.boolean)) ∈ lw_all := lw_g (lw_at lw_m8 128 rfl) rfl
theorem q1896 : (Jvm.Cond.constantLong "ParrotSpeechModel" (121 : Nat) (48 : Int64)) ∈ lw_all := lw_g (lw_at lw_m8 129 rfl) rfl
theorem q1897 : (Jvm.Cond.constantLong "ParrotSpeechModel" (123 : Nat) (57 : Int64)) ∈ lw_all := lw_g (lw_at lw_m8 130 rfl) rfl
theorem q1898 : (Jvm.Cond.methodLink "ParrotSpeechModel" (195 : Nat) ({ cls := "ParrotSpeechModel", name := "readsClause", desc := "()Z" } : Jvm.MethodName)) ∈ lw_all := lw_g (lw_at lw_m8 131 rfl) rfl
theorem q1899 : (Jvm.Cond.privateMethod ({ cls := "ParrotSpeechModel", name := "readsClause", desc := "()Z" } : Jvm.MethodName)) ∈ lw_tbl := lw_at lw_m8 132 rfl
theorem q1900 : (Jvm.Cond.instanceMethod ({ cls := "ParrotSpeechModel", name := "readsClause", desc := "()Z" } : Jvm.MethodName)) ∈ lw_all := lw_g (lw_at lw_m8 133 rfl) rfl
theorem q1901 : (Jvm.Cond.code ({ cls := "ParrotSpeechModel", name := "readsClause", desc := "()Z" } : Jvm.MethodName) prog_18_method_21_code (1 : Nat) (Option.some Jvm.ClassFile.FieldType.boolean)) ∈ lw_all := lw_g (lw_at lw_m8 134 rfl) rfl
theorem q1902 : (Jvm.Cond.methodLink "ParrotSpeechModel" (169 : Nat) ({ cls := "ParrotSpeechModel", name := "kindHere", desc := "()I" } : Jvm.MethodName)) ∈ lw_all := lw_g (lw_at lw_m8 135 rfl) rfl
theorem q1903 : (Jvm.Cond.privateMethod ({ cls := "ParrotSpeechModel", name := "kindHere", desc := "()I" } : Jvm.MethodName)) ∈ lw_tbl := lw_at lw_m8 136 rfl
theorem q1904 : (Jvm.Cond.instanceMethod ({ cls := "ParrotSpeechModel", name := "kindHere", desc := "()I" } : Jvm.MethodName)) ∈ lw_all := lw_g (lw_at lw_m8 137 rfl) rfl
theorem q1905 : (Jvm.Cond.code ({ cls := "ParrotSpeechModel", name := "kindHere", desc := "()I" } : Jvm.MethodName) prog_18_method_14_code (1 : Nat) (Option.some Jvm.ClassFile.FieldType.int)) ∈ lw_all := lw_g (lw_at lw_m8 138 rfl) rfl
theorem q1906 : (Jvm.Cond.methodLink "ParrotSpeechModel" (145 : Nat) ({ cls := "ParrotSpeechModel", name := "isWord", desc := "([I)Z" } : Jvm.MethodName)) ∈ lw_all := lw_g (lw_at lw_m8 139 rfl) rfl
theorem q1907 : (Jvm.Cond.privateMethod ({ cls := "ParrotSpeechModel", name := "isWord", desc := "([I)Z" } : Jvm.MethodName)) ∈ lw_tbl := lw_at lw_m8 140 rfl
theorem q1908 : (Jvm.Cond.instanceMethod ({ cls := "ParrotSpeechModel", name := "isWord", desc := "([I)Z" } : Jvm.MethodName)) ∈ lw_all := lw_g (lw_at lw_m8 141 rfl) rfl
theorem q1909 : (Jvm.Cond.code ({ cls := "ParrotSpeechModel", name := "isWord", desc := "([I)Z" } : Jvm.MethodName) prog_18_method_10_code (4 : Nat) (Option.some Jvm.ClassFile.FieldType.boolean)) ∈ lw_all := lw_g (lw_at lw_m8 142 rfl) rfl
theorem q1910 : (Jvm.Cond.methodLink "ParrotSpeechModel" (173 : Nat) ({ cls := "ParrotSpeechModel", name := "readsBird", desc := "(I)Z" } : Jvm.MethodName)) ∈ lw_all := lw_g (lw_at lw_m8 143 rfl) rfl
theorem q1911 : (Jvm.Cond.privateMethod ({ cls := "ParrotSpeechModel", name := "readsBird", desc := "(I)Z" } : Jvm.MethodName)) ∈ lw_tbl := lw_at lw_m8 144 rfl
theorem q1912 : (Jvm.Cond.instanceMethod ({ cls := "ParrotSpeechModel", name := "readsBird", desc := "(I)Z" } : Jvm.MethodName)) ∈ lw_all := lw_g (lw_at lw_m8 145 rfl) rfl
theorem q1913 : (Jvm.Cond.code ({ cls := "ParrotSpeechModel", name := "readsBird", desc := "(I)Z" } : Jvm.MethodName) prog_18_method_15_code (3 : Nat) (Option.some Jvm.ClassFile.FieldType.boolean)) ∈ lw_all := lw_g (lw_at lw_m8 146 rfl) rfl
theorem q1914 : (Jvm.Cond.methodLink "ParrotSpeechModel" (152 : Nat) ({ cls := "ParrotSpeechModel", name := "number", desc := "(I)I" } : Jvm.MethodName)) ∈ lw_all := lw_g (lw_at lw_m8 147 rfl) rfl
theorem q1915 : (Jvm.Cond.privateMethod ({ cls := "ParrotSpeechModel", name := "number", desc := "(I)I" } : Jvm.MethodName)) ∈ lw_tbl := lw_at lw_m8 148 rfl
theorem q1916 : (Jvm.Cond.instanceMethod ({ cls := "ParrotSpeechModel", name := "number", desc := "(I)I" } : Jvm.MethodName)) ∈ lw_all := lw_g (lw_at lw_m8 149 rfl) rfl
theorem q1917 : (Jvm.Cond.code ({ cls := "ParrotSpeechModel", name := "number", desc := "(I)I" } : Jvm.MethodName) prog_18_method_12_code (3 : Nat) (Option.some Jvm.ClassFile.FieldType.int)) ∈ lw_all := lw_g (lw_at lw_m8 150 rfl) rfl
theorem q1918 : (Jvm.Cond.methodLink "ParrotSpeechModel" (138 : Nat) ({ cls := "ParrotSpeechModel", name := "numberHere", desc := "(I)I" } : Jvm.MethodName)) ∈ lw_all := lw_g (lw_at lw_m8 151 rfl) rfl
theorem q1919 : (Jvm.Cond.privateMethod ({ cls := "ParrotSpeechModel", name := "numberHere", desc := "(I)I" } : Jvm.MethodName)) ∈ lw_tbl := lw_at lw_m8 152 rfl
theorem q1920 : (Jvm.Cond.instanceMethod ({ cls := "ParrotSpeechModel", name := "numberHere", desc := "(I)I" } : Jvm.MethodName)) ∈ lw_all := lw_g (lw_at lw_m8 153 rfl) rfl
theorem q1921 : (Jvm.Cond.code ({ cls := "ParrotSpeechModel", name := "numberHere", desc := "(I)I" } : Jvm.MethodName) prog_18_method_11_code (3 : Nat) (Option.some Jvm.ClassFile.FieldType.int)) ∈ lw_all := lw_g (lw_at lw_m8 154 rfl) rfl
theorem q1922 : (Jvm.Cond.methodLink "ParrotSpeechModel" (176 : Nat) ({ cls := "ParrotSpeechModel", name := "readsMan", desc := "()Z" } : Jvm.MethodName)) ∈ lw_all := lw_g (lw_at lw_m8 155 rfl) rfl
theorem q1923 : (Jvm.Cond.privateMethod ({ cls := "ParrotSpeechModel", name := "readsMan", desc := "()Z" } : Jvm.MethodName)) ∈ lw_tbl := lw_at lw_m8 156 rfl
theorem q1924 : (Jvm.Cond.instanceMethod ({ cls := "ParrotSpeechModel", name := "readsMan", desc := "()Z" } : Jvm.MethodName)) ∈ lw_all := lw_g (lw_at lw_m8 157 rfl) rfl
theorem q1925 : (Jvm.Cond.code ({ cls := "ParrotSpeechModel", name := "readsMan", desc := "()Z" } : Jvm.MethodName) prog_18_method_16_code (2 : Nat) (Option.some Jvm.ClassFile.FieldType.boolean)) ∈ lw_all := lw_g (lw_at lw_m8 158 rfl) rfl
theorem q1926 : (Jvm.Cond.methodLink "ParrotSpeechModel" (162 : Nat) ({ cls := "ParrotSpeechModel", name := "words", desc := "(I)I" } : Jvm.MethodName)) ∈ lw_all := lw_g (lw_at lw_m8 159 rfl) rfl
theorem q1927 : (Jvm.Cond.privateMethod ({ cls := "ParrotSpeechModel", name := "words", desc := "(I)I" } : Jvm.MethodName)) ∈ lw_tbl := lw_at lw_m8 160 rfl
theorem q1928 : (Jvm.Cond.instanceMethod ({ cls := "ParrotSpeechModel", name := "words", desc := "(I)I" } : Jvm.MethodName)) ∈ lw_all := lw_g (lw_at lw_m8 161 rfl) rfl
theorem q1929 : (Jvm.Cond.code ({ cls := "ParrotSpeechModel", name := "words", desc := "(I)I" } : Jvm.MethodName) prog_18_method_13_code (6 : Nat) (Option.some Jvm.ClassFile.FieldType.int)) ∈ lw_all := lw_g (lw_at lw_m8 162 rfl) rfl
theorem q1930 : (Jvm.Cond.methodLink "ParrotSpeechModel" (180 : Nat) ({ cls := "ParrotSpeechModel", name := "readsHarbour", desc := "()Z" } : Jvm.MethodName)) ∈ lw_all := lw_g (lw_at lw_m8 163 rfl) rfl
theorem q1931 : (Jvm.Cond.privateMethod ({ cls := "ParrotSpeechModel", name := "readsHarbour", desc := "()Z" } : Jvm.MethodName)) ∈ lw_tbl := lw_at lw_m8 164 rfl
theorem q1932 : (Jvm.Cond.instanceMethod ({ cls := "ParrotSpeechModel", name := "readsHarbour", desc := "()Z" } : Jvm.MethodName)) ∈ lw_all := lw_g (lw_at lw_m8 165 rfl) rfl
theorem q1933 : (Jvm.Cond.code ({ cls := "ParrotSpeechModel", name := "readsHarbour", desc := "()Z" } : Jvm.MethodName) prog_18_method_20_code (2 : Nat) (Option.some Jvm.ClassFile.FieldType.boolean)) ∈ lw_all := lw_g (lw_at lw_m8 166 rfl) rfl
theorem q1934 : (Jvm.Cond.methodLink "ParrotSpeechModel" (183 : Nat) ({ cls := "ParrotSpeechModel", name := "readsKnows", desc := "()Z" } : Jvm.MethodName)) ∈ lw_all := lw_g (lw_at lw_m8 167 rfl) rfl
theorem q1935 : (Jvm.Cond.privateMethod ({ cls := "ParrotSpeechModel", name := "readsKnows", desc := "()Z" } : Jvm.MethodName)) ∈ lw_tbl := lw_at lw_m8 168 rfl
theorem q1936 : (Jvm.Cond.instanceMethod ({ cls := "ParrotSpeechModel", name := "readsKnows", desc := "()Z" } : Jvm.MethodName)) ∈ lw_all := lw_g (lw_at lw_m8 169 rfl) rfl
theorem q1937 : (Jvm.Cond.code ({ cls := "ParrotSpeechModel", name := "readsKnows", desc := "()Z" } : Jvm.MethodName) prog_18_method_17_code (5 : Nat) (Option.some Jvm.ClassFile.FieldType.boolean)) ∈ lw_all := lw_g (lw_at lw_m8 170 rfl) rfl
theorem q1938 : (Jvm.Cond.methodLink "ParrotSpeechModel" (165 : Nat) ({ cls := "ParrotSpeechModel", name := "has", desc := "(II)Z" } : Jvm.MethodName)) ∈ lw_all := lw_g (lw_at lw_m8 171 rfl) rfl
theorem q1939 : (Jvm.Cond.static ({ cls := "ParrotSpeechModel", name := "has", desc := "(II)Z" } : Jvm.MethodName)) ∈ lw_all := lw_g (lw_at lw_m8 172 rfl) rfl
theorem q1940 : (Jvm.Cond.code ({ cls := "ParrotSpeechModel", name := "has", desc := "(II)Z" } : Jvm.MethodName) prog_18_method_3_code (2 : Nat) (Option.some Jvm.ClassFile.FieldType.boolean)) ∈ lw_all := lw_g (lw_at lw_m8 173 rfl) rfl
theorem q1941 : (Jvm.Cond.methodLink "ParrotSpeechModel" (186 : Nat) ({ cls := "ParrotSpeechModel", name := "readsSits", desc := "()Z" } : Jvm.MethodName)) ∈ lw_all := lw_g (lw_at lw_m8 174 rfl) rfl
theorem q1942 : (Jvm.Cond.privateMethod ({ cls := "ParrotSpeechModel", name := "readsSits", desc := "()Z" } : Jvm.MethodName)) ∈ lw_tbl := lw_at lw_m8 175 rfl
theorem q1943 : (Jvm.Cond.instanceMethod ({ cls := "ParrotSpeechModel", name := "readsSits", desc := "()Z" } : Jvm.MethodName)) ∈ lw_all := lw_g (lw_at lw_m8 176 rfl) rfl
theorem q1944 : (Jvm.Cond.code ({ cls := "ParrotSpeechModel", name := "readsSits", desc := "()Z" } : Jvm.MethodName) prog_18_method_18_code (5 : Nat) (Option.some Jvm.ClassFile.FieldType.boolean)) ∈ lw_all := lw_g (lw_at lw_m8 177 rfl) rfl
theorem q1945 : (Jvm.Cond.methodLink "ParrotSpeechModel" (189 : Nat) ({ cls := "ParrotSpeechModel", name := "readsCover", desc := "()Z" } : Jvm.MethodName)) ∈ lw_all := lw_g (lw_at lw_m8 178 rfl) rfl
theorem q1946 : (Jvm.Cond.privateMethod ({ cls := "ParrotSpeechModel", name := "readsCover", desc := "()Z" } : Jvm.MethodName)) ∈ lw_tbl := lw_at lw_m8 179 rfl
theorem q1947 : (Jvm.Cond.instanceMethod ({ cls := "ParrotSpeechModel", name := "readsCover", desc := "()Z" } : Jvm.MethodName)) ∈ lw_all := lw_g (lw_at lw_m8 180 rfl) rfl
theorem q1948 : (Jvm.Cond.code ({ cls := "ParrotSpeechModel", name := "readsCover", desc := "()Z" } : Jvm.MethodName) prog_18_method_19_code (2 : Nat) (Option.some Jvm.ClassFile.FieldType.boolean)) ∈ lw_all := lw_g (lw_at lw_m8 181 rfl) rfl
theorem q1949 : (Jvm.Cond.methodLink "ParrotSpeechModel" (202 : Nat) ({ cls := "ParrotSpeechModel", name := "copyHarbour", desc := "(II)V" } : Jvm.MethodName)) ∈ lw_all := lw_g (lw_at lw_m8 182 rfl) rfl
theorem q1950 : (Jvm.Cond.privateMethod ({ cls := "ParrotSpeechModel", name := "copyHarbour", desc := "(II)V" } : Jvm.MethodName)) ∈ lw_tbl := lw_at lw_m8 183 rfl
theorem q1951 : (Jvm.Cond.instanceMethod ({ cls := "ParrotSpeechModel", name := "copyHarbour", desc := "(II)V" } : Jvm.MethodName)) ∈ lw_all := lw_g (lw_at lw_m8 184 rfl) rfl
theorem q1952 : (Jvm.Cond.code ({ cls := "ParrotSpeechModel", name := "copyHarbour", desc := "(II)V" } : Jvm.MethodName) prog_18_method_23_code (4 : Nat) (Option.none : Option Jvm.ClassFile.FieldType)) ∈ lw_all := lw_g (lw_at lw_m8 185 rfl) rfl
theorem q1954 : (Jvm.Cond.instanceMethod ({ cls := "ParrotSpeechModel", name := "fault", desc := "(I)I" } : Jvm.MethodName)) ∈ lw_all := lw_g (lw_at lw_m8 187 rfl) rfl
theorem q1955 : (Jvm.Cond.selects "ParrotSpeechModel" ({ cls := "ParrotSpeechModel", name := "fault", desc := "(I)I" } : Jvm.MethodName) ({ cls := "ParrotSpeechModel", name := "fault", desc := "(I)I" } : Jvm.MethodName)) ∈ lw_all := lw_g (lw_at lw_m8 188 rfl) rfl
theorem q1956 : (Jvm.Cond.code ({ cls := "ParrotSpeechModel", name := "fault", desc := "(I)I" } : Jvm.MethodName) prog_18_method_26_code (2 : Nat) (Option.some Jvm.ClassFile.FieldType.int)) ∈ lw_all := lw_g (lw_at lw_m8 189 rfl) rfl
theorem q1957 : (Jvm.Cond.methodLink "ParrotSpeechModel" (214 : Nat) ({ cls := "ParrotSpeechModel", name := "tongueFault", desc := "()I" } : Jvm.MethodName)) ∈ lw_all := lw_g (lw_at lw_m8 190 rfl) rfl
theorem q1958 : (Jvm.Cond.privateMethod ({ cls := "ParrotSpeechModel", name := "tongueFault", desc := "()I" } : Jvm.MethodName)) ∈ lw_tbl := lw_at lw_m8 191 rfl
theorem q1959 : (Jvm.Cond.instanceMethod ({ cls := "ParrotSpeechModel", name := "tongueFault", desc := "()I" } : Jvm.MethodName)) ∈ lw_all := lw_g (lw_at lw_m8 192 rfl) rfl
theorem q1960 : (Jvm.Cond.code ({ cls := "ParrotSpeechModel", name := "tongueFault", desc := "()I" } : Jvm.MethodName) prog_18_method_25_code (8 : Nat) (Option.some Jvm.ClassFile.FieldType.int)) ∈ lw_all := lw_g (lw_at lw_m8 193 rfl) rfl
theorem q1961 : (Jvm.Cond.constantLong "ParrotSpeechModel" (212 : Nat) (106 : Int64)) ∈ lw_all := lw_g (lw_at lw_m8 194 rfl) rfl
theorem q1963 : (Jvm.Cond.instanceMethod ({ cls := "ParrotSpeechModel", name := "tongue", desc := "()I" } : Jvm.MethodName)) ∈ lw_all := lw_g (lw_at lw_m8 196 rfl) rfl
theorem q1964 : (Jvm.Cond.selects "ParrotSpeechModel" ({ cls := "ParrotSpeechModel", name := "tongue", desc := "()I" } : Jvm.MethodName) ({ cls := "ParrotSpeechModel", name := "tongue", desc := "()I" } : Jvm.MethodName)) ∈ lw_all := lw_g (lw_at lw_m8 197 rfl) rfl
theorem q1965 : (Jvm.Cond.code ({ cls := "ParrotSpeechModel", name := "tongue", desc := "()I" } : Jvm.MethodName) prog_18_method_28_code (3 : Nat) (Option.some Jvm.ClassFile.FieldType.int)) ∈ lw_all := lw_g (lw_at lw_m8 198 rfl) rfl
theorem q1966 : (Jvm.Cond.methodLink "ParrotSpeechModel" (220 : Nat) ({ cls := "ParrotSpeechModel", name := "layTongue", desc := "()V" } : Jvm.MethodName)) ∈ lw_all := lw_g (lw_at lw_m8 199 rfl) rfl
theorem q1967 : (Jvm.Cond.privateMethod ({ cls := "ParrotSpeechModel", name := "layTongue", desc := "()V" } : Jvm.MethodName)) ∈ lw_tbl := lw_at lw_m8 200 rfl
theorem q1968 : (Jvm.Cond.instanceMethod ({ cls := "ParrotSpeechModel", name := "layTongue", desc := "()V" } : Jvm.MethodName)) ∈ lw_all := lw_g (lw_at lw_m8 201 rfl) rfl
theorem q1969 : (Jvm.Cond.code ({ cls := "ParrotSpeechModel", name := "layTongue", desc := "()V" } : Jvm.MethodName) prog_18_method_27_code (4 : Nat) (Option.none : Option Jvm.ClassFile.FieldType)) ∈ lw_all := lw_g (lw_at lw_m8 202 rfl) rfl
theorem q1971 : (Jvm.Cond.instanceMethod ({ cls := "ParrotSpeechModel", name := "bird", desc := "(II)I" } : Jvm.MethodName)) ∈ lw_all := lw_g (lw_at lw_m8 204 rfl) rfl
theorem q1972 : (Jvm.Cond.selects "ParrotSpeechModel" ({ cls := "ParrotSpeechModel", name := "bird", desc := "(II)I" } : Jvm.MethodName) ({ cls := "ParrotSpeechModel", name := "bird", desc := "(II)I" } : Jvm.MethodName)) ∈ lw_all := lw_g (lw_at lw_m8 205 rfl) rfl
theorem q1973 : (Jvm.Cond.code ({ cls := "ParrotSpeechModel", name := "bird", desc := "(II)I" } : Jvm.MethodName) prog_18_method_44_code (3 : Nat) (Option.some Jvm.ClassFile.FieldType.int)) ∈ lw_all := lw_g (lw_at lw_m8 206 rfl) rfl
theorem q1974 : (Jvm.Cond.methodLink "ParrotSpeechModel" (234 : Nat) ({ cls := "ParrotSpeechModel", name := "isBird", desc := "(I)Z" } : Jvm.MethodName)) ∈ lw_all := lw_g (lw_at lw_m8 207 rfl) rfl
theorem q1975 : (Jvm.Cond.privateMethod ({ cls := "ParrotSpeechModel", name := "isBird", desc := "(I)Z" } : Jvm.MethodName)) ∈ lw_tbl := lw_at lw_m8 208 rfl
theorem q1976 : (Jvm.Cond.instanceMethod ({ cls := "ParrotSpeechModel", name := "isBird", desc := "(I)Z" } : Jvm.MethodName)) ∈ lw_all := lw_g (lw_at lw_m8 209 rfl) rfl
theorem q1977 : (Jvm.Cond.code ({ cls := "ParrotSpeechModel", name := "isBird", desc := "(I)Z" } : Jvm.MethodName) prog_18_method_37_code (2 : Nat) (Option.some Jvm.ClassFile.FieldType.boolean)) ∈ lw_all := lw_g (lw_at lw_m8 210 rfl) rfl
theorem q1978 : (Jvm.Cond.methodLink "ParrotSpeechModel" (237 : Nat) ({ cls := "ParrotSpeechModel", name := "manOf", desc := "(II)I" } : Jvm.MethodName)) ∈ lw_all := lw_g (lw_at lw_m8 211 rfl) rfl
theorem q1979 : (Jvm.Cond.privateMethod ({ cls := "ParrotSpeechModel", name := "manOf", desc := "(II)I" } : Jvm.MethodName)) ∈ lw_tbl := lw_at lw_m8 212 rfl
theorem q1980 : (Jvm.Cond.instanceMethod ({ cls := "ParrotSpeechModel", name := "manOf", desc := "(II)I" } : Jvm.MethodName)) ∈ lw_all := lw_g (lw_at lw_m8 213 rfl) rfl
theorem q1981 : (Jvm.Cond.code ({ cls := "ParrotSpeechModel", name := "manOf", desc := "(II)I" } : Jvm.MethodName) prog_18_method_42_code (5 : Nat) (Option.some Jvm.ClassFile.FieldType.int)) ∈ lw_all := lw_g (lw_at lw_m8 214 rfl) rfl
theorem q1982 : (Jvm.Cond.methodLink "ParrotSpeechModel" (241 : Nat) ({ cls := "ParrotSpeechModel", name := "wellKnown", desc := "(II)I" } : Jvm.MethodName)) ∈ lw_all := lw_g (lw_at lw_m8 215 rfl) rfl
theorem q1983 : (Jvm.Cond.privateMethod ({ cls := "ParrotSpeechModel", name := "wellKnown", desc := "(II)I" } : Jvm.MethodName)) ∈ lw_tbl := lw_at lw_m8 216 rfl
theorem q1984 : (Jvm.Cond.instanceMethod ({ cls := "ParrotSpeechModel", name := "wellKnown", desc := "(II)I" } : Jvm.MethodName)) ∈ lw_all := lw_g (lw_at lw_m8 217 rfl) rfl
theorem q1985 : (Jvm.Cond.code ({ cls := "ParrotSpeechModel", name := "wellKnown", desc := "(II)I" } : Jvm.MethodName) prog_18_method_43_code (5 : Nat) (Option.some Jvm.ClassFile.FieldType.int)) ∈ lw_all := lw_g (lw_at lw_m8 218 rfl) rfl
theorem q1987 : (Jvm.Cond.instanceMethod ({ cls := "ParrotSpeechModel", name := "man", desc := "(II)I" } : Jvm.MethodName)) ∈ lw_all := lw_g (lw_at lw_m8 220 rfl) rfl
theorem q1988 : (Jvm.Cond.selects "ParrotSpeechModel" ({ cls := "ParrotSpeechModel", name := "man", desc := "(II)I" } : Jvm.MethodName) ({ cls := "ParrotSpeechModel", name := "man", desc := "(II)I" } : Jvm.MethodName)) ∈ lw_all := lw_g (lw_at lw_m8 221 rfl) rfl
theorem q1989 : (Jvm.Cond.code ({ cls := "ParrotSpeechModel", name := "man", desc := "(II)I" } : Jvm.MethodName) prog_18_method_45_code (3 : Nat) (Option.some Jvm.ClassFile.FieldType.int)) ∈ lw_all := lw_g (lw_at lw_m8 222 rfl) rfl
theorem q1990 : (Jvm.Cond.methodLink "ParrotSpeechModel" (244 : Nat) ({ cls := "ParrotSpeechModel", name := "isMan", desc := "(I)Z" } : Jvm.MethodName)) ∈ lw_all := lw_g (lw_at lw_m8 223 rfl) rfl
theorem q1991 : (Jvm.Cond.privateMethod ({ cls := "ParrotSpeechModel", name := "isMan", desc := "(I)Z" } : Jvm.MethodName)) ∈ lw_tbl := lw_at lw_m8 224 rfl
theorem q1992 : (Jvm.Cond.instanceMethod ({ cls := "ParrotSpeechModel", name := "isMan", desc := "(I)Z" } : Jvm.MethodName)) ∈ lw_all := lw_g (lw_at lw_m8 225 rfl) rfl
theorem q1993 : (Jvm.Cond.code ({ cls := "ParrotSpeechModel", name := "isMan", desc := "(I)Z" } : Jvm.MethodName) prog_18_method_38_code (2 : Nat) (Option.some Jvm.ClassFile.FieldType.boolean)) ∈ lw_all := lw_g (lw_at lw_m8 226 rfl) rfl
theorem q1995 : (Jvm.Cond.instanceMethod ({ cls := "ParrotSpeechModel", name := "as", desc := "(II)I" } : Jvm.MethodName)) ∈ lw_all := lw_g (lw_at lw_m8 228 rfl) rfl
theorem q1996 : (Jvm.Cond.selects "ParrotSpeechModel" ({ cls := "ParrotSpeechModel", name := "as", desc := "(II)I" } : Jvm.MethodName) ({ cls := "ParrotSpeechModel", name := "as", desc := "(II)I" } : Jvm.MethodName)) ∈ lw_all := lw_g (lw_at lw_m8 229 rfl) rfl
theorem q1997 : (Jvm.Cond.code ({ cls := "ParrotSpeechModel", name := "as", desc := "(II)I" } : Jvm.MethodName) prog_18_method_46_code (5 : Nat) (Option.some Jvm.ClassFile.FieldType.int)) ∈ lw_all := lw_g (lw_at lw_m8 230 rfl) rfl
theorem q1998 : (Jvm.Cond.constantLong "ParrotSpeechModel" (247 : Nat) (5 : Int64)) ∈ lw_all := lw_g (lw_at lw_m8 231 rfl) rfl
theorem q1999 : (Jvm.Cond.methodLink "ParrotSpeechModel" (249 : Nat) ({ cls := "ParrotSpeechModel", name := "gets", desc := "(I)I" } : Jvm.MethodName)) ∈ lw_all := lw_g (lw_at lw_m8 232 rfl) rfl
theorem q2000 : (Jvm.Cond.static ({ cls := "ParrotSpeechModel", name := "gets", desc := "(I)I" } : Jvm.MethodName)) ∈ lw_all := lw_g (lw_at lw_m8 233 rfl) rfl
theorem q2001 : (Jvm.Cond.code ({ cls := "ParrotSpeechModel", name := "gets", desc := "(I)I" } : Jvm.MethodName) prog_18_method_34_code (1 : Nat) (Option.some Jvm.ClassFile.FieldType.int)) ∈ lw_all := lw_g (lw_at lw_m8 234 rfl) rfl
theorem q2003 : (Jvm.Cond.instanceMethod ({ cls := "ParrotSpeechModel", name := "known", desc := "(III)I" } : Jvm.MethodName)) ∈ lw_all := lw_g (lw_at lw_m8 236 rfl) rfl
theorem q2004 : (Jvm.Cond.selects "ParrotSpeechModel" ({ cls := "ParrotSpeechModel", name := "known", desc := "(III)I" } : Jvm.MethodName) ({ cls := "ParrotSpeechModel", name := "known", desc := "(III)I" } : Jvm.MethodName)) ∈ lw_all := lw_g (lw_at lw_m8 237 rfl) rfl
theorem q2005 : (Jvm.Cond.code ({ cls := "ParrotSpeechModel", name := "known", desc := "(III)I" } : Jvm.MethodName) prog_18_method_56_code (4 : Nat) (Option.some Jvm.ClassFile.FieldType.int)) ∈ lw_all := lw_g (lw_at lw_m8 238 rfl) rfl
theorem q2006 : (Jvm.Cond.methodLink "ParrotSpeechModel" (293 : Nat) ({ cls := "ParrotSpeechModel", name := "isWordNumber", desc := "(I)Z" } : Jvm.MethodName)) ∈ lw_all := lw_g (lw_at lw_m8 239 rfl) rfl
theorem q2007 : (Jvm.Cond.static ({ cls := "ParrotSpeechModel", name := "isWordNumber", desc := "(I)Z" } : Jvm.MethodName)) ∈ lw_all := lw_g (lw_at lw_m9 0 rfl) rfl
theorem q2008 : (Jvm.Cond.code ({ cls := "ParrotSpeechModel", name := "isWordNumber", desc := "(I)Z" } : Jvm.MethodName) prog_18_method_39_code (1 : Nat) (Option.some Jvm.ClassFile.FieldType.boolean)) ∈ lw_all := lw_g (lw_at lw_m9 1 rfl) rfl
theorem q2009 : (Jvm.Cond.constantLong "ParrotSpeechModel" (232 : Nat) (9 : Int64)) ∈ lw_all := lw_g (lw_at lw_m9 2 rfl) rfl
theorem q2010 : (Jvm.Cond.constantLong "ParrotSpeechModel" (296 : Nat) (60 : Int64)) ∈ lw_all := lw_g (lw_at lw_m9 3 rfl) rfl
theorem q2011 : (Jvm.Cond.methodLink "ParrotSpeechModel" (298 : Nat) ({ cls := "ParrotSpeechModel", name := "layTried", desc := "()V" } : Jvm.MethodName)) ∈ lw_all := lw_g (lw_at lw_m9 4 rfl) rfl
theorem q2012 : (Jvm.Cond.privateMethod ({ cls := "ParrotSpeechModel", name := "layTried", desc := "()V" } : Jvm.MethodName)) ∈ lw_tbl := lw_at lw_m9 5 rfl
theorem q2013 : (Jvm.Cond.instanceMethod ({ cls := "ParrotSpeechModel", name := "layTried", desc := "()V" } : Jvm.MethodName)) ∈ lw_all := lw_g (lw_at lw_m9 6 rfl) rfl
theorem q2014 : (Jvm.Cond.code ({ cls := "ParrotSpeechModel", name := "layTried", desc := "()V" } : Jvm.MethodName) prog_18_method_54_code (1 : Nat) (Option.none : Option Jvm.ClassFile.FieldType)) ∈ lw_all := lw_g (lw_at lw_m9 7 rfl) rfl
theorem q2015 : (Jvm.Cond.methodLink "ParrotSpeechModel" (301 : Nat) ({ cls := "ParrotSpeechModel", name := "passTried", desc := "(I)V" } : Jvm.MethodName)) ∈ lw_all := lw_g (lw_at lw_m9 8 rfl) rfl
theorem q2016 : (Jvm.Cond.privateMethod ({ cls := "ParrotSpeechModel", name := "passTried", desc := "(I)V" } : Jvm.MethodName)) ∈ lw_tbl := lw_at lw_m9 9 rfl
theorem q2017 : (Jvm.Cond.instanceMethod ({ cls := "ParrotSpeechModel", name := "passTried", desc := "(I)V" } : Jvm.MethodName)) ∈ lw_all := lw_g (lw_at lw_m9 10 rfl) rfl
theorem q2018 : (Jvm.Cond.code ({ cls := "ParrotSpeechModel", name := "passTried", desc := "(I)V" } : Jvm.MethodName) prog_18_method_55_code (3 : Nat) (Option.none : Option Jvm.ClassFile.FieldType)) ∈ lw_all := lw_g (lw_at lw_m9 11 rfl) rfl
theorem q2019 : (Jvm.Cond.methodLink "ParrotSpeechModel" (290 : Nat) ({ cls := "ParrotSpeechModel", name := "passes", desc := "(I)V" } : Jvm.MethodName)) ∈ lw_all := lw_g (lw_at lw_m9 12 rfl) rfl
theorem q2020 : (Jvm.Cond.privateMethod ({ cls := "ParrotSpeechModel", name := "passes", desc := "(I)V" } : Jvm.MethodName)) ∈ lw_tbl := lw_at lw_m9 13 rfl
theorem q2021 : (Jvm.Cond.instanceMethod ({ cls := "ParrotSpeechModel", name := "passes", desc := "(I)V" } : Jvm.MethodName)) ∈ lw_all := lw_g (lw_at lw_m9 14 rfl) rfl
theorem q2022 : (Jvm.Cond.code ({ cls := "ParrotSpeechModel", name := "passes", desc := "(I)V" } : Jvm.MethodName) prog_18_method_53_code (3 : Nat) (Option.none : Option Jvm.ClassFile.FieldType)) ∈ lw_all := lw_g (lw_at lw_m9 15 rfl) rfl
theorem q2023 : (Jvm.Cond.methodLink "ParrotSpeechModel" (277 : Nat) ({ cls := "ParrotSpeechModel", name := "handOver", desc := "(I)V" } : Jvm.MethodName)) ∈ lw_all := lw_g (lw_at lw_m9 16 rfl) rfl
theorem q2024 : (Jvm.Cond.privateMethod ({ cls := "ParrotSpeechModel", name := "handOver", desc := "(I)V" } : Jvm.MethodName)) ∈ lw_tbl := lw_at lw_m9 17 rfl
theorem q2025 : (Jvm.Cond.instanceMethod ({ cls := "ParrotSpeechModel", name := "handOver", desc := "(I)V" } : Jvm.MethodName)) ∈ lw_all := lw_g (lw_at lw_m9 18 rfl) rfl
theorem q2026 : (Jvm.Cond.code ({ cls := "ParrotSpeechModel", name := "handOver", desc := "(I)V" } : Jvm.MethodName) prog_18_method_47_code (6 : Nat) (Option.none : Option Jvm.ClassFile.FieldType)) ∈ lw_all := lw_g (lw_at lw_m9 19 rfl) rfl
theorem q2027 : (Jvm.Cond.methodLink "ParrotSpeechModel" (252 : Nat) ({ cls := "ParrotSpeechModel", name := "isOpen", desc := "(II)Z" } : Jvm.MethodName)) ∈ lw_all := lw_g (lw_at lw_m9 20 rfl) rfl
theorem q2028 : (Jvm.Cond.privateMethod ({ cls := "ParrotSpeechModel", name := "isOpen", desc := "(II)Z" } : Jvm.MethodName)) ∈ lw_tbl := lw_at lw_m9 21 rfl
theorem q2029 : (Jvm.Cond.instanceMethod ({ cls := "ParrotSpeechModel", name := "isOpen", desc := "(II)Z" } : Jvm.MethodName)) ∈ lw_all := lw_g (lw_at lw_m9 22 rfl) rfl
theorem q2030 : (Jvm.Cond.code ({ cls := "ParrotSpeechModel", name := "isOpen", desc := "(II)Z" } : Jvm.MethodName) prog_18_method_40_code (3 : Nat) (Option.some Jvm.ClassFile.FieldType.boolean)) ∈ lw_all := lw_g (lw_at lw_m9 23 rfl) rfl
theorem q2031 : (Jvm.Cond.methodLink "ParrotSpeechModel" (255 : Nat) ({ cls := "ParrotSpeechModel", name := "learns", desc := "(IIII)V" } : Jvm.MethodName)) ∈ lw_all := lw_g (lw_at lw_m9 24 rfl) rfl
theorem q2032 : (Jvm.Cond.privateMethod ({ cls := "ParrotSpeechModel", name := "learns", desc := "(IIII)V" } : Jvm.MethodName)) ∈ lw_tbl := lw_at lw_m9 25 rfl
theorem q2033 : (Jvm.Cond.instanceMethod ({ cls := "ParrotSpeechModel", name := "learns", desc := "(IIII)V" } : Jvm.MethodName)) ∈ lw_all := lw_g (lw_at lw_m9 26 rfl) rfl
theorem q2034 : (Jvm.Cond.code ({ cls := "ParrotSpeechModel", name := "learns", desc := "(IIII)V" } : Jvm.MethodName) prog_18_method_41_code (6 : Nat) (Option.none : Option Jvm.ClassFile.FieldType)) ∈ lw_all := lw_g (lw_at lw_m9 27 rfl) rfl
theorem q2035 : (Jvm.Cond.methodLink "ParrotSpeechModel" (281 : Nat) ({ cls := "ParrotSpeechModel", name := "isSilent", desc := "(II)Z" } : Jvm.MethodName)) ∈ lw_all := lw_g (lw_at lw_m9 28 rfl) rfl
theorem q2036 : (Jvm.Cond.privateMethod ({ cls := "ParrotSpeechModel", name := "isSilent", desc := "(II)Z" } : Jvm.MethodName)) ∈ lw_tbl := lw_at lw_m9 29 rfl
theorem q2037 : (Jvm.Cond.instanceMethod ({ cls := "ParrotSpeechModel", name := "isSilent", desc := "(II)Z" } : Jvm.MethodName)) ∈ lw_all := lw_g (lw_at lw_m9 30 rfl) rfl
theorem q2038 : (Jvm.Cond.code ({ cls := "ParrotSpeechModel", name := "isSilent", desc := "(II)Z" } : Jvm.MethodName) prog_18_method_48_code (5 : Nat) (Option.some Jvm.ClassFile.FieldType.boolean)) ∈ lw_all := lw_g (lw_at lw_m9 31 rfl) rfl
theorem q2039 : (Jvm.Cond.methodLink "ParrotSpeechModel" (284 : Nat) ({ cls := "ParrotSpeechModel", name := "speak", desc := "(II)V" } : Jvm.MethodName)) ∈ lw_all := lw_g (lw_at lw_m9 32 rfl) rfl
theorem q2040 : (Jvm.Cond.privateMethod ({ cls := "ParrotSpeechModel", name := "speak", desc := "(II)V" } : Jvm.MethodName)) ∈ lw_tbl := lw_at lw_m9 33 rfl
theorem q2041 : (Jvm.Cond.instanceMethod ({ cls := "ParrotSpeechModel", name := "speak", desc := "(II)V" } : Jvm.MethodName)) ∈ lw_all := lw_g (lw_at lw_m9 34 rfl) rfl
theorem q2042 : (Jvm.Cond.code ({ cls := "ParrotSpeechModel", name := "speak", desc := "(II)V" } : Jvm.MethodName) prog_18_method_51_code (7 : Nat) (Option.none : Option Jvm.ClassFile.FieldType)) ∈ lw_all := lw_g (lw_at lw_m9 35 rfl) rfl
theorem q2043 : (Jvm.Cond.methodLink "ParrotSpeechModel" (262 : Nat) ({ cls := "ParrotSpeechModel", name := "bestWord", desc := "(III)I" } : Jvm.MethodName)) ∈ lw_all := lw_g (lw_at lw_m9 36 rfl) rfl
theorem q2044 : (Jvm.Cond.privateMethod ({ cls := "ParrotSpeechModel", name := "bestWord", desc := "(III)I" } : Jvm.MethodName)) ∈ lw_tbl := lw_at lw_m9 37 rfl
theorem q2045 : (Jvm.Cond.instanceMethod ({ cls := "ParrotSpeechModel", name := "bestWord", desc := "(III)I" } : Jvm.MethodName)) ∈ lw_all := lw_g (lw_at lw_m9 38 rfl) rfl
theorem q2046 : (Jvm.Cond.code ({ cls := "ParrotSpeechModel", name := "bestWord", desc := "(III)I" } : Jvm.MethodName) prog_18_method_49_code (8 : Nat) (Option.some Jvm.ClassFile.FieldType.int)) ∈ lw_all := lw_g (lw_at lw_m9 39 rfl) rfl
theorem q2047 : (Jvm.Cond.methodLink "ParrotSpeechModel" (266 : Nat) ({ cls := "ParrotSpeechModel", name := "says", desc := "(I)I" } : Jvm.MethodName)) ∈ lw_all := lw_g (lw_at lw_m9 40 rfl) rfl
theorem q2048 : (Jvm.Cond.static ({ cls := "ParrotSpeechModel", name := "says", desc := "(I)I" } : Jvm.MethodName)) ∈ lw_all := lw_g (lw_at lw_m9 41 rfl) rfl
theorem q2049 : (Jvm.Cond.code ({ cls := "ParrotSpeechModel", name := "says", desc := "(I)I" } : Jvm.MethodName) prog_18_method_35_code (1 : Nat) (Option.some Jvm.ClassFile.FieldType.int)) ∈ lw_all := lw_g (lw_at lw_m9 42 rfl) rfl
theorem q2050 : (Jvm.Cond.methodLink "ParrotSpeechModel" (269 : Nat) ({ cls := "ParrotSpeechModel", name := "say", desc := "(IIII)V" } : Jvm.MethodName)) ∈ lw_all := lw_g (lw_at lw_m9 43 rfl) rfl
theorem q2051 : (Jvm.Cond.privateMethod ({ cls := "ParrotSpeechModel", name := "say", desc := "(IIII)V" } : Jvm.MethodName)) ∈ lw_tbl := lw_at lw_m9 44 rfl
theorem q2052 : (Jvm.Cond.instanceMethod ({ cls := "ParrotSpeechModel", name := "say", desc := "(IIII)V" } : Jvm.MethodName)) ∈ lw_all := lw_g (lw_at lw_m9 45 rfl) rfl
theorem q2053 : (Jvm.Cond.code ({ cls := "ParrotSpeechModel", name := "say", desc := "(IIII)V" } : Jvm.MethodName) prog_18_method_50_code (6 : Nat) (Option.none : Option Jvm.ClassFile.FieldType)) ∈ lw_all := lw_g (lw_at lw_m9 46 rfl) rfl
theorem q2054 : (Jvm.Cond.methodLink "ParrotSpeechModel" (259 : Nat) ({ cls := "ParrotSpeechModel", name := "hears", desc := "(I)I" } : Jvm.MethodName)) ∈ lw_all := lw_g (lw_at lw_m9 47 rfl) rfl
theorem q2055 : (Jvm.Cond.static ({ cls := "ParrotSpeechModel", name := "hears", desc := "(I)I" } : Jvm.MethodName)) ∈ lw_all := lw_g (lw_at lw_m9 48 rfl) rfl
theorem q2056 : (Jvm.Cond.code ({ cls := "ParrotSpeechModel", name := "hears", desc := "(I)I" } : Jvm.MethodName) prog_18_method_33_code (1 : Nat) (Option.some Jvm.ClassFile.FieldType.int)) ∈ lw_all := lw_g (lw_at lw_m9 49 rfl) rfl
theorem q2057 : (Jvm.Cond.methodLink "ParrotSpeechModel" (287 : Nat) ({ cls := "ParrotSpeechModel", name := "lose", desc := "(I)V" } : Jvm.MethodName)) ∈ lw_all := lw_g (lw_at lw_m9 50 rfl) rfl
theorem q2058 : (Jvm.Cond.privateMethod ({ cls := "ParrotSpeechModel", name := "lose", desc := "(I)V" } : Jvm.MethodName)) ∈ lw_tbl := lw_at lw_m9 51 rfl
theorem q2059 : (Jvm.Cond.instanceMethod ({ cls := "ParrotSpeechModel", name := "lose", desc := "(I)V" } : Jvm.MethodName)) ∈ lw_all := lw_g (lw_at lw_m9 52 rfl) rfl
theorem q2060 : (Jvm.Cond.code ({ cls := "ParrotSpeechModel", name := "lose", desc := "(I)V" } : Jvm.MethodName) prog_18_method_52_code (5 : Nat) (Option.none : Option Jvm.ClassFile.FieldType)) ∈ lw_all := lw_g (lw_at lw_m9 53 rfl) rfl
theorem q2061 : (Jvm.Cond.constantLong "ParrotSpeechModel" (272 : Nat) (4 : Int64)) ∈ lw_all := lw_g (lw_at lw_m9 54 rfl) rfl
theorem q2062 : (Jvm.Cond.methodLink "ParrotSpeechModel" (274 : Nat) ({ cls := "ParrotSpeechModel", name := "loses", desc := "(I)I" } : Jvm.MethodName)) ∈ lw_all := lw_g (lw_at lw_m9 55 rfl) rfl
theorem q2063 : (Jvm.Cond.static ({ cls := "ParrotSpeechModel", name := "loses", desc := "(I)I" } : Jvm.MethodName)) ∈ lw_all := lw_g (lw_at lw_m9 56 rfl) rfl
theorem q2064 : (Jvm.Cond.code ({ cls := "ParrotSpeechModel", name := "loses", desc := "(I)I" } : Jvm.MethodName) prog_18_method_36_code (1 : Nat) (Option.some Jvm.ClassFile.FieldType.int)) ∈ lw_all := lw_g (lw_at lw_m9 57 rfl) rfl
theorem q2066 : (Jvm.Cond.instanceMethod ({ cls := "ParrotSpeechModel", name := "evening", desc := "(I)I" } : Jvm.MethodName)) ∈ lw_all := lw_g (lw_at lw_m9 59 rfl) rfl
theorem q2067 : (Jvm.Cond.selects "ParrotSpeechModel" ({ cls := "ParrotSpeechModel", name := "evening", desc := "(I)I" } : Jvm.MethodName) ({ cls := "ParrotSpeechModel", name := "evening", desc := "(I)I" } : Jvm.MethodName)) ∈ lw_all := lw_g (lw_at lw_m9 60 rfl) rfl
theorem q2068 : (Jvm.Cond.code ({ cls := "ParrotSpeechModel", name := "evening", desc := "(I)I" } : Jvm.MethodName) prog_18_method_58_code (3 : Nat) (Option.some Jvm.ClassFile.FieldType.int)) ∈ lw_all := lw_g (lw_at lw_m9 61 rfl) rfl
theorem q2069 : (Jvm.Cond.constantLong "ParrotSpeechModel" (304 : Nat) (12 : Int64)) ∈ lw_all := lw_g (lw_at lw_m9 62 rfl) rfl
theorem q2070 : (Jvm.Cond.methodLink "ParrotSpeechModel" (306 : Nat) ({ cls := "ParrotSpeechModel", name := "keepPast", desc := "()V" } : Jvm.MethodName)) ∈ lw_all := lw_g (lw_at lw_m9 63 rfl) rfl
theorem q2071 : (Jvm.Cond.privateMethod ({ cls := "ParrotSpeechModel", name := "keepPast", desc := "()V" } : Jvm.MethodName)) ∈ lw_tbl := lw_at lw_m9 64 rfl
theorem q2072 : (Jvm.Cond.instanceMethod ({ cls := "ParrotSpeechModel", name := "keepPast", desc := "()V" } : Jvm.MethodName)) ∈ lw_all := lw_g (lw_at lw_m9 65 rfl) rfl
theorem q2073 : (Jvm.Cond.code ({ cls := "ParrotSpeechModel", name := "keepPast", desc := "()V" } : Jvm.MethodName) prog_18_method_57_code (2 : Nat) (Option.none : Option Jvm.ClassFile.FieldType)) ∈ lw_all := lw_g (lw_at lw_m9 66 rfl) rfl
theorem q2075 : (Jvm.Cond.instanceMethod ({ cls := "ParrotSpeechModel", name := "teach", desc := "(II)I" } : Jvm.MethodName)) ∈ lw_all := lw_g (lw_at lw_m9 68 rfl) rfl
theorem q2076 : (Jvm.Cond.selects "ParrotSpeechModel" ({ cls := "ParrotSpeechModel", name := "teach", desc := "(II)I" } : Jvm.MethodName) ({ cls := "ParrotSpeechModel", name := "teach", desc := "(II)I" } : Jvm.MethodName)) ∈ lw_all := lw_g (lw_at lw_m9 69 rfl) rfl
theorem q2077 : (Jvm.Cond.code ({ cls := "ParrotSpeechModel", name := "teach", desc := "(II)I" } : Jvm.MethodName) prog_18_method_59_code (3 : Nat) (Option.some Jvm.ClassFile.FieldType.int)) ∈ lw_all := lw_g (lw_at lw_m9 70 rfl) rfl
theorem q2079 : (Jvm.Cond.instanceMethod ({ cls := "ParrotSpeechModel", name := "moult", desc := "(I)I" } : Jvm.MethodName)) ∈ lw_all := lw_g (lw_at lw_m9 72 rfl) rfl
theorem q2080 : (Jvm.Cond.selects "ParrotSpeechModel" ({ cls := "ParrotSpeechModel", name := "moult", desc := "(I)I" } : Jvm.MethodName) ({ cls := "ParrotSpeechModel", name := "moult", desc := "(I)I" } : Jvm.MethodName)) ∈ lw_all := lw_g (lw_at lw_m9 73 rfl) rfl
theorem q2081 : (Jvm.Cond.code ({ cls := "ParrotSpeechModel", name := "moult", desc := "(I)I" } : Jvm.MethodName) prog_18_method_60_code (4 : Nat) (Option.some Jvm.ClassFile.FieldType.int)) ∈ lw_all := lw_g (lw_at lw_m9 74 rfl) rfl
theorem q2083 : (Jvm.Cond.instanceMethod ({ cls := "ParrotSpeechModel", name := "perch", desc := "(II)I" } : Jvm.MethodName)) ∈ lw_all := lw_g (lw_at lw_m9 76 rfl) rfl
theorem q2084 : (Jvm.Cond.selects "ParrotSpeechModel" ({ cls := "ParrotSpeechModel", name := "perch", desc := "(II)I" } : Jvm.MethodName) ({ cls := "ParrotSpeechModel", name := "perch", desc := "(II)I" } : Jvm.MethodName)) ∈ lw_all := lw_g (lw_at lw_m9 77 rfl) rfl
theorem q2085 : (Jvm.Cond.code ({ cls := "ParrotSpeechModel", name := "perch", desc := "(II)I" } : Jvm.MethodName) prog_18_method_61_code (4 : Nat) (Option.some Jvm.ClassFile.FieldType.int)) ∈ lw_all := lw_g (lw_at lw_m9 78 rfl) rfl
theorem q2086 : (Jvm.Cond.constantLong "ParrotSpeechModel" (309 : Nat) (3 : Int64)) ∈ lw_all := lw_g (lw_at lw_m9 79 rfl) rfl
theorem q2088 : (Jvm.Cond.instanceMethod ({ cls := "ParrotSpeechModel", name := "cover", desc := "(I)I" } : Jvm.MethodName)) ∈ lw_all := lw_g (lw_at lw_m9 81 rfl) rfl
theorem q2089 : (Jvm.Cond.selects "ParrotSpeechModel" ({ cls := "ParrotSpeechModel", name := "cover", desc := "(I)I" } : Jvm.MethodName) ({ cls := "ParrotSpeechModel", name := "cover", desc := "(I)I" } : Jvm.MethodName)) ∈ lw_all := lw_g (lw_at lw_m9 82 rfl) rfl
theorem q2090 : (Jvm.Cond.code ({ cls := "ParrotSpeechModel", name := "cover", desc := "(I)I" } : Jvm.MethodName) prog_18_method_62_code (2 : Nat) (Option.some Jvm.ClassFile.FieldType.int)) ∈ lw_all := lw_g (lw_at lw_m9 83 rfl) rfl
theorem q2092 : (Jvm.Cond.instanceMethod ({ cls := "ParrotSpeechModel", name := "sit", desc := "(II)I" } : Jvm.MethodName)) ∈ lw_all := lw_g (lw_at lw_m9 85 rfl) rfl
theorem q2093 : (Jvm.Cond.selects "ParrotSpeechModel" ({ cls := "ParrotSpeechModel", name := "sit", desc := "(II)I" } : Jvm.MethodName) ({ cls := "ParrotSpeechModel", name := "sit", desc := "(II)I" } : Jvm.MethodName)) ∈ lw_all := lw_g (lw_at lw_m9 86 rfl) rfl
theorem q2094 : (Jvm.Cond.code ({ cls := "ParrotSpeechModel", name := "sit", desc := "(II)I" } : Jvm.MethodName) prog_18_method_64_code (4 : Nat) (Option.some Jvm.ClassFile.FieldType.int)) ∈ lw_all := lw_g (lw_at lw_m9 87 rfl) rfl
theorem q2095 : (Jvm.Cond.methodLink "ParrotSpeechModel" (311 : Nat) ({ cls := "ParrotSpeechModel", name := "sets", desc := "(III)V" } : Jvm.MethodName)) ∈ lw_all := lw_g (lw_at lw_m9 88 rfl) rfl
theorem q2096 : (Jvm.Cond.privateMethod ({ cls := "ParrotSpeechModel", name := "sets", desc := "(III)V" } : Jvm.MethodName)) ∈ lw_tbl := lw_at lw_m9 89 rfl
theorem q2097 : (Jvm.Cond.instanceMethod ({ cls := "ParrotSpeechModel", name := "sets", desc := "(III)V" } : Jvm.MethodName)) ∈ lw_all := lw_g (lw_at lw_m9 90 rfl) rfl
theorem q2098 : (Jvm.Cond.code ({ cls := "ParrotSpeechModel", name := "sets", desc := "(III)V" } : Jvm.MethodName) prog_18_method_63_code (5 : Nat) (Option.none : Option Jvm.ClassFile.FieldType)) ∈ lw_all := lw_g (lw_at lw_m9 91 rfl) rfl
theorem q2100 : (Jvm.Cond.instanceMethod ({ cls := "ParrotSpeechModel", name := "undo", desc := "()I" } : Jvm.MethodName)) ∈ lw_all := lw_g (lw_at lw_m9 93 rfl) rfl
theorem q2101 : (Jvm.Cond.selects "ParrotSpeechModel" ({ cls := "ParrotSpeechModel", name := "undo", desc := "()I" } : Jvm.MethodName) ({ cls := "ParrotSpeechModel", name := "undo", desc := "()I" } : Jvm.MethodName)) ∈ lw_all := lw_g (lw_at lw_m9 94 rfl) rfl
theorem q2102 : (Jvm.Cond.code ({ cls := "ParrotSpeechModel", name := "undo", desc := "()I" } : Jvm.MethodName) prog_18_method_65_code (1 : Nat) (Option.some Jvm.ClassFile.FieldType.int)) ∈ lw_all := lw_g (lw_at lw_m9 95 rfl) rfl
theorem q2104 : (Jvm.Cond.instanceMethod ({ cls := "ParrotSpeechModel", name := "keep", desc := "(I)I" } : Jvm.MethodName)) ∈ lw_all := lw_g (lw_at lw_m9 97 rfl) rfl
theorem q2105 : (Jvm.Cond.selects "ParrotSpeechModel" ({ cls := "ParrotSpeechModel", name := "keep", desc := "(I)I" } : Jvm.MethodName) ({ cls := "ParrotSpeechModel", name := "keep", desc := "(I)I" } : Jvm.MethodName)) ∈ lw_all := lw_g (lw_at lw_m9 98 rfl) rfl
theorem q2106 : (Jvm.Cond.code ({ cls := "ParrotSpeechModel", name := "keep", desc := "(I)I" } : Jvm.MethodName) prog_18_method_66_code (2 : Nat) (Option.some Jvm.ClassFile.FieldType.int)) ∈ lw_all := lw_g (lw_at lw_m9 99 rfl) rfl
theorem q2108 : (Jvm.Cond.instanceMethod ({ cls := "ParrotSpeechModel", name := "back", desc := "(I)I" } : Jvm.MethodName)) ∈ lw_all := lw_g (lw_at lw_m9 101 rfl) rfl
theorem q2109 : (Jvm.Cond.selects "ParrotSpeechModel" ({ cls := "ParrotSpeechModel", name := "back", desc := "(I)I" } : Jvm.MethodName) ({ cls := "ParrotSpeechModel", name := "back", desc := "(I)I" } : Jvm.MethodName)) ∈ lw_all := lw_g (lw_at lw_m9 102 rfl) rfl
theorem q2110 : (Jvm.Cond.code ({ cls := "ParrotSpeechModel", name := "back", desc := "(I)I" } : Jvm.MethodName) prog_18_method_67_code (2 : Nat) (Option.some Jvm.ClassFile.FieldType.int)) ∈ lw_all := lw_g (lw_at lw_m9 103 rfl) rfl
theorem q2112 : (Jvm.Cond.instanceMethod ({ cls := "ParrotSpeechModel", name := "said", desc := "(II)I" } : Jvm.MethodName)) ∈ lw_all := lw_g (lw_at lw_m9 105 rfl) rfl
theorem q2113 : (Jvm.Cond.selects "ParrotSpeechModel" ({ cls := "ParrotSpeechModel", name := "said", desc := "(II)I" } : Jvm.MethodName) ({ cls := "ParrotSpeechModel", name := "said", desc := "(II)I" } : Jvm.MethodName)) ∈ lw_all := lw_g (lw_at lw_m9 106 rfl) rfl
theorem q2114 : (Jvm.Cond.code ({ cls := "ParrotSpeechModel", name := "said", desc := "(II)I" } : Jvm.MethodName) prog_18_method_69_code (3 : Nat) (Option.some Jvm.ClassFile.FieldType.int)) ∈ lw_all := lw_g (lw_at lw_m9 107 rfl) rfl
theorem q2115 : (Jvm.Cond.constantLong "ParrotSpeechModel" (315 : Nat) (15 : Int64)) ∈ lw_all := lw_g (lw_at lw_m9 108 rfl) rfl
theorem q2116 : (Jvm.Cond.methodLink "ParrotSpeechModel" (317 : Nat) ({ cls := "ParrotSpeechModel", name := "saidAt", desc := "(II)I" } : Jvm.MethodName)) ∈ lw_all := lw_g (lw_at lw_m9 109 rfl) rfl
theorem q2117 : (Jvm.Cond.privateMethod ({ cls := "ParrotSpeechModel", name := "saidAt", desc := "(II)I" } : Jvm.MethodName)) ∈ lw_tbl := lw_at lw_m9 110 rfl
theorem q2118 : (Jvm.Cond.instanceMethod ({ cls := "ParrotSpeechModel", name := "saidAt", desc := "(II)I" } : Jvm.MethodName)) ∈ lw_all := lw_g (lw_at lw_m9 111 rfl) rfl
theorem q2119 : (Jvm.Cond.code ({ cls := "ParrotSpeechModel", name := "saidAt", desc := "(II)I" } : Jvm.MethodName) prog_18_method_68_code (3 : Nat) (Option.some Jvm.ClassFile.FieldType.int)) ∈ lw_all := lw_g (lw_at lw_m9 112 rfl) rfl
theorem q2121 : (Jvm.Cond.instanceMethod ({ cls := "ParrotSpeechModel", name := "when", desc := "(III)I" } : Jvm.MethodName)) ∈ lw_all := lw_g (lw_at lw_m9 114 rfl) rfl
theorem q2122 : (Jvm.Cond.selects "ParrotSpeechModel" ({ cls := "ParrotSpeechModel", name := "when", desc := "(III)I" } : Jvm.MethodName) ({ cls := "ParrotSpeechModel", name := "when", desc := "(III)I" } : Jvm.MethodName)) ∈ lw_all := lw_g (lw_at lw_m9 115 rfl) rfl
theorem q2123 : (Jvm.Cond.code ({ cls := "ParrotSpeechModel", name := "when", desc := "(III)I" } : Jvm.MethodName) prog_18_method_70_code (5 : Nat) (Option.some Jvm.ClassFile.FieldType.int)) ∈ lw_all := lw_g (lw_at lw_m9 116 rfl) rfl
theorem q2125 : (Jvm.Cond.instanceMethod ({ cls := "ParrotSpeechModel", name := "keeps", desc := "(III)I" } : Jvm.MethodName)) ∈ lw_all := lw_g (lw_at lw_m9 118 rfl) rfl
theorem q2126 : (Jvm.Cond.selects "ParrotSpeechModel" ({ cls := "ParrotSpeechModel", name := "keeps", desc := "(III)I" } : Jvm.MethodName) ({ cls := "ParrotSpeechModel", name := "keeps", desc := "(III)I" } : Jvm.MethodName)) ∈ lw_all := lw_g (lw_at lw_m9 119 rfl) rfl
theorem q2127 : (Jvm.Cond.code ({ cls := "ParrotSpeechModel", name := "keeps", desc := "(III)I" } : Jvm.MethodName) prog_18_method_72_code (4 : Nat) (Option.some Jvm.ClassFile.FieldType.int)) ∈ lw_all := lw_g (lw_at lw_m9 120 rfl) rfl
theorem q2128 : (Jvm.Cond.constantLong "ParrotSpeechModel" (323 : Nat) (20 : Int64)) ∈ lw_all := lw_g (lw_at lw_m9 121 rfl) rfl
theorem q2129 : (Jvm.Cond.methodLink "ParrotSpeechModel" (325 : Nat) ({ cls := "ParrotSpeechModel", name := "keptBy", desc := "(III)I" } : Jvm.MethodName)) ∈ lw_all := lw_g (lw_at lw_m9 122 rfl) rfl
theorem q2130 : (Jvm.Cond.privateMethod ({ cls := "ParrotSpeechModel", name := "keptBy", desc := "(III)I" } : Jvm.MethodName)) ∈ lw_tbl := lw_at lw_m9 123 rfl
theorem q2131 : (Jvm.Cond.instanceMethod ({ cls := "ParrotSpeechModel", name := "keptBy", desc := "(III)I" } : Jvm.MethodName)) ∈ lw_all := lw_g (lw_at lw_m9 124 rfl) rfl
theorem q2132 : (Jvm.Cond.code ({ cls := "ParrotSpeechModel", name := "keptBy", desc := "(III)I" } : Jvm.MethodName) prog_18_method_71_code (4 : Nat) (Option.some Jvm.ClassFile.FieldType.int)) ∈ lw_all := lw_g (lw_at lw_m9 125 rfl) rfl
theorem q2133 : (Jvm.Cond.methodLink "ParrotSpeechModel" (320 : Nat) ({ cls := "ParrotSpeechModel", name := "bits", desc := "(I)I" } : Jvm.MethodName)) ∈ lw_all := lw_g (lw_at lw_m9 126 rfl) rfl
theorem q2134 : (Jvm.Cond.static ({ cls := "ParrotSpeechModel", name := "bits", desc := "(I)I" } : Jvm.MethodName)) ∈ lw_all := lw_g (lw_at lw_m9 127 rfl) rfl
theorem q2135 : (Jvm.Cond.code ({ cls := "ParrotSpeechModel", name := "bits", desc := "(I)I" } : Jvm.MethodName) prog_18_method_4_code (3 : Nat) (Option.some Jvm.ClassFile.FieldType.int)) ∈ lw_all := lw_g (lw_at lw_m9 128 rfl) rfl
theorem q2137 : (Jvm.Cond.instanceMethod ({ cls := "ParrotSpeechModel", name := "match", desc := "(II)I" } : Jvm.MethodName)) ∈ lw_all := lw_g (lw_at lw_m9 130 rfl) rfl
theorem q2138 : (Jvm.Cond.selects "ParrotSpeechModel" ({ cls := "ParrotSpeechModel", name := "match", desc := "(II)I" } : Jvm.MethodName) ({ cls := "ParrotSpeechModel", name := "match", desc := "(II)I" } : Jvm.MethodName)) ∈ lw_all := lw_g (lw_at lw_m9 131 rfl) rfl
theorem q2139 : (Jvm.Cond.code ({ cls := "ParrotSpeechModel", name := "match", desc := "(II)I" } : Jvm.MethodName) prog_18_method_75_code (7 : Nat) (Option.some Jvm.ClassFile.FieldType.int)) ∈ lw_all := lw_g (lw_at lw_m9 132 rfl) rfl
theorem q2140 : (Jvm.Cond.methodLink "ParrotSpeechModel" (328 : Nat) ({ cls := "ParrotSpeechModel", name := "keptByLine", desc := "()I" } : Jvm.MethodName)) ∈ lw_all := lw_g (lw_at lw_m9 133 rfl) rfl
theorem q2141 : (Jvm.Cond.privateMethod ({ cls := "ParrotSpeechModel", name := "keptByLine", desc := "()I" } : Jvm.MethodName)) ∈ lw_tbl := lw_at lw_m9 134 rfl
theorem q2142 : (Jvm.Cond.instanceMethod ({ cls := "ParrotSpeechModel", name := "keptByLine", desc := "()I" } : Jvm.MethodName)) ∈ lw_all := lw_g (lw_at lw_m9 135 rfl) rfl
theorem q2143 : (Jvm.Cond.code ({ cls := "ParrotSpeechModel", name := "keptByLine", desc := "()I" } : Jvm.MethodName) prog_18_method_73_code (6 : Nat) (Option.some Jvm.ClassFile.FieldType.int)) ∈ lw_all := lw_g (lw_at lw_m9 136 rfl) rfl
theorem q2144 : (Jvm.Cond.methodLink "ParrotSpeechModel" (331 : Nat) ({ cls := "ParrotSpeechModel", name := "nextLine", desc := "()Z" } : Jvm.MethodName)) ∈ lw_all := lw_g (lw_at lw_m9 137 rfl) rfl
theorem q2145 : (Jvm.Cond.privateMethod ({ cls := "ParrotSpeechModel", name := "nextLine", desc := "()Z" } : Jvm.MethodName)) ∈ lw_tbl := lw_at lw_m9 138 rfl
theorem q2146 : (Jvm.Cond.instanceMethod ({ cls := "ParrotSpeechModel", name := "nextLine", desc := "()Z" } : Jvm.MethodName)) ∈ lw_all := lw_g (lw_at lw_m9 139 rfl) rfl
theorem q2147 : (Jvm.Cond.code ({ cls := "ParrotSpeechModel", name := "nextLine", desc := "()Z" } : Jvm.MethodName) prog_18_method_74_code (2 : Nat) (Option.some Jvm.ClassFile.FieldType.boolean)) ∈ lw_all := lw_g (lw_at lw_m9 140 rfl) rfl
theorem q2149 : (Jvm.Cond.instanceMethod ({ cls := "ParrotSpeechModel", name := "clean", desc := "(III)I" } : Jvm.MethodName)) ∈ lw_all := lw_g (lw_at lw_m9 142 rfl) rfl
theorem q2150 : (Jvm.Cond.selects "ParrotSpeechModel" ({ cls := "ParrotSpeechModel", name := "clean", desc := "(III)I" } : Jvm.MethodName) ({ cls := "ParrotSpeechModel", name := "clean", desc := "(III)I" } : Jvm.MethodName)) ∈ lw_all := lw_g (lw_at lw_m9 143 rfl) rfl
theorem q2151 : (Jvm.Cond.code ({ cls := "ParrotSpeechModel", name := "clean", desc := "(III)I" } : Jvm.MethodName) prog_18_method_76_code (7 : Nat) (Option.some Jvm.ClassFile.FieldType.int)) ∈ lw_all := lw_g (lw_at lw_m9 144 rfl) rfl
theorem q2153 : (Jvm.Cond.instanceMethod ({ cls := "ParrotSpeechModel", name := "of", desc := "(II)I" } : Jvm.MethodName)) ∈ lw_all := lw_g (lw_at lw_m9 146 rfl) rfl
theorem q2154 : (Jvm.Cond.selects "ParrotSpeechModel" ({ cls := "ParrotSpeechModel", name := "of", desc := "(II)I" } : Jvm.MethodName) ({ cls := "ParrotSpeechModel", name := "of", desc := "(II)I" } : Jvm.MethodName)) ∈ lw_all := lw_g (lw_at lw_m9 147 rfl) rfl
theorem q2155 : (Jvm.Cond.code ({ cls := "ParrotSpeechModel", name := "of", desc := "(II)I" } : Jvm.MethodName) prog_18_method_77_code (5 : Nat) (Option.some Jvm.ClassFile.FieldType.int)) ∈ lw_all := lw_g (lw_at lw_m9 148 rfl) rfl
theorem q2156 : (Jvm.Cond.methodLink "ParrotSpeechModel" (229 : Nat) ({ cls := "ParrotSpeechModel", name := "goOnAll", desc := "()V" } : Jvm.MethodName)) ∈ lw_all := lw_g (lw_at lw_m9 149 rfl) rfl
theorem q2157 : (Jvm.Cond.privateMethod ({ cls := "ParrotSpeechModel", name := "goOnAll", desc := "()V" } : Jvm.MethodName)) ∈ lw_tbl := lw_at lw_m9 150 rfl
theorem q2158 : (Jvm.Cond.instanceMethod ({ cls := "ParrotSpeechModel", name := "goOnAll", desc := "()V" } : Jvm.MethodName)) ∈ lw_all := lw_g (lw_at lw_m9 151 rfl) rfl
theorem q2159 : (Jvm.Cond.code ({ cls := "ParrotSpeechModel", name := "goOnAll", desc := "()V" } : Jvm.MethodName) prog_18_method_31_code (3 : Nat) (Option.none : Option Jvm.ClassFile.FieldType)) ∈ lw_all := lw_g (lw_at lw_m9 152 rfl) rfl
theorem q2160 : (Jvm.Cond.methodLink "ParrotSpeechModel" (226 : Nat) ({ cls := "ParrotSpeechModel", name := "goesOn", desc := "(I)Z" } : Jvm.MethodName)) ∈ lw_all := lw_g (lw_at lw_m9 153 rfl) rfl
theorem q2161 : (Jvm.Cond.privateMethod ({ cls := "ParrotSpeechModel", name := "goesOn", desc := "(I)Z" } : Jvm.MethodName)) ∈ lw_tbl := lw_at lw_m9 154 rfl
theorem q2162 : (Jvm.Cond.instanceMethod ({ cls := "ParrotSpeechModel", name := "goesOn", desc := "(I)Z" } : Jvm.MethodName)) ∈ lw_all := lw_g (lw_at lw_m9 155 rfl) rfl
theorem q2163 : (Jvm.Cond.code ({ cls := "ParrotSpeechModel", name := "goesOn", desc := "(I)Z" } : Jvm.MethodName) prog_18_method_30_code (5 : Nat) (Option.some Jvm.ClassFile.FieldType.boolean)) ∈ lw_all := lw_g (lw_at lw_m9 156 rfl) rfl
theorem q2164 : (Jvm.Cond.methodLink "ParrotSpeechModel" (223 : Nat) ({ cls := "ParrotSpeechModel", name := "mark", desc := "(I)Z" } : Jvm.MethodName)) ∈ lw_all := lw_g (lw_at lw_m9 157 rfl) rfl
theorem q2165 : (Jvm.Cond.privateMethod ({ cls := "ParrotSpeechModel", name := "mark", desc := "(I)Z" } : Jvm.MethodName)) ∈ lw_tbl := lw_at lw_m9 158 rfl
theorem q2166 : (Jvm.Cond.instanceMethod ({ cls := "ParrotSpeechModel", name := "mark", desc := "(I)Z" } : Jvm.MethodName)) ∈ lw_all := lw_g (lw_at lw_m9 159 rfl) rfl
theorem q2167 : (Jvm.Cond.code ({ cls := "ParrotSpeechModel", name := "mark", desc := "(I)Z" } : Jvm.MethodName) prog_18_method_29_code (3 : Nat) (Option.some Jvm.ClassFile.FieldType.boolean)) ∈ lw_all := lw_g (lw_at lw_m9 160 rfl) rfl
theorem q2168 : (Jvm.Cond.methodLink "ParrotSpeechModel" (334 : Nat) ({ cls := "ParrotSpeechModel", name := "hearWord", desc := "(I)V" } : Jvm.MethodName)) ∈ lw_all := lw_g (lw_at lw_m9 161 rfl) rfl
theorem q2169 : (Jvm.Cond.privateMethod ({ cls := "ParrotSpeechModel", name := "hearWord", desc := "(I)V" } : Jvm.MethodName)) ∈ lw_tbl := lw_at lw_m9 162 rfl
theorem q2170 : (Jvm.Cond.instanceMethod ({ cls := "ParrotSpeechModel", name := "hearWord", desc := "(I)V" } : Jvm.MethodName)) ∈ lw_all := lw_g (lw_at lw_m9 163 rfl) rfl
theorem q2171 : (Jvm.Cond.code ({ cls := "ParrotSpeechModel", name := "hearWord", desc := "(I)V" } : Jvm.MethodName) prog_18_method_32_code (3 : Nat) (Option.none : Option Jvm.ClassFile.FieldType)) ∈ lw_all := lw_g (lw_at lw_m9 164 rfl) rfl
theorem q2173 : (Jvm.Cond.instanceMethod ({ cls := "ParrotSpeechModel", name := "left", desc := "(III)I" } : Jvm.MethodName)) ∈ lw_all := lw_g (lw_at lw_m9 166 rfl) rfl
theorem q2174 : (Jvm.Cond.selects "ParrotSpeechModel" ({ cls := "ParrotSpeechModel", name := "left", desc := "(III)I" } : Jvm.MethodName) ({ cls := "ParrotSpeechModel", name := "left", desc := "(III)I" } : Jvm.MethodName)) ∈ lw_all := lw_g (lw_at lw_m9 167 rfl) rfl
theorem q2175 : (Jvm.Cond.code ({ cls := "ParrotSpeechModel", name := "left", desc := "(III)I" } : Jvm.MethodName) prog_18_method_78_code (9 : Nat) (Option.some Jvm.ClassFile.FieldType.int)) ∈ lw_all := lw_g (lw_at lw_m9 168 rfl) rfl
theorem q2176 : (Jvm.Cond.constantLong "ParrotSpeechModel" (337 : Nat) (10 : Int64)) ∈ lw_all := lw_g (lw_at lw_m9 169 rfl) rfl
theorem q2178 : (Jvm.Cond.instanceMethod ({ cls := "ParrotSpeechModel", name := "seen", desc := "(III)I" } : Jvm.MethodName)) ∈ lw_all := lw_g (lw_at lw_m9 171 rfl) rfl
theorem q2179 : (Jvm.Cond.selects "ParrotSpeechModel" ({ cls := "ParrotSpeechModel", name := "seen", desc := "(III)I" } : Jvm.MethodName) ({ cls := "ParrotSpeechModel", name := "seen", desc := "(III)I" } : Jvm.MethodName)) ∈ lw_all := lw_g (lw_at lw_m9 172 rfl) rfl
theorem q2180 : (Jvm.Cond.code ({ cls := "ParrotSpeechModel", name := "seen", desc := "(III)I" } : Jvm.MethodName) prog_18_method_79_code (4 : Nat) (Option.some Jvm.ClassFile.FieldType.int)) ∈ lw_all := lw_g (lw_at lw_m9 173 rfl) rfl
theorem q2182 : (Jvm.Cond.instanceMethod ({ cls := "ParrotSpeechModel", name := "forget", desc := "()I" } : Jvm.MethodName)) ∈ lw_all := lw_g (lw_at lw_m9 175 rfl) rfl
theorem q2183 : (Jvm.Cond.selects "ParrotSpeechModel" ({ cls := "ParrotSpeechModel", name := "forget", desc := "()I" } : Jvm.MethodName) ({ cls := "ParrotSpeechModel", name := "forget", desc := "()I" } : Jvm.MethodName)) ∈ lw_all := lw_g (lw_at lw_m9 176 rfl) rfl
theorem q2184 : (Jvm.Cond.code ({ cls := "ParrotSpeechModel", name := "forget", desc := "()I" } : Jvm.MethodName) prog_18_method_80_code (2 : Nat) (Option.some Jvm.ClassFile.FieldType.int)) ∈ lw_all := lw_g (lw_at lw_m9 177 rfl) rfl
theorem q2186 : (Jvm.Cond.instanceMethod ({ cls := "ParrotSpeechModel", name := "kinds", desc := "(I)I" } : Jvm.MethodName)) ∈ lw_all := lw_g (lw_at lw_m9 179 rfl) rfl
theorem q2187 : (Jvm.Cond.selects "ParrotSpeechModel" ({ cls := "ParrotSpeechModel", name := "kinds", desc := "(I)I" } : Jvm.MethodName) ({ cls := "ParrotSpeechModel", name := "kinds", desc := "(I)I" } : Jvm.MethodName)) ∈ lw_all := lw_g (lw_at lw_m9 180 rfl) rfl
theorem q2188 : (Jvm.Cond.code ({ cls := "ParrotSpeechModel", name := "kinds", desc := "(I)I" } : Jvm.MethodName) prog_18_method_81_code (6 : Nat) (Option.some Jvm.ClassFile.FieldType.int)) ∈ lw_all := lw_g (lw_at lw_m9 181 rfl) rfl
theorem q2190 : (Jvm.Cond.instanceMethod ({ cls := "ParrotSpeechModel", name := "reel", desc := "(III)I" } : Jvm.MethodName)) ∈ lw_all := lw_g (lw_at lw_m9 183 rfl) rfl
theorem q2191 : (Jvm.Cond.selects "ParrotSpeechModel" ({ cls := "ParrotSpeechModel", name := "reel", desc := "(III)I" } : Jvm.MethodName) ({ cls := "ParrotSpeechModel", name := "reel", desc := "(III)I" } : Jvm.MethodName)) ∈ lw_all := lw_g (lw_at lw_m9 184 rfl) rfl
theorem q2192 : (Jvm.Cond.code ({ cls := "ParrotSpeechModel", name := "reel", desc := "(III)I" } : Jvm.MethodName) prog_18_method_83_code (5 : Nat) (Option.some Jvm.ClassFile.FieldType.int)) ∈ lw_all := lw_g (lw_at lw_m9 185 rfl) rfl
theorem q2193 : (Jvm.Cond.methodLink "ParrotSpeechModel" (341 : Nat) ({ cls := "ParrotSpeechModel", name := "isReel", desc := "(I)Z" } : Jvm.MethodName)) ∈ lw_all := lw_g (lw_at lw_m9 186 rfl) rfl
theorem q2194 : (Jvm.Cond.static ({ cls := "ParrotSpeechModel", name := "isReel", desc := "(I)Z" } : Jvm.MethodName)) ∈ lw_all := lw_g (lw_at lw_m9 187 rfl) rfl
theorem q2195 : (Jvm.Cond.code ({ cls := "ParrotSpeechModel", name := "isReel", desc := "(I)Z" } : Jvm.MethodName) prog_18_method_82_code (1 : Nat) (Option.some Jvm.ClassFile.FieldType.boolean)) ∈ lw_all := lw_g (lw_at lw_m9 188 rfl) rfl
theorem q2196 : (Jvm.Cond.constantLong "ParrotSpeechModel" (339 : Nat) (2 : Int64)) ∈ lw_all := lw_g (lw_at lw_m9 189 rfl) rfl
theorem q2198 : (Jvm.Cond.instanceMethod ({ cls := "ParrotSpeechModel", name := "record", desc := "(IIII)I" } : Jvm.MethodName)) ∈ lw_all := lw_g (lw_at lw_m9 191 rfl) rfl
theorem q2199 : (Jvm.Cond.selects "ParrotSpeechModel" ({ cls := "ParrotSpeechModel", name := "record", desc := "(IIII)I" } : Jvm.MethodName) ({ cls := "ParrotSpeechModel", name := "record", desc := "(IIII)I" } : Jvm.MethodName)) ∈ lw_all := lw_g (lw_at lw_m9 192 rfl) rfl
theorem q2200 : (Jvm.Cond.code ({ cls := "ParrotSpeechModel", name := "record", desc := "(IIII)I" } : Jvm.MethodName) prog_18_method_85_code (7 : Nat) (Option.some Jvm.ClassFile.FieldType.int)) ∈ lw_all := lw_g (lw_at lw_m9 193 rfl) rfl
theorem q2201 : (Jvm.Cond.methodLink "ParrotSpeechModel" (344 : Nat) ({ cls := "ParrotSpeechModel", name := "noPlace", desc := "(III)I" } : Jvm.MethodName)) ∈ lw_all := lw_g (lw_at lw_m9 194 rfl) rfl
theorem q2202 : (Jvm.Cond.privateMethod ({ cls := "ParrotSpeechModel", name := "noPlace", desc := "(III)I" } : Jvm.MethodName)) ∈ lw_tbl := lw_at lw_m9 195 rfl
theorem q2203 : (Jvm.Cond.instanceMethod ({ cls := "ParrotSpeechModel", name := "noPlace", desc := "(III)I" } : Jvm.MethodName)) ∈ lw_all := lw_g (lw_at lw_m9 196 rfl) rfl
theorem q2204 : (Jvm.Cond.code ({ cls := "ParrotSpeechModel", name := "noPlace", desc := "(III)I" } : Jvm.MethodName) prog_18_method_84_code (4 : Nat) (Option.some Jvm.ClassFile.FieldType.int)) ∈ lw_all := lw_g (lw_at lw_m9 197 rfl) rfl
theorem q2205 : (Jvm.Cond.constant "ParrotSpeechModel" (347 : Nat) (100000 : Int32)) ∈ lw_all := lw_g (lw_at lw_m9 198 rfl) rfl
theorem q2207 : (Jvm.Cond.instanceMethod ({ cls := "ParrotSpeechModel", name := "play", desc := "(III)I" } : Jvm.MethodName)) ∈ lw_all := lw_g (lw_at lw_m9 200 rfl) rfl
theorem q2208 : (Jvm.Cond.selects "ParrotSpeechModel" ({ cls := "ParrotSpeechModel", name := "play", desc := "(III)I" } : Jvm.MethodName) ({ cls := "ParrotSpeechModel", name := "play", desc := "(III)I" } : Jvm.MethodName)) ∈ lw_all := lw_g (lw_at lw_m9 201 rfl) rfl
theorem q2209 : (Jvm.Cond.code ({ cls := "ParrotSpeechModel", name := "play", desc := "(III)I" } : Jvm.MethodName) prog_18_method_86_code (6 : Nat) (Option.some Jvm.ClassFile.FieldType.int)) ∈ lw_all := lw_g (lw_at lw_m9 202 rfl) rfl
theorem q2210 : (Jvm.Cond.constant "ParrotSpeechModel" (348 : Nat) (1000003 : Int32)) ∈ lw_all := lw_g (lw_at lw_m9 203 rfl) rfl
theorem q2211 : (Jvm.Cond.constant "ParrotSpeechModel" (349 : Nat) (2000000 : Int32)) ∈ lw_all := lw_g (lw_at lw_m9 204 rfl) rfl
theorem q2213 : (Jvm.Cond.instanceMethod ({ cls := "ParrotSpeechModel", name := "splice", desc := "(IIIII)I" } : Jvm.MethodName)) ∈ lw_all := lw_g (lw_at lw_m9 206 rfl) rfl
theorem q2214 : (Jvm.Cond.selects "ParrotSpeechModel" ({ cls := "ParrotSpeechModel", name := "splice", desc := "(IIIII)I" } : Jvm.MethodName) ({ cls := "ParrotSpeechModel", name := "splice", desc := "(IIIII)I" } : Jvm.MethodName)) ∈ lw_all := lw_g (lw_at lw_m9 207 rfl) rfl
theorem q2215 : (Jvm.Cond.code ({ cls := "ParrotSpeechModel", name := "splice", desc := "(IIIII)I" } : Jvm.MethodName) prog_18_method_88_code (7 : Nat) (Option.some Jvm.ClassFile.FieldType.int)) ∈ lw_all := lw_g (lw_at lw_m9 208 rfl) rfl
theorem q2216 : (Jvm.Cond.methodLink "ParrotSpeechModel" (350 : Nat) ({ cls := "ParrotSpeechModel", name := "isSpan", desc := "(III)Z" } : Jvm.MethodName)) ∈ lw_all := lw_g (lw_at lw_m9 209 rfl) rfl
theorem q2217 : (Jvm.Cond.privateMethod ({ cls := "ParrotSpeechModel", name := "isSpan", desc := "(III)Z" } : Jvm.MethodName)) ∈ lw_tbl := lw_at lw_m9 210 rfl
theorem q2218 : (Jvm.Cond.instanceMethod ({ cls := "ParrotSpeechModel", name := "isSpan", desc := "(III)Z" } : Jvm.MethodName)) ∈ lw_all := lw_g (lw_at lw_m9 211 rfl) rfl
theorem q2219 : (Jvm.Cond.code ({ cls := "ParrotSpeechModel", name := "isSpan", desc := "(III)Z" } : Jvm.MethodName) prog_18_method_87_code (4 : Nat) (Option.some Jvm.ClassFile.FieldType.boolean)) ∈ lw_all := lw_g (lw_at lw_m9 212 rfl) rfl
theorem q2221 : (Jvm.Cond.instanceMethod ({ cls := "ParrotSpeechModel", name := "drop", desc := "(I)I" } : Jvm.MethodName)) ∈ lw_all := lw_g (lw_at lw_m9 214 rfl) rfl
theorem q2222 : (Jvm.Cond.selects "ParrotSpeechModel" ({ cls := "ParrotSpeechModel", name := "drop", desc := "(I)I" } : Jvm.MethodName) ({ cls := "ParrotSpeechModel", name := "drop", desc := "(I)I" } : Jvm.MethodName)) ∈ lw_all := lw_g (lw_at lw_m9 215 rfl) rfl
theorem q2223 : (Jvm.Cond.code ({ cls := "ParrotSpeechModel", name := "drop", desc := "(I)I" } : Jvm.MethodName) prog_18_method_89_code (3 : Nat) (Option.some Jvm.ClassFile.FieldType.int)) ∈ lw_all := lw_g (lw_at lw_m9 216 rfl) rfl
theorem q2225 : (Jvm.Cond.instanceMethod ({ cls := "ParrotSpeechModel", name := "count", desc := "(I)I" } : Jvm.MethodName)) ∈ lw_all := lw_g (lw_at lw_m9 218 rfl) rfl
theorem q2226 : (Jvm.Cond.selects "ParrotSpeechModel" ({ cls := "ParrotSpeechModel", name := "count", desc := "(I)I" } : Jvm.MethodName) ({ cls := "ParrotSpeechModel", name := "count", desc := "(I)I" } : Jvm.MethodName)) ∈ lw_all := lw_g (lw_at lw_m9 219 rfl) rfl
theorem q2227 : (Jvm.Cond.code ({ cls := "ParrotSpeechModel", name := "count", desc := "(I)I" } : Jvm.MethodName) prog_18_method_93_code (2 : Nat) (Option.some Jvm.ClassFile.FieldType.int)) ∈ lw_all := lw_g (lw_at lw_m9 220 rfl) rfl
theorem q2228 : (Jvm.Cond.methodLink "ParrotSpeechModel" (354 : Nat) ({ cls := "ParrotSpeechModel", name := "menWords", desc := "()I" } : Jvm.MethodName)) ∈ lw_all := lw_g (lw_at lw_m9 221 rfl) rfl
theorem q2229 : (Jvm.Cond.privateMethod ({ cls := "ParrotSpeechModel", name := "menWords", desc := "()I" } : Jvm.MethodName)) ∈ lw_tbl := lw_at lw_m9 222 rfl
theorem q2230 : (Jvm.Cond.instanceMethod ({ cls := "ParrotSpeechModel", name := "menWords", desc := "()I" } : Jvm.MethodName)) ∈ lw_all := lw_g (lw_at lw_m9 223 rfl) rfl
theorem q2231 : (Jvm.Cond.code ({ cls := "ParrotSpeechModel", name := "menWords", desc := "()I" } : Jvm.MethodName) prog_18_method_90_code (3 : Nat) (Option.some Jvm.ClassFile.FieldType.int)) ∈ lw_all := lw_g (lw_at lw_m9 224 rfl) rfl
theorem q2232 : (Jvm.Cond.methodLink "ParrotSpeechModel" (357 : Nat) ({ cls := "ParrotSpeechModel", name := "reelsThere", desc := "()I" } : Jvm.MethodName)) ∈ lw_all := lw_g (lw_at lw_m9 225 rfl) rfl
theorem q2233 : (Jvm.Cond.privateMethod ({ cls := "ParrotSpeechModel", name := "reelsThere", desc := "()I" } : Jvm.MethodName)) ∈ lw_tbl := lw_at lw_m9 226 rfl
theorem q2234 : (Jvm.Cond.instanceMethod ({ cls := "ParrotSpeechModel", name := "reelsThere", desc := "()I" } : Jvm.MethodName)) ∈ lw_all := lw_g (lw_at lw_m9 227 rfl) rfl
theorem q2235 : (Jvm.Cond.code ({ cls := "ParrotSpeechModel", name := "reelsThere", desc := "()I" } : Jvm.MethodName) prog_18_method_92_code (3 : Nat) (Option.some Jvm.ClassFile.FieldType.int)) ∈ lw_all := lw_g (lw_at lw_m9 228 rfl) rfl
theorem q2236 : (Jvm.Cond.methodLink "ParrotSpeechModel" (360 : Nat) ({ cls := "ParrotSpeechModel", name := "allWellKnown", desc := "()I" } : Jvm.MethodName)) ∈ lw_all := lw_g (lw_at lw_m9 229 rfl) rfl
theorem q2237 : (Jvm.Cond.privateMethod ({ cls := "ParrotSpeechModel", name := "allWellKnown", desc := "()I" } : Jvm.MethodName)) ∈ lw_tbl := lw_at lw_m9 230 rfl
theorem q2238 : (Jvm.Cond.instanceMethod ({ cls := "ParrotSpeechModel", name := "allWellKnown", desc := "()I" } : Jvm.MethodName)) ∈ lw_all := lw_g (lw_at lw_m9 231 rfl) rfl
theorem q2239 : (Jvm.Cond.code ({ cls := "ParrotSpeechModel", name := "allWellKnown", desc := "()I" } : Jvm.MethodName) prog_18_method_91_code (3 : Nat) (Option.some Jvm.ClassFile.FieldType.int)) ∈ lw_all := lw_g (lw_at lw_m9 232 rfl) rfl
theorem q2274 : (Jvm.Cond.castable "ParrotSpeechModel" "java/lang/Object") ∈ lw_tbl := lw_at lw_m10 27 rfl
theorem in_X2 : ∀ w ∈ wsX20, w ∈ lw_all := lw_in wsX20 [1778, 1780, 1782, 1784, 1786, 1788, 1790, 1792, 1794, 1796, 1798, 1800, 1802, 1804, 1806, 1808, 1810, 1812, 1814, 1816, 1818, 1820, 1822, 1824, 1826, 1828, 1830, 1832, 1834, 1836, 1838, 1840, 1842, 1844, 1846, 1848, 1850, 1852, 1854, 1856, 1858, 1860] (by decide +kernel) (by decide +kernel)
