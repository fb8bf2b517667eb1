/-! ParrotSpeech$Bird -/
set_option maxRecDepth 100000
def RX10 : String := "ParrotSpeech$Bird"
abbrev cX10_init : ByteArray := prog_2_method_1_code
def yX10_init : MethodName := ⟨RX10, "<init>", "(I)V"⟩
def dkwX10_init_0 : List UInt8 := [42, 183, 0, 1, 42, 27, 181, 0, 7, 177]
abbrev dktX10_init_0 : List UInt8 := dkwX10_init_0 ++ []
theorem dksX10_init_0 : cX10_init.data.toList.drop 0 = dktX10_init_0 := by decide +kernel
theorem dX10_init_0 : decode cX10_init 0 = .ok (.aload_n 0, 1) := dk_42 (dk_at dksX10_init_0 0 rfl rfl)
theorem dX10_init_1 : decode cX10_init 1 = .ok (.invokespecial 1, 3) := dk_183 0 1 (dk_at dksX10_init_0 1 rfl rfl)
theorem dX10_init_4 : decode cX10_init 4 = .ok (.aload_n 0, 1) := dk_42 (dk_at dksX10_init_0 4 rfl rfl)
theorem dX10_init_5 : decode cX10_init 5 = .ok (.iload_n 1, 1) := dk_27 (dk_at dksX10_init_0 5 rfl rfl)
theorem dX10_init_6 : decode cX10_init 6 = .ok (.putfield 7, 3) := dk_181 0 7 (dk_at dksX10_init_0 6 rfl rfl)
theorem dX10_init_9 : decode cX10_init 9 = .ok (.return_, 1) := dk_177 (dk_at dksX10_init_0 9 rfl rfl)
theorem q121 : (Jvm.Cond.initialized "ParrotSpeech$Bird") ∈ lw_all := lw_g (lw_at lw_m1 34 rfl) rfl
theorem q1144 : (Jvm.Cond.instanceMethod ({ cls := "ParrotSpeech$Bird", name := "<init>", desc := "(I)V" } : Jvm.MethodName)) ∈ lw_all := lw_g (lw_at lw_m5 97 rfl) rfl
theorem q1145 : (Jvm.Cond.code ({ cls := "ParrotSpeech$Bird", name := "<init>", desc := "(I)V" } : Jvm.MethodName) prog_2_method_1_code (2 : Nat) (Option.none : Option Jvm.ClassFile.FieldType)) ∈ lw_all := lw_g (lw_at lw_m5 98 rfl) rfl
theorem q1146 : (Jvm.Cond.methodLink "ParrotSpeech$Bird" (1 : Nat) ({ cls := "java/lang/Object", name := "<init>", desc := "()V" } : Jvm.MethodName)) ∈ lw_all := lw_g (lw_at lw_m5 99 rfl) rfl
theorem q1147 : (Jvm.Cond.fieldLink "ParrotSpeech$Bird" (7 : Nat) "ParrotSpeech$Bird" "number" "I") ∈ lw_all := lw_g (lw_at lw_m5 100 rfl) rfl
theorem q1150 : (Jvm.Cond.soleField "ParrotSpeech$Bird" "number") ∈ lw_all := lw_g (lw_at lw_m5 103 rfl) rfl
theorem q1202 : (Jvm.Cond.declares ({ cls := "ParrotSpeech$Bird", name := "kind", desc := "()I" } : Jvm.MethodName)) ∈ lw_tbl := lw_at lw_m5 155 rfl
theorem q1203 : (Jvm.Cond.sameMethod "ParrotSpeech$Bird" "ParrotSpeech$Bird" "kind" "()I") ∈ lw_all := lw_g (lw_at lw_m5 156 rfl) rfl
theorem q1263 : (Jvm.Cond.superclass "ParrotSpeech$Bird" "java/lang/Object") ∈ lw_all := lw_g (lw_at lw_m5 216 rfl) rfl
theorem q2271 : (Jvm.Cond.castable "ParrotSpeech$Bird" "java/lang/Object") ∈ lw_tbl := lw_at lw_m10 24 rfl

/-! ParrotSpeech$Parrot -/
set_option maxRecDepth 100000
def RX11 : String := "ParrotSpeech$Parrot"
def TX11 : u_T := fun k => match k with
  | _ => ("ParrotSpeech$Bird", "number", "I", true)
def tyX11 : Nat → FieldType := fun k => match k with
  | _ => .int
abbrev wsX110 : List Cond := u_ws RX11 TX11 1
theorem nmX11 : ∀ a, a < 1 → ∀ b, b < 1 → a ≠ b → (TX11 a).2.1 ≠ (TX11 b).2.1 := by decide +kernel
theorem tyX11_ok : ∀ k, k < 1 → parseFieldDescriptor (TX11 k).2.2.1 = some (tyX11 k) := by decide +kernel
abbrev cX11_init : ByteArray := prog_11_method_1_code
def yX11_init : MethodName := ⟨RX11, "<init>", "(I)V"⟩
def dkwX11_init_0 : List UInt8 := [42, 27, 183, 0, 1, 177]
abbrev dktX11_init_0 : List UInt8 := dkwX11_init_0 ++ []
theorem dksX11_init_0 : cX11_init.data.toList.drop 0 = dktX11_init_0 := by decide +kernel
theorem dX11_init_0 : decode cX11_init 0 = .ok (.aload_n 0, 1) := dk_42 (dk_at dksX11_init_0 0 rfl rfl)
theorem dX11_init_1 : decode cX11_init 1 = .ok (.iload_n 1, 1) := dk_27 (dk_at dksX11_init_0 1 rfl rfl)
theorem dX11_init_2 : decode cX11_init 2 = .ok (.invokespecial 1, 3) := dk_183 0 1 (dk_at dksX11_init_0 2 rfl rfl)
theorem dX11_init_5 : decode cX11_init 5 = .ok (.return_, 1) := dk_177 (dk_at dksX11_init_0 5 rfl rfl)
abbrev cX11_kind : ByteArray := prog_11_method_2_code
def yX11_kind : MethodName := ⟨RX11, "kind", "()I"⟩
theorem dX11_kind_0 : decode cX11_kind 0 = .ok (.iconst 0, 1) := by decide +kernel
theorem dX11_kind_1 : decode cX11_kind 1 = .ok (.ireturn, 1) := by decide +kernel
abbrev cX11_says : ByteArray := prog_11_method_3_code
def yX11_says : MethodName := ⟨RX11, "says", "()I"⟩
theorem dX11_says_0 : decode cX11_says 0 = .ok (.iconst 1, 1) := by decide +kernel
theorem dX11_says_1 : decode cX11_says 1 = .ok (.ireturn, 1) := by decide +kernel
theorem q122 : (Jvm.Cond.initialized "ParrotSpeech$Parrot") ∈ lw_all := lw_g (lw_at lw_m1 35 rfl) rfl
theorem q718 : (Jvm.Cond.selects "ParrotSpeech$Parrot" ({ cls := "java/lang/Object", name := "equals", desc := "(Ljava/lang/Object;)Z" } : Jvm.MethodName) ({ cls := "java/lang/Object", name := "equals", desc := "(Ljava/lang/Object;)Z" } : Jvm.MethodName)) ∈ lw_all := lw_g (lw_at lw_m3 151 rfl) rfl
theorem q975 : (Jvm.Cond.selects "ParrotSpeech$Parrot" ({ cls := "java/lang/Object", name := "getClass", desc := "()Ljava/lang/Class;" } : Jvm.MethodName) ({ cls := "java/lang/Object", name := "getClass", desc := "()Ljava/lang/Class;" } : Jvm.MethodName)) ∈ lw_all := lw_g (lw_at lw_m4 168 rfl) rfl
theorem q1139 : (Jvm.Cond.instantiable "ParrotSpeech$Parrot" (1 : Nat)) ∈ lw_all := lw_g (lw_at lw_m5 92 rfl) rfl
theorem q1141 : (Jvm.Cond.instanceMethod ({ cls := "ParrotSpeech$Parrot", name := "<init>", desc := "(I)V" } : Jvm.MethodName)) ∈ lw_all := lw_g (lw_at lw_m5 94 rfl) rfl
theorem q1142 : (Jvm.Cond.code ({ cls := "ParrotSpeech$Parrot", name := "<init>", desc := "(I)V" } : Jvm.MethodName) prog_11_method_1_code (2 : Nat) (Option.none : Option Jvm.ClassFile.FieldType)) ∈ lw_all := lw_g (lw_at lw_m5 95 rfl) rfl
theorem q1143 : (Jvm.Cond.methodLink "ParrotSpeech$Parrot" (1 : Nat) ({ cls := "ParrotSpeech$Bird", name := "<init>", desc := "(I)V" } : Jvm.MethodName)) ∈ lw_all := lw_g (lw_at lw_m5 96 rfl) rfl
theorem q1149 : (Jvm.Cond.laysFinal "ParrotSpeech$Parrot" "ParrotSpeech$Bird" "number" "I") ∈ lw_all := lw_g (lw_at lw_m5 102 rfl) rfl
theorem q1151 : (Jvm.Cond.superclass "ParrotSpeech$Parrot" "ParrotSpeech$Bird") ∈ lw_all := lw_g (lw_at lw_m5 104 rfl) rfl
theorem q1208 : (Jvm.Cond.instanceMethod ({ cls := "ParrotSpeech$Parrot", name := "kind", desc := "()I" } : Jvm.MethodName)) ∈ lw_all := lw_g (lw_at lw_m5 161 rfl) rfl
theorem q1209 : (Jvm.Cond.code ({ cls := "ParrotSpeech$Parrot", name := "kind", desc := "()I" } : Jvm.MethodName) prog_11_method_2_code (1 : Nat) (Option.some Jvm.ClassFile.FieldType.int)) ∈ lw_all := lw_g (lw_at lw_m5 162 rfl) rfl
theorem q1221 : (Jvm.Cond.selects "ParrotSpeech$Parrot" ({ cls := "ParrotSpeech$Bird", name := "kind", desc := "()I" } : Jvm.MethodName) ({ cls := "ParrotSpeech$Parrot", name := "kind", desc := "()I" } : Jvm.MethodName)) ∈ lw_all := lw_g (lw_at lw_m5 174 rfl) rfl
theorem q1298 : (Jvm.Cond.castable "ParrotSpeech$Parrot" "ParrotSpeech$Voice") ∈ lw_tbl := lw_at lw_m6 11 rfl
theorem q1299 : (Jvm.Cond.unhidden "ParrotSpeech$Parrot" "hears" "()I") ∈ lw_tbl := lw_at lw_m6 12 rfl
theorem q1301 : (Jvm.Cond.unhidden "ParrotSpeech$Parrot" "gets" "()I") ∈ lw_tbl := lw_at lw_m6 14 rfl
theorem q1334 : (Jvm.Cond.instanceMethod ({ cls := "ParrotSpeech$Parrot", name := "says", desc := "()I" } : Jvm.MethodName)) ∈ lw_all := lw_g (lw_at lw_m6 47 rfl) rfl
theorem q1335 : (Jvm.Cond.code ({ cls := "ParrotSpeech$Parrot", name := "says", desc := "()I" } : Jvm.MethodName) prog_11_method_3_code (1 : Nat) (Option.some Jvm.ClassFile.FieldType.int)) ∈ lw_all := lw_g (lw_at lw_m6 48 rfl) rfl
theorem q1343 : (Jvm.Cond.publicMethod ({ cls := "ParrotSpeech$Parrot", name := "says", desc := "()I" } : Jvm.MethodName)) ∈ lw_tbl := lw_at lw_m6 56 rfl
theorem q1346 : (Jvm.Cond.selects "ParrotSpeech$Parrot" ({ cls := "ParrotSpeech$Voice", name := "says", desc := "()I" } : Jvm.MethodName) ({ cls := "ParrotSpeech$Parrot", name := "says", desc := "()I" } : Jvm.MethodName)) ∈ lw_all := lw_g (lw_at lw_m6 59 rfl) rfl
theorem q1347 : (Jvm.Cond.unhidden "ParrotSpeech$Parrot" "says" "()I") ∈ lw_tbl := lw_at lw_m6 60 rfl
theorem q1350 : (Jvm.Cond.unhidden "ParrotSpeech$Parrot" "silences" "()Z") ∈ lw_tbl := lw_at lw_m6 63 rfl
theorem q1379 : (Jvm.Cond.unhidden "ParrotSpeech$Parrot" "loses" "()I") ∈ lw_tbl := lw_at lw_m6 92 rfl
theorem q2251 : (Jvm.Cond.sameMethod "ParrotSpeech$Parrot" "ParrotSpeech$Parrot" "kind" "()I") ∈ lw_all := lw_g (lw_at lw_m10 4 rfl) rfl
theorem q2254 : (Jvm.Cond.sameMethod "ParrotSpeech$Parrot" "ParrotSpeech$Parrot" "says" "()I") ∈ lw_all := lw_g (lw_at lw_m10 7 rfl) rfl
theorem q2262 : (Jvm.Cond.castable "ParrotSpeech$Parrot" "ParrotSpeech$Bird") ∈ lw_tbl := lw_at lw_m10 15 rfl
theorem q2287 : (Jvm.Cond.castable "ParrotSpeech$Parrot" "java/lang/Object") ∈ lw_tbl := lw_at lw_m10 40 rfl
theorem in_X11 : ∀ w ∈ wsX110, w ∈ lw_all := lw_in wsX110 [1149] (by decide +kernel) (by decide +kernel)

/-! ParrotSpeech$Grey -/
set_option maxRecDepth 100000
def RX12 : String := "ParrotSpeech$Grey"
def TX12 : u_T := fun k => match k with
  | _ => ("ParrotSpeech$Bird", "number", "I", true)
def tyX12 : Nat → FieldType := fun k => match k with
  | _ => .int
abbrev wsX120 : List Cond := u_ws RX12 TX12 1
theorem nmX12 : ∀ a, a < 1 → ∀ b, b < 1 → a ≠ b → (TX12 a).2.1 ≠ (TX12 b).2.1 := by decide +kernel
theorem tyX12_ok : ∀ k, k < 1 → parseFieldDescriptor (TX12 k).2.2.1 = some (tyX12 k) := by decide +kernel
abbrev cX12_init : ByteArray := prog_7_method_1_code
def yX12_init : MethodName := ⟨RX12, "<init>", "(I)V"⟩
def dkwX12_init_0 : List UInt8 := [42, 27, 183, 0, 1, 177]
abbrev dktX12_init_0 : List UInt8 := dkwX12_init_0 ++ []
theorem dksX12_init_0 : cX12_init.data.toList.drop 0 = dktX12_init_0 := by decide +kernel
theorem dX12_init_0 : decode cX12_init 0 = .ok (.aload_n 0, 1) := dk_42 (dk_at dksX12_init_0 0 rfl rfl)
theorem dX12_init_1 : decode cX12_init 1 = .ok (.iload_n 1, 1) := dk_27 (dk_at dksX12_init_0 1 rfl rfl)
theorem dX12_init_2 : decode cX12_init 2 = .ok (.invokespecial 1, 3) := dk_183 0 1 (dk_at dksX12_init_0 2 rfl rfl)
theorem dX12_init_5 : decode cX12_init 5 = .ok (.return_, 1) := dk_177 (dk_at dksX12_init_0 5 rfl rfl)
abbrev cX12_kind : ByteArray := prog_7_method_2_code
def yX12_kind : MethodName := ⟨RX12, "kind", "()I"⟩
def dkwX12_kind_0 : List UInt8 := [4, 42, 183, 0, 7, 96, 172]
abbrev dktX12_kind_0 : List UInt8 := dkwX12_kind_0 ++ []
theorem dksX12_kind_0 : cX12_kind.data.toList.drop 0 = dktX12_kind_0 := by decide +kernel
theorem dX12_kind_0 : decode cX12_kind 0 = .ok (.iconst 1, 1) := dk_4 (dk_at dksX12_kind_0 0 rfl rfl)
theorem dX12_kind_1 : decode cX12_kind 1 = .ok (.aload_n 0, 1) := dk_42 (dk_at dksX12_kind_0 1 rfl rfl)
theorem dX12_kind_2 : decode cX12_kind 2 = .ok (.invokespecial 7, 3) := dk_183 0 7 (dk_at dksX12_kind_0 2 rfl rfl)
theorem dX12_kind_5 : decode cX12_kind 5 = .ok (.iadd, 1) := dk_96 (dk_at dksX12_kind_0 5 rfl rfl)
theorem dX12_kind_6 : decode cX12_kind 6 = .ok (.ireturn, 1) := dk_172 (dk_at dksX12_kind_0 6 rfl rfl)
abbrev cX12_gets : ByteArray := prog_7_method_3_code
def yX12_gets : MethodName := ⟨RX12, "gets", "()I"⟩
def dkwX12_gets_0 : List UInt8 := [42, 183, 0, 11, 5, 96, 172]
abbrev dktX12_gets_0 : List UInt8 := dkwX12_gets_0 ++ []
theorem dksX12_gets_0 : cX12_gets.data.toList.drop 0 = dktX12_gets_0 := by decide +kernel
theorem dX12_gets_0 : decode cX12_gets 0 = .ok (.aload_n 0, 1) := dk_42 (dk_at dksX12_gets_0 0 rfl rfl)
theorem dX12_gets_1 : decode cX12_gets 1 = .ok (.invokespecial 11, 3) := dk_183 0 11 (dk_at dksX12_gets_0 1 rfl rfl)
theorem dX12_gets_4 : decode cX12_gets 4 = .ok (.iconst 2, 1) := dk_5 (dk_at dksX12_gets_0 4 rfl rfl)
theorem dX12_gets_5 : decode cX12_gets 5 = .ok (.iadd, 1) := dk_96 (dk_at dksX12_gets_0 5 rfl rfl)
theorem dX12_gets_6 : decode cX12_gets 6 = .ok (.ireturn, 1) := dk_172 (dk_at dksX12_gets_0 6 rfl rfl)
abbrev cX12_loses : ByteArray := prog_7_method_4_code
def yX12_loses : MethodName := ⟨RX12, "loses", "()I"⟩
def dkwX12_loses_0 : List UInt8 := [42, 183, 0, 14, 4, 100, 172]
abbrev dktX12_loses_0 : List UInt8 := dkwX12_loses_0 ++ []
theorem dksX12_loses_0 : cX12_loses.data.toList.drop 0 = dktX12_loses_0 := by decide +kernel
theorem dX12_loses_0 : decode cX12_loses 0 = .ok (.aload_n 0, 1) := dk_42 (dk_at dksX12_loses_0 0 rfl rfl)
theorem dX12_loses_1 : decode cX12_loses 1 = .ok (.invokespecial 14, 3) := dk_183 0 14 (dk_at dksX12_loses_0 1 rfl rfl)
theorem dX12_loses_4 : decode cX12_loses 4 = .ok (.iconst 1, 1) := dk_4 (dk_at dksX12_loses_0 4 rfl rfl)
theorem dX12_loses_5 : decode cX12_loses 5 = .ok (.isub, 1) := dk_100 (dk_at dksX12_loses_0 5 rfl rfl)
theorem dX12_loses_6 : decode cX12_loses 6 = .ok (.ireturn, 1) := dk_172 (dk_at dksX12_loses_0 6 rfl rfl)
theorem q123 : (Jvm.Cond.initialized "ParrotSpeech$Grey") ∈ lw_all := lw_g (lw_at lw_m1 36 rfl) rfl
theorem q714 : (Jvm.Cond.selects "ParrotSpeech$Grey" ({ cls := "java/lang/Object", name := "equals", desc := "(Ljava/lang/Object;)Z" } : Jvm.MethodName) ({ cls := "java/lang/Object", name := "equals", desc := "(Ljava/lang/Object;)Z" } : Jvm.MethodName)) ∈ lw_all := lw_g (lw_at lw_m3 147 rfl) rfl
theorem q971 : (Jvm.Cond.selects "ParrotSpeech$Grey" ({ cls := "java/lang/Object", name := "getClass", desc := "()Ljava/lang/Class;" } : Jvm.MethodName) ({ cls := "java/lang/Object", name := "getClass", desc := "()Ljava/lang/Class;" } : Jvm.MethodName)) ∈ lw_all := lw_g (lw_at lw_m4 164 rfl) rfl
theorem q1153 : (Jvm.Cond.instantiable "ParrotSpeech$Grey" (1 : Nat)) ∈ lw_all := lw_g (lw_at lw_m5 106 rfl) rfl
theorem q1155 : (Jvm.Cond.instanceMethod ({ cls := "ParrotSpeech$Grey", name := "<init>", desc := "(I)V" } : Jvm.MethodName)) ∈ lw_all := lw_g (lw_at lw_m5 108 rfl) rfl
theorem q1156 : (Jvm.Cond.code ({ cls := "ParrotSpeech$Grey", name := "<init>", desc := "(I)V" } : Jvm.MethodName) prog_7_method_1_code (2 : Nat) (Option.none : Option Jvm.ClassFile.FieldType)) ∈ lw_all := lw_g (lw_at lw_m5 109 rfl) rfl
theorem q1157 : (Jvm.Cond.methodLink "ParrotSpeech$Grey" (1 : Nat) ({ cls := "ParrotSpeech$Parrot", name := "<init>", desc := "(I)V" } : Jvm.MethodName)) ∈ lw_all := lw_g (lw_at lw_m5 110 rfl) rfl
theorem q1158 : (Jvm.Cond.laysFinal "ParrotSpeech$Grey" "ParrotSpeech$Bird" "number" "I") ∈ lw_all := lw_g (lw_at lw_m5 111 rfl) rfl
theorem q1159 : (Jvm.Cond.superclass "ParrotSpeech$Grey" "ParrotSpeech$Parrot") ∈ lw_all := lw_g (lw_at lw_m5 112 rfl) rfl
theorem q1216 : (Jvm.Cond.selects "ParrotSpeech$Grey" ({ cls := "ParrotSpeech$Bird", name := "kind", desc := "()I" } : Jvm.MethodName) ({ cls := "ParrotSpeech$Grey", name := "kind", desc := "()I" } : Jvm.MethodName)) ∈ lw_all := lw_g (lw_at lw_m5 169 rfl) rfl
theorem q1217 : (Jvm.Cond.instanceMethod ({ cls := "ParrotSpeech$Grey", name := "kind", desc := "()I" } : Jvm.MethodName)) ∈ lw_all := lw_g (lw_at lw_m5 170 rfl) rfl
theorem q1218 : (Jvm.Cond.code ({ cls := "ParrotSpeech$Grey", name := "kind", desc := "()I" } : Jvm.MethodName) prog_7_method_2_code (1 : Nat) (Option.some Jvm.ClassFile.FieldType.int)) ∈ lw_all := lw_g (lw_at lw_m5 171 rfl) rfl
theorem q1219 : (Jvm.Cond.methodLink "ParrotSpeech$Grey" (7 : Nat) ({ cls := "ParrotSpeech$Parrot", name := "kind", desc := "()I" } : Jvm.MethodName)) ∈ lw_all := lw_g (lw_at lw_m5 172 rfl) rfl
theorem q1272 : (Jvm.Cond.selects "ParrotSpeech$Grey" ({ cls := "ParrotSpeech$Voice", name := "gets", desc := "()I" } : Jvm.MethodName) ({ cls := "ParrotSpeech$Grey", name := "gets", desc := "()I" } : Jvm.MethodName)) ∈ lw_all := lw_g (lw_at lw_m5 225 rfl) rfl
theorem q1273 : (Jvm.Cond.instanceMethod ({ cls := "ParrotSpeech$Grey", name := "gets", desc := "()I" } : Jvm.MethodName)) ∈ lw_all := lw_g (lw_at lw_m5 226 rfl) rfl
theorem q1274 : (Jvm.Cond.code ({ cls := "ParrotSpeech$Grey", name := "gets", desc := "()I" } : Jvm.MethodName) prog_7_method_3_code (1 : Nat) (Option.some Jvm.ClassFile.FieldType.int)) ∈ lw_all := lw_g (lw_at lw_m5 227 rfl) rfl
theorem q1292 : (Jvm.Cond.castable "ParrotSpeech$Grey" "ParrotSpeech$Voice") ∈ lw_tbl := lw_at lw_m6 5 rfl
theorem q1293 : (Jvm.Cond.unhidden "ParrotSpeech$Grey" "hears" "()I") ∈ lw_tbl := lw_at lw_m6 6 rfl
theorem q1341 : (Jvm.Cond.selects "ParrotSpeech$Grey" ({ cls := "ParrotSpeech$Voice", name := "says", desc := "()I" } : Jvm.MethodName) ({ cls := "ParrotSpeech$Parrot", name := "says", desc := "()I" } : Jvm.MethodName)) ∈ lw_all := lw_g (lw_at lw_m6 54 rfl) rfl
theorem q1342 : (Jvm.Cond.unhidden "ParrotSpeech$Grey" "says" "()I") ∈ lw_tbl := lw_at lw_m6 55 rfl
theorem q1348 : (Jvm.Cond.unhidden "ParrotSpeech$Grey" "silences" "()Z") ∈ lw_tbl := lw_at lw_m6 61 rfl
theorem q1373 : (Jvm.Cond.selects "ParrotSpeech$Grey" ({ cls := "ParrotSpeech$Voice", name := "loses", desc := "()I" } : Jvm.MethodName) ({ cls := "ParrotSpeech$Grey", name := "loses", desc := "()I" } : Jvm.MethodName)) ∈ lw_all := lw_g (lw_at lw_m6 86 rfl) rfl
theorem q1374 : (Jvm.Cond.instanceMethod ({ cls := "ParrotSpeech$Grey", name := "loses", desc := "()I" } : Jvm.MethodName)) ∈ lw_all := lw_g (lw_at lw_m6 87 rfl) rfl
theorem q1375 : (Jvm.Cond.code ({ cls := "ParrotSpeech$Grey", name := "loses", desc := "()I" } : Jvm.MethodName) prog_7_method_4_code (1 : Nat) (Option.some Jvm.ClassFile.FieldType.int)) ∈ lw_all := lw_g (lw_at lw_m6 88 rfl) rfl
theorem q2260 : (Jvm.Cond.castable "ParrotSpeech$Grey" "ParrotSpeech$Bird") ∈ lw_tbl := lw_at lw_m10 13 rfl
theorem q2264 : (Jvm.Cond.castable "ParrotSpeech$Grey" "ParrotSpeech$Parrot") ∈ lw_tbl := lw_at lw_m10 17 rfl
theorem q2288 : (Jvm.Cond.castable "ParrotSpeech$Grey" "java/lang/Object") ∈ lw_tbl := lw_at lw_m10 41 rfl
theorem in_X12 : ∀ w ∈ wsX120, w ∈ lw_all := lw_in wsX120 [1158] (by decide +kernel) (by decide +kernel)

/-! ParrotSpeech$Cockatoo -/
set_option maxRecDepth 100000
def RX13 : String := "ParrotSpeech$Cockatoo"
def TX13 : u_T := fun k => match k with
  | _ => ("ParrotSpeech$Bird", "number", "I", true)
def tyX13 : Nat → FieldType := fun k => match k with
  | _ => .int
abbrev wsX130 : List Cond := u_ws RX13 TX13 1
theorem nmX13 : ∀ a, a < 1 → ∀ b, b < 1 → a ≠ b → (TX13 a).2.1 ≠ (TX13 b).2.1 := by decide +kernel
theorem tyX13_ok : ∀ k, k < 1 → parseFieldDescriptor (TX13 k).2.2.1 = some (tyX13 k) := by decide +kernel
abbrev cX13_init : ByteArray := prog_3_method_1_code
def yX13_init : MethodName := ⟨RX13, "<init>", "(I)V"⟩
def dkwX13_init_0 : List UInt8 := [42, 27, 183, 0, 1, 177]
abbrev dktX13_init_0 : List UInt8 := dkwX13_init_0 ++ []
theorem dksX13_init_0 : cX13_init.data.toList.drop 0 = dktX13_init_0 := by decide +kernel
theorem dX13_init_0 : decode cX13_init 0 = .ok (.aload_n 0, 1) := dk_42 (dk_at dksX13_init_0 0 rfl rfl)
theorem dX13_init_1 : decode cX13_init 1 = .ok (.iload_n 1, 1) := dk_27 (dk_at dksX13_init_0 1 rfl rfl)
theorem dX13_init_2 : decode cX13_init 2 = .ok (.invokespecial 1, 3) := dk_183 0 1 (dk_at dksX13_init_0 2 rfl rfl)
theorem dX13_init_5 : decode cX13_init 5 = .ok (.return_, 1) := dk_177 (dk_at dksX13_init_0 5 rfl rfl)
abbrev cX13_kind : ByteArray := prog_3_method_2_code
def yX13_kind : MethodName := ⟨RX13, "kind", "()I"⟩
def dkwX13_kind_0 : List UInt8 := [5, 42, 183, 0, 7, 96, 172]
abbrev dktX13_kind_0 : List UInt8 := dkwX13_kind_0 ++ []
theorem dksX13_kind_0 : cX13_kind.data.toList.drop 0 = dktX13_kind_0 := by decide +kernel
theorem dX13_kind_0 : decode cX13_kind 0 = .ok (.iconst 2, 1) := dk_5 (dk_at dksX13_kind_0 0 rfl rfl)
theorem dX13_kind_1 : decode cX13_kind 1 = .ok (.aload_n 0, 1) := dk_42 (dk_at dksX13_kind_0 1 rfl rfl)
theorem dX13_kind_2 : decode cX13_kind 2 = .ok (.invokespecial 7, 3) := dk_183 0 7 (dk_at dksX13_kind_0 2 rfl rfl)
theorem dX13_kind_5 : decode cX13_kind 5 = .ok (.iadd, 1) := dk_96 (dk_at dksX13_kind_0 5 rfl rfl)
theorem dX13_kind_6 : decode cX13_kind 6 = .ok (.ireturn, 1) := dk_172 (dk_at dksX13_kind_0 6 rfl rfl)
abbrev cX13_says : ByteArray := prog_3_method_3_code
def yX13_says : MethodName := ⟨RX13, "says", "()I"⟩
def dkwX13_says_0 : List UInt8 := [5, 42, 183, 0, 11, 104, 172]
abbrev dktX13_says_0 : List UInt8 := dkwX13_says_0 ++ []
theorem dksX13_says_0 : cX13_says.data.toList.drop 0 = dktX13_says_0 := by decide +kernel
theorem dX13_says_0 : decode cX13_says 0 = .ok (.iconst 2, 1) := dk_5 (dk_at dksX13_says_0 0 rfl rfl)
theorem dX13_says_1 : decode cX13_says 1 = .ok (.aload_n 0, 1) := dk_42 (dk_at dksX13_says_0 1 rfl rfl)
theorem dX13_says_2 : decode cX13_says 2 = .ok (.invokespecial 11, 3) := dk_183 0 11 (dk_at dksX13_says_0 2 rfl rfl)
theorem dX13_says_5 : decode cX13_says 5 = .ok (.imul, 1) := dk_104 (dk_at dksX13_says_0 5 rfl rfl)
theorem dX13_says_6 : decode cX13_says 6 = .ok (.ireturn, 1) := dk_172 (dk_at dksX13_says_0 6 rfl rfl)
theorem q124 : (Jvm.Cond.initialized "ParrotSpeech$Cockatoo") ∈ lw_all := lw_g (lw_at lw_m1 37 rfl) rfl
theorem q710 : (Jvm.Cond.selects "ParrotSpeech$Cockatoo" ({ cls := "java/lang/Object", name := "equals", desc := "(Ljava/lang/Object;)Z" } : Jvm.MethodName) ({ cls := "java/lang/Object", name := "equals", desc := "(Ljava/lang/Object;)Z" } : Jvm.MethodName)) ∈ lw_all := lw_g (lw_at lw_m3 143 rfl) rfl
theorem q967 : (Jvm.Cond.selects "ParrotSpeech$Cockatoo" ({ cls := "java/lang/Object", name := "getClass", desc := "()Ljava/lang/Class;" } : Jvm.MethodName) ({ cls := "java/lang/Object", name := "getClass", desc := "()Ljava/lang/Class;" } : Jvm.MethodName)) ∈ lw_all := lw_g (lw_at lw_m4 160 rfl) rfl
theorem q1161 : (Jvm.Cond.instantiable "ParrotSpeech$Cockatoo" (1 : Nat)) ∈ lw_all := lw_g (lw_at lw_m5 114 rfl) rfl
theorem q1163 : (Jvm.Cond.instanceMethod ({ cls := "ParrotSpeech$Cockatoo", name := "<init>", desc := "(I)V" } : Jvm.MethodName)) ∈ lw_all := lw_g (lw_at lw_m5 116 rfl) rfl
theorem q1164 : (Jvm.Cond.code ({ cls := "ParrotSpeech$Cockatoo", name := "<init>", desc := "(I)V" } : Jvm.MethodName) prog_3_method_1_code (2 : Nat) (Option.none : Option Jvm.ClassFile.FieldType)) ∈ lw_all := lw_g (lw_at lw_m5 117 rfl) rfl
theorem q1165 : (Jvm.Cond.methodLink "ParrotSpeech$Cockatoo" (1 : Nat) ({ cls := "ParrotSpeech$Parrot", name := "<init>", desc := "(I)V" } : Jvm.MethodName)) ∈ lw_all := lw_g (lw_at lw_m5 118 rfl) rfl
theorem q1166 : (Jvm.Cond.laysFinal "ParrotSpeech$Cockatoo" "ParrotSpeech$Bird" "number" "I") ∈ lw_all := lw_g (lw_at lw_m5 119 rfl) rfl
theorem q1167 : (Jvm.Cond.superclass "ParrotSpeech$Cockatoo" "ParrotSpeech$Parrot") ∈ lw_all := lw_g (lw_at lw_m5 120 rfl) rfl
theorem q1204 : (Jvm.Cond.selects "ParrotSpeech$Cockatoo" ({ cls := "ParrotSpeech$Bird", name := "kind", desc := "()I" } : Jvm.MethodName) ({ cls := "ParrotSpeech$Cockatoo", name := "kind", desc := "()I" } : Jvm.MethodName)) ∈ lw_all := lw_g (lw_at lw_m5 157 rfl) rfl
theorem q1205 : (Jvm.Cond.instanceMethod ({ cls := "ParrotSpeech$Cockatoo", name := "kind", desc := "()I" } : Jvm.MethodName)) ∈ lw_all := lw_g (lw_at lw_m5 158 rfl) rfl
theorem q1206 : (Jvm.Cond.code ({ cls := "ParrotSpeech$Cockatoo", name := "kind", desc := "()I" } : Jvm.MethodName) prog_3_method_2_code (1 : Nat) (Option.some Jvm.ClassFile.FieldType.int)) ∈ lw_all := lw_g (lw_at lw_m5 159 rfl) rfl
theorem q1207 : (Jvm.Cond.methodLink "ParrotSpeech$Cockatoo" (7 : Nat) ({ cls := "ParrotSpeech$Parrot", name := "kind", desc := "()I" } : Jvm.MethodName)) ∈ lw_all := lw_g (lw_at lw_m5 160 rfl) rfl
theorem q1265 : (Jvm.Cond.unhidden "ParrotSpeech$Cockatoo" "gets" "()I") ∈ lw_tbl := lw_at lw_m5 218 rfl
theorem q1281 : (Jvm.Cond.castable "ParrotSpeech$Cockatoo" "ParrotSpeech$Voice") ∈ lw_tbl := lw_at lw_m5 234 rfl
theorem q1282 : (Jvm.Cond.unhidden "ParrotSpeech$Cockatoo" "hears" "()I") ∈ lw_tbl := lw_at lw_m5 235 rfl
theorem q1318 : (Jvm.Cond.unhidden "ParrotSpeech$Cockatoo" "silences" "()Z") ∈ lw_tbl := lw_at lw_m6 31 rfl
theorem q1328 : (Jvm.Cond.selects "ParrotSpeech$Cockatoo" ({ cls := "ParrotSpeech$Voice", name := "says", desc := "()I" } : Jvm.MethodName) ({ cls := "ParrotSpeech$Cockatoo", name := "says", desc := "()I" } : Jvm.MethodName)) ∈ lw_all := lw_g (lw_at lw_m6 41 rfl) rfl
theorem q1329 : (Jvm.Cond.unhidden "ParrotSpeech$Cockatoo" "says" "()I") ∈ lw_tbl := lw_at lw_m6 42 rfl
theorem q1330 : (Jvm.Cond.instanceMethod ({ cls := "ParrotSpeech$Cockatoo", name := "says", desc := "()I" } : Jvm.MethodName)) ∈ lw_all := lw_g (lw_at lw_m6 43 rfl) rfl
theorem q1331 : (Jvm.Cond.publicMethod ({ cls := "ParrotSpeech$Cockatoo", name := "says", desc := "()I" } : Jvm.MethodName)) ∈ lw_tbl := lw_at lw_m6 44 rfl
theorem q1332 : (Jvm.Cond.code ({ cls := "ParrotSpeech$Cockatoo", name := "says", desc := "()I" } : Jvm.MethodName) prog_3_method_3_code (1 : Nat) (Option.some Jvm.ClassFile.FieldType.int)) ∈ lw_all := lw_g (lw_at lw_m6 45 rfl) rfl
theorem q1333 : (Jvm.Cond.methodLink "ParrotSpeech$Cockatoo" (11 : Nat) ({ cls := "ParrotSpeech$Parrot", name := "says", desc := "()I" } : Jvm.MethodName)) ∈ lw_all := lw_g (lw_at lw_m6 46 rfl) rfl
theorem q1369 : (Jvm.Cond.unhidden "ParrotSpeech$Cockatoo" "loses" "()I") ∈ lw_tbl := lw_at lw_m6 82 rfl
theorem q2258 : (Jvm.Cond.castable "ParrotSpeech$Cockatoo" "ParrotSpeech$Bird") ∈ lw_tbl := lw_at lw_m10 11 rfl
theorem q2263 : (Jvm.Cond.castable "ParrotSpeech$Cockatoo" "ParrotSpeech$Parrot") ∈ lw_tbl := lw_at lw_m10 16 rfl
theorem q2289 : (Jvm.Cond.castable "ParrotSpeech$Cockatoo" "java/lang/Object") ∈ lw_tbl := lw_at lw_m10 42 rfl
theorem in_X13 : ∀ w ∈ wsX130, w ∈ lw_all := lw_in wsX130 [1166] (by decide +kernel) (by decide +kernel)

/-! ParrotSpeech$Hawk -/
set_option maxRecDepth 100000
def RX14 : String := "ParrotSpeech$Hawk"
def TX14 : u_T := fun k => match k with
  | _ => ("ParrotSpeech$Bird", "number", "I", true)
def tyX14 : Nat → FieldType := fun k => match k with
  | _ => .int
abbrev wsX140 : List Cond := u_ws RX14 TX14 1
theorem nmX14 : ∀ a, a < 1 → ∀ b, b < 1 → a ≠ b → (TX14 a).2.1 ≠ (TX14 b).2.1 := by decide +kernel
theorem tyX14_ok : ∀ k, k < 1 → parseFieldDescriptor (TX14 k).2.2.1 = some (tyX14 k) := by decide +kernel
abbrev cX14_init : ByteArray := prog_8_method_1_code
def yX14_init : MethodName := ⟨RX14, "<init>", "(I)V"⟩
def dkwX14_init_0 : List UInt8 := [42, 27, 183, 0, 1, 177]
abbrev dktX14_init_0 : List UInt8 := dkwX14_init_0 ++ []
theorem dksX14_init_0 : cX14_init.data.toList.drop 0 = dktX14_init_0 := by decide +kernel
theorem dX14_init_0 : decode cX14_init 0 = .ok (.aload_n 0, 1) := dk_42 (dk_at dksX14_init_0 0 rfl rfl)
theorem dX14_init_1 : decode cX14_init 1 = .ok (.iload_n 1, 1) := dk_27 (dk_at dksX14_init_0 1 rfl rfl)
theorem dX14_init_2 : decode cX14_init 2 = .ok (.invokespecial 1, 3) := dk_183 0 1 (dk_at dksX14_init_0 2 rfl rfl)
theorem dX14_init_5 : decode cX14_init 5 = .ok (.return_, 1) := dk_177 (dk_at dksX14_init_0 5 rfl rfl)
abbrev cX14_kind : ByteArray := prog_8_method_2_code
def yX14_kind : MethodName := ⟨RX14, "kind", "()I"⟩
theorem dX14_kind_0 : decode cX14_kind 0 = .ok (.iconst 3, 1) := by decide +kernel
theorem dX14_kind_1 : decode cX14_kind 1 = .ok (.ireturn, 1) := by decide +kernel
abbrev cX14_hears : ByteArray := prog_8_method_3_code
def yX14_hears : MethodName := ⟨RX14, "hears", "()I"⟩
theorem dX14_hears_0 : decode cX14_hears 0 = .ok (.iconst 0, 1) := by decide +kernel
theorem dX14_hears_1 : decode cX14_hears 1 = .ok (.ireturn, 1) := by decide +kernel
abbrev cX14_says : ByteArray := prog_8_method_4_code
def yX14_says : MethodName := ⟨RX14, "says", "()I"⟩
theorem dX14_says_0 : decode cX14_says 0 = .ok (.iconst 0, 1) := by decide +kernel
theorem dX14_says_1 : decode cX14_says 1 = .ok (.ireturn, 1) := by decide +kernel
theorem q125 : (Jvm.Cond.initialized "ParrotSpeech$Hawk") ∈ lw_all := lw_g (lw_at lw_m1 38 rfl) rfl
theorem q715 : (Jvm.Cond.selects "ParrotSpeech$Hawk" ({ cls := "java/lang/Object", name := "equals", desc := "(Ljava/lang/Object;)Z" } : Jvm.MethodName) ({ cls := "java/lang/Object", name := "equals", desc := "(Ljava/lang/Object;)Z" } : Jvm.MethodName)) ∈ lw_all := lw_g (lw_at lw_m3 148 rfl) rfl
theorem q972 : (Jvm.Cond.selects "ParrotSpeech$Hawk" ({ cls := "java/lang/Object", name := "getClass", desc := "()Ljava/lang/Class;" } : Jvm.MethodName) ({ cls := "java/lang/Object", name := "getClass", desc := "()Ljava/lang/Class;" } : Jvm.MethodName)) ∈ lw_all := lw_g (lw_at lw_m4 165 rfl) rfl
theorem q1169 : (Jvm.Cond.instantiable "ParrotSpeech$Hawk" (1 : Nat)) ∈ lw_all := lw_g (lw_at lw_m5 122 rfl) rfl
theorem q1171 : (Jvm.Cond.instanceMethod ({ cls := "ParrotSpeech$Hawk", name := "<init>", desc := "(I)V" } : Jvm.MethodName)) ∈ lw_all := lw_g (lw_at lw_m5 124 rfl) rfl
theorem q1172 : (Jvm.Cond.code ({ cls := "ParrotSpeech$Hawk", name := "<init>", desc := "(I)V" } : Jvm.MethodName) prog_8_method_1_code (2 : Nat) (Option.none : Option Jvm.ClassFile.FieldType)) ∈ lw_all := lw_g (lw_at lw_m5 125 rfl) rfl
theorem q1173 : (Jvm.Cond.methodLink "ParrotSpeech$Hawk" (1 : Nat) ({ cls := "ParrotSpeech$Bird", name := "<init>", desc := "(I)V" } : Jvm.MethodName)) ∈ lw_all := lw_g (lw_at lw_m5 126 rfl) rfl
theorem q1174 : (Jvm.Cond.laysFinal "ParrotSpeech$Hawk" "ParrotSpeech$Bird" "number" "I") ∈ lw_all := lw_g (lw_at lw_m5 127 rfl) rfl
theorem q1175 : (Jvm.Cond.superclass "ParrotSpeech$Hawk" "ParrotSpeech$Bird") ∈ lw_all := lw_g (lw_at lw_m5 128 rfl) rfl
theorem q1214 : (Jvm.Cond.instanceMethod ({ cls := "ParrotSpeech$Hawk", name := "kind", desc := "()I" } : Jvm.MethodName)) ∈ lw_all := lw_g (lw_at lw_m5 167 rfl) rfl
theorem q1215 : (Jvm.Cond.code ({ cls := "ParrotSpeech$Hawk", name := "kind", desc := "()I" } : Jvm.MethodName) prog_8_method_2_code (1 : Nat) (Option.some Jvm.ClassFile.FieldType.int)) ∈ lw_all := lw_g (lw_at lw_m5 168 rfl) rfl
theorem q1220 : (Jvm.Cond.selects "ParrotSpeech$Hawk" ({ cls := "ParrotSpeech$Bird", name := "kind", desc := "()I" } : Jvm.MethodName) ({ cls := "ParrotSpeech$Hawk", name := "kind", desc := "()I" } : Jvm.MethodName)) ∈ lw_all := lw_g (lw_at lw_m5 173 rfl) rfl
theorem q1270 : (Jvm.Cond.instanceMethod ({ cls := "ParrotSpeech$Hawk", name := "hears", desc := "()I" } : Jvm.MethodName)) ∈ lw_all := lw_g (lw_at lw_m5 223 rfl) rfl
theorem q1271 : (Jvm.Cond.code ({ cls := "ParrotSpeech$Hawk", name := "hears", desc := "()I" } : Jvm.MethodName) prog_8_method_3_code (1 : Nat) (Option.some Jvm.ClassFile.FieldType.int)) ∈ lw_all := lw_g (lw_at lw_m5 224 rfl) rfl
theorem q1294 : (Jvm.Cond.castable "ParrotSpeech$Hawk" "ParrotSpeech$Voice") ∈ lw_tbl := lw_at lw_m6 7 rfl
theorem q1295 : (Jvm.Cond.selects "ParrotSpeech$Hawk" ({ cls := "ParrotSpeech$Voice", name := "hears", desc := "()I" } : Jvm.MethodName) ({ cls := "ParrotSpeech$Hawk", name := "hears", desc := "()I" } : Jvm.MethodName)) ∈ lw_all := lw_g (lw_at lw_m6 8 rfl) rfl
theorem q1296 : (Jvm.Cond.unhidden "ParrotSpeech$Hawk" "hears" "()I") ∈ lw_tbl := lw_at lw_m6 9 rfl
theorem q1297 : (Jvm.Cond.publicMethod ({ cls := "ParrotSpeech$Hawk", name := "hears", desc := "()I" } : Jvm.MethodName)) ∈ lw_tbl := lw_at lw_m6 10 rfl
theorem q1300 : (Jvm.Cond.unhidden "ParrotSpeech$Hawk" "gets" "()I") ∈ lw_tbl := lw_at lw_m6 13 rfl
theorem q1338 : (Jvm.Cond.instanceMethod ({ cls := "ParrotSpeech$Hawk", name := "says", desc := "()I" } : Jvm.MethodName)) ∈ lw_all := lw_g (lw_at lw_m6 51 rfl) rfl
theorem q1339 : (Jvm.Cond.publicMethod ({ cls := "ParrotSpeech$Hawk", name := "says", desc := "()I" } : Jvm.MethodName)) ∈ lw_tbl := lw_at lw_m6 52 rfl
theorem q1340 : (Jvm.Cond.code ({ cls := "ParrotSpeech$Hawk", name := "says", desc := "()I" } : Jvm.MethodName) prog_8_method_4_code (1 : Nat) (Option.some Jvm.ClassFile.FieldType.int)) ∈ lw_all := lw_g (lw_at lw_m6 53 rfl) rfl
theorem q1344 : (Jvm.Cond.selects "ParrotSpeech$Hawk" ({ cls := "ParrotSpeech$Voice", name := "says", desc := "()I" } : Jvm.MethodName) ({ cls := "ParrotSpeech$Hawk", name := "says", desc := "()I" } : Jvm.MethodName)) ∈ lw_all := lw_g (lw_at lw_m6 57 rfl) rfl
theorem q1345 : (Jvm.Cond.unhidden "ParrotSpeech$Hawk" "says" "()I") ∈ lw_tbl := lw_at lw_m6 58 rfl
theorem q1349 : (Jvm.Cond.unhidden "ParrotSpeech$Hawk" "silences" "()Z") ∈ lw_tbl := lw_at lw_m6 62 rfl
theorem q1378 : (Jvm.Cond.unhidden "ParrotSpeech$Hawk" "loses" "()I") ∈ lw_tbl := lw_at lw_m6 91 rfl
theorem q2252 : (Jvm.Cond.sameMethod "ParrotSpeech$Hawk" "ParrotSpeech$Hawk" "kind" "()I") ∈ lw_all := lw_g (lw_at lw_m10 5 rfl) rfl
theorem q2253 : (Jvm.Cond.sameMethod "ParrotSpeech$Hawk" "ParrotSpeech$Hawk" "hears" "()I") ∈ lw_all := lw_g (lw_at lw_m10 6 rfl) rfl
theorem q2261 : (Jvm.Cond.castable "ParrotSpeech$Hawk" "ParrotSpeech$Bird") ∈ lw_tbl := lw_at lw_m10 14 rfl
theorem q2290 : (Jvm.Cond.castable "ParrotSpeech$Hawk" "java/lang/Object") ∈ lw_tbl := lw_at lw_m10 43 rfl
theorem in_X14 : ∀ w ∈ wsX140, w ∈ lw_all := lw_in wsX140 [1174] (by decide +kernel) (by decide +kernel)

/-! ParrotSpeech$Green -/
set_option maxRecDepth 100000
def RX15 : String := "ParrotSpeech$Green"
def TX15 : u_T := fun k => match k with
  | _ => ("ParrotSpeech$Bird", "number", "I", true)
def tyX15 : Nat → FieldType := fun k => match k with
  | _ => .int
abbrev wsX150 : List Cond := u_ws RX15 TX15 1
theorem nmX15 : ∀ a, a < 1 → ∀ b, b < 1 → a ≠ b → (TX15 a).2.1 ≠ (TX15 b).2.1 := by decide +kernel
theorem tyX15_ok : ∀ k, k < 1 → parseFieldDescriptor (TX15 k).2.2.1 = some (tyX15 k) := by decide +kernel
abbrev cX15_init : ByteArray := prog_6_method_1_code
def yX15_init : MethodName := ⟨RX15, "<init>", "(I)V"⟩
def dkwX15_init_0 : List UInt8 := [42, 27, 183, 0, 1, 177]
abbrev dktX15_init_0 : List UInt8 := dkwX15_init_0 ++ []
theorem dksX15_init_0 : cX15_init.data.toList.drop 0 = dktX15_init_0 := by decide +kernel
theorem dX15_init_0 : decode cX15_init 0 = .ok (.aload_n 0, 1) := dk_42 (dk_at dksX15_init_0 0 rfl rfl)
theorem dX15_init_1 : decode cX15_init 1 = .ok (.iload_n 1, 1) := dk_27 (dk_at dksX15_init_0 1 rfl rfl)
theorem dX15_init_2 : decode cX15_init 2 = .ok (.invokespecial 1, 3) := dk_183 0 1 (dk_at dksX15_init_0 2 rfl rfl)
theorem dX15_init_5 : decode cX15_init 5 = .ok (.return_, 1) := dk_177 (dk_at dksX15_init_0 5 rfl rfl)
abbrev cX15_kind : ByteArray := prog_6_method_2_code
def yX15_kind : MethodName := ⟨RX15, "kind", "()I"⟩
def dkwX15_kind_0 : List UInt8 := [4, 42, 183, 0, 7, 96, 172]
abbrev dktX15_kind_0 : List UInt8 := dkwX15_kind_0 ++ []
theorem dksX15_kind_0 : cX15_kind.data.toList.drop 0 = dktX15_kind_0 := by decide +kernel
theorem dX15_kind_0 : decode cX15_kind 0 = .ok (.iconst 1, 1) := dk_4 (dk_at dksX15_kind_0 0 rfl rfl)
theorem dX15_kind_1 : decode cX15_kind 1 = .ok (.aload_n 0, 1) := dk_42 (dk_at dksX15_kind_0 1 rfl rfl)
theorem dX15_kind_2 : decode cX15_kind 2 = .ok (.invokespecial 7, 3) := dk_183 0 7 (dk_at dksX15_kind_0 2 rfl rfl)
theorem dX15_kind_5 : decode cX15_kind 5 = .ok (.iadd, 1) := dk_96 (dk_at dksX15_kind_0 5 rfl rfl)
theorem dX15_kind_6 : decode cX15_kind 6 = .ok (.ireturn, 1) := dk_172 (dk_at dksX15_kind_0 6 rfl rfl)
abbrev cX15_gets : ByteArray := prog_6_method_4_code
def yX15_gets : MethodName := ⟨RX15, "gets", "()I"⟩
theorem dX15_gets_0 : decode cX15_gets 0 = .ok (.aload_n 0, 1) := by decide +kernel
theorem dX15_gets_1 : decode cX15_gets 1 = .ok (.invokespecial 11, 3) := by decide +kernel
theorem dX15_gets_4 : decode cX15_gets 4 = .ok (.ireturn, 1) := by decide +kernel
abbrev cX15_hears : ByteArray := prog_6_method_3_code
def yX15_hears : MethodName := ⟨RX15, "hears", "()I"⟩
def dkwX15_hears_0 : List UInt8 := [42, 183, 0, 11, 5, 96, 172]
abbrev dktX15_hears_0 : List UInt8 := dkwX15_hears_0 ++ []
theorem dksX15_hears_0 : cX15_hears.data.toList.drop 0 = dktX15_hears_0 := by decide +kernel
theorem dX15_hears_0 : decode cX15_hears 0 = .ok (.aload_n 0, 1) := dk_42 (dk_at dksX15_hears_0 0 rfl rfl)
theorem dX15_hears_1 : decode cX15_hears 1 = .ok (.invokespecial 11, 3) := dk_183 0 11 (dk_at dksX15_hears_0 1 rfl rfl)
theorem dX15_hears_4 : decode cX15_hears 4 = .ok (.iconst 2, 1) := dk_5 (dk_at dksX15_hears_0 4 rfl rfl)
theorem dX15_hears_5 : decode cX15_hears 5 = .ok (.iadd, 1) := dk_96 (dk_at dksX15_hears_0 5 rfl rfl)
theorem dX15_hears_6 : decode cX15_hears 6 = .ok (.ireturn, 1) := dk_172 (dk_at dksX15_hears_0 6 rfl rfl)
abbrev cX15_silences : ByteArray := prog_6_method_6_code
def yX15_silences : MethodName := ⟨RX15, "silences", "()Z"⟩
def dkwX15_silences_0 : List UInt8 := [42, 183, 0, 14, 154, 0, 7, 4, 167, 0, 4, 3, 172]
abbrev dktX15_silences_0 : List UInt8 := dkwX15_silences_0 ++ []
theorem dksX15_silences_0 : cX15_silences.data.toList.drop 0 = dktX15_silences_0 := by decide +kernel
theorem dX15_silences_0 : decode cX15_silences 0 = .ok (.aload_n 0, 1) := dk_42 (dk_at dksX15_silences_0 0 rfl rfl)
theorem dX15_silences_1 : decode cX15_silences 1 = .ok (.invokespecial 14, 3) := dk_183 0 14 (dk_at dksX15_silences_0 1 rfl rfl)
theorem dX15_silences_4 : decode cX15_silences 4 = .ok (.ifCond .ne 7, 3) := dk_154 0 7 (dk_at dksX15_silences_0 4 rfl rfl)
theorem dX15_silences_7 : decode cX15_silences 7 = .ok (.iconst 1, 1) := dk_4 (dk_at dksX15_silences_0 7 rfl rfl)
theorem dX15_silences_8 : decode cX15_silences 8 = .ok (.goto 4, 3) := dk_167 0 4 (dk_at dksX15_silences_0 8 rfl rfl)
theorem dX15_silences_11 : decode cX15_silences 11 = .ok (.iconst 0, 1) := dk_3 (dk_at dksX15_silences_0 11 rfl rfl)
theorem dX15_silences_12 : decode cX15_silences 12 = .ok (.ireturn, 1) := dk_172 (dk_at dksX15_silences_0 12 rfl rfl)
abbrev cX15_loses : ByteArray := prog_6_method_5_code
def yX15_loses : MethodName := ⟨RX15, "loses", "()I"⟩
theorem dX15_loses_0 : decode cX15_loses 0 = .ok (.aload_n 0, 1) := by decide +kernel
theorem dX15_loses_1 : decode cX15_loses 1 = .ok (.invokespecial 11, 3) := by decide +kernel
theorem dX15_loses_4 : decode cX15_loses 4 = .ok (.ireturn, 1) := by decide +kernel
theorem q126 : (Jvm.Cond.initialized "ParrotSpeech$Green") ∈ lw_all := lw_g (lw_at lw_m1 39 rfl) rfl
theorem q713 : (Jvm.Cond.selects "ParrotSpeech$Green" ({ cls := "java/lang/Object", name := "equals", desc := "(Ljava/lang/Object;)Z" } : Jvm.MethodName) ({ cls := "java/lang/Object", name := "equals", desc := "(Ljava/lang/Object;)Z" } : Jvm.MethodName)) ∈ lw_all := lw_g (lw_at lw_m3 146 rfl) rfl
theorem q970 : (Jvm.Cond.selects "ParrotSpeech$Green" ({ cls := "java/lang/Object", name := "getClass", desc := "()Ljava/lang/Class;" } : Jvm.MethodName) ({ cls := "java/lang/Object", name := "getClass", desc := "()Ljava/lang/Class;" } : Jvm.MethodName)) ∈ lw_all := lw_g (lw_at lw_m4 163 rfl) rfl
theorem q1177 : (Jvm.Cond.instantiable "ParrotSpeech$Green" (1 : Nat)) ∈ lw_all := lw_g (lw_at lw_m5 130 rfl) rfl
theorem q1179 : (Jvm.Cond.instanceMethod ({ cls := "ParrotSpeech$Green", name := "<init>", desc := "(I)V" } : Jvm.MethodName)) ∈ lw_all := lw_g (lw_at lw_m5 132 rfl) rfl
theorem q1180 : (Jvm.Cond.code ({ cls := "ParrotSpeech$Green", name := "<init>", desc := "(I)V" } : Jvm.MethodName) prog_6_method_1_code (2 : Nat) (Option.none : Option Jvm.ClassFile.FieldType)) ∈ lw_all := lw_g (lw_at lw_m5 133 rfl) rfl
theorem q1181 : (Jvm.Cond.methodLink "ParrotSpeech$Green" (1 : Nat) ({ cls := "ParrotSpeech$Hawk", name := "<init>", desc := "(I)V" } : Jvm.MethodName)) ∈ lw_all := lw_g (lw_at lw_m5 134 rfl) rfl
theorem q1182 : (Jvm.Cond.laysFinal "ParrotSpeech$Green" "ParrotSpeech$Bird" "number" "I") ∈ lw_all := lw_g (lw_at lw_m5 135 rfl) rfl
theorem q1183 : (Jvm.Cond.superclass "ParrotSpeech$Green" "ParrotSpeech$Hawk") ∈ lw_all := lw_g (lw_at lw_m5 136 rfl) rfl
theorem q1210 : (Jvm.Cond.selects "ParrotSpeech$Green" ({ cls := "ParrotSpeech$Bird", name := "kind", desc := "()I" } : Jvm.MethodName) ({ cls := "ParrotSpeech$Green", name := "kind", desc := "()I" } : Jvm.MethodName)) ∈ lw_all := lw_g (lw_at lw_m5 163 rfl) rfl
theorem q1211 : (Jvm.Cond.instanceMethod ({ cls := "ParrotSpeech$Green", name := "kind", desc := "()I" } : Jvm.MethodName)) ∈ lw_all := lw_g (lw_at lw_m5 164 rfl) rfl
theorem q1212 : (Jvm.Cond.code ({ cls := "ParrotSpeech$Green", name := "kind", desc := "()I" } : Jvm.MethodName) prog_6_method_2_code (1 : Nat) (Option.some Jvm.ClassFile.FieldType.int)) ∈ lw_all := lw_g (lw_at lw_m5 165 rfl) rfl
theorem q1213 : (Jvm.Cond.methodLink "ParrotSpeech$Green" (7 : Nat) ({ cls := "ParrotSpeech$Hawk", name := "kind", desc := "()I" } : Jvm.MethodName)) ∈ lw_all := lw_g (lw_at lw_m5 166 rfl) rfl
theorem q1266 : (Jvm.Cond.selects "ParrotSpeech$Green" ({ cls := "ParrotSpeech$Voice", name := "gets", desc := "()I" } : Jvm.MethodName) ({ cls := "ParrotSpeech$Green", name := "gets", desc := "()I" } : Jvm.MethodName)) ∈ lw_all := lw_g (lw_at lw_m5 219 rfl) rfl
theorem q1267 : (Jvm.Cond.instanceMethod ({ cls := "ParrotSpeech$Green", name := "gets", desc := "()I" } : Jvm.MethodName)) ∈ lw_all := lw_g (lw_at lw_m5 220 rfl) rfl
theorem q1268 : (Jvm.Cond.code ({ cls := "ParrotSpeech$Green", name := "gets", desc := "()I" } : Jvm.MethodName) prog_6_method_4_code (1 : Nat) (Option.some Jvm.ClassFile.FieldType.int)) ∈ lw_all := lw_g (lw_at lw_m5 221 rfl) rfl
theorem q1269 : (Jvm.Cond.methodLink "ParrotSpeech$Green" (11 : Nat) ({ cls := "ParrotSpeech$Hawk", name := "hears", desc := "()I" } : Jvm.MethodName)) ∈ lw_all := lw_g (lw_at lw_m5 222 rfl) rfl
theorem q1286 : (Jvm.Cond.castable "ParrotSpeech$Green" "ParrotSpeech$Voice") ∈ lw_tbl := lw_at lw_m5 239 rfl
theorem q1287 : (Jvm.Cond.selects "ParrotSpeech$Green" ({ cls := "ParrotSpeech$Voice", name := "hears", desc := "()I" } : Jvm.MethodName) ({ cls := "ParrotSpeech$Green", name := "hears", desc := "()I" } : Jvm.MethodName)) ∈ lw_all := lw_g (lw_at lw_m6 0 rfl) rfl
theorem q1288 : (Jvm.Cond.unhidden "ParrotSpeech$Green" "hears" "()I") ∈ lw_tbl := lw_at lw_m6 1 rfl
theorem q1289 : (Jvm.Cond.instanceMethod ({ cls := "ParrotSpeech$Green", name := "hears", desc := "()I" } : Jvm.MethodName)) ∈ lw_all := lw_g (lw_at lw_m6 2 rfl) rfl
theorem q1290 : (Jvm.Cond.publicMethod ({ cls := "ParrotSpeech$Green", name := "hears", desc := "()I" } : Jvm.MethodName)) ∈ lw_tbl := lw_at lw_m6 3 rfl
theorem q1291 : (Jvm.Cond.code ({ cls := "ParrotSpeech$Green", name := "hears", desc := "()I" } : Jvm.MethodName) prog_6_method_3_code (1 : Nat) (Option.some Jvm.ClassFile.FieldType.int)) ∈ lw_all := lw_g (lw_at lw_m6 4 rfl) rfl
theorem q1319 : (Jvm.Cond.selects "ParrotSpeech$Green" ({ cls := "ParrotSpeech$Voice", name := "silences", desc := "()Z" } : Jvm.MethodName) ({ cls := "ParrotSpeech$Green", name := "silences", desc := "()Z" } : Jvm.MethodName)) ∈ lw_all := lw_g (lw_at lw_m6 32 rfl) rfl
theorem q1320 : (Jvm.Cond.instanceMethod ({ cls := "ParrotSpeech$Green", name := "silences", desc := "()Z" } : Jvm.MethodName)) ∈ lw_all := lw_g (lw_at lw_m6 33 rfl) rfl
theorem q1321 : (Jvm.Cond.code ({ cls := "ParrotSpeech$Green", name := "silences", desc := "()Z" } : Jvm.MethodName) prog_6_method_6_code (1 : Nat) (Option.some Jvm.ClassFile.FieldType.boolean)) ∈ lw_all := lw_g (lw_at lw_m6 34 rfl) rfl
theorem q1336 : (Jvm.Cond.selects "ParrotSpeech$Green" ({ cls := "ParrotSpeech$Voice", name := "says", desc := "()I" } : Jvm.MethodName) ({ cls := "ParrotSpeech$Hawk", name := "says", desc := "()I" } : Jvm.MethodName)) ∈ lw_all := lw_g (lw_at lw_m6 49 rfl) rfl
theorem q1337 : (Jvm.Cond.unhidden "ParrotSpeech$Green" "says" "()I") ∈ lw_tbl := lw_at lw_m6 50 rfl
theorem q1370 : (Jvm.Cond.selects "ParrotSpeech$Green" ({ cls := "ParrotSpeech$Voice", name := "loses", desc := "()I" } : Jvm.MethodName) ({ cls := "ParrotSpeech$Green", name := "loses", desc := "()I" } : Jvm.MethodName)) ∈ lw_all := lw_g (lw_at lw_m6 83 rfl) rfl
theorem q1371 : (Jvm.Cond.instanceMethod ({ cls := "ParrotSpeech$Green", name := "loses", desc := "()I" } : Jvm.MethodName)) ∈ lw_all := lw_g (lw_at lw_m6 84 rfl) rfl
theorem q1372 : (Jvm.Cond.code ({ cls := "ParrotSpeech$Green", name := "loses", desc := "()I" } : Jvm.MethodName) prog_6_method_5_code (1 : Nat) (Option.some Jvm.ClassFile.FieldType.int)) ∈ lw_all := lw_g (lw_at lw_m6 85 rfl) rfl
theorem q2259 : (Jvm.Cond.castable "ParrotSpeech$Green" "ParrotSpeech$Bird") ∈ lw_tbl := lw_at lw_m10 12 rfl
theorem q2265 : (Jvm.Cond.castable "ParrotSpeech$Green" "ParrotSpeech$Hawk") ∈ lw_tbl := lw_at lw_m10 18 rfl
theorem q2291 : (Jvm.Cond.castable "ParrotSpeech$Green" "java/lang/Object") ∈ lw_tbl := lw_at lw_m10 44 rfl
theorem in_X15 : ∀ w ∈ wsX150, w ∈ lw_all := lw_in wsX150 [1182] (by decide +kernel) (by decide +kernel)

/-! ParrotSpeech$Voice -/
set_option maxRecDepth 100000
def RX16 : String := "ParrotSpeech$Voice"
abbrev cX16_gets : ByteArray := prog_16_method_2_code
def yX16_gets : MethodName := ⟨RX16, "gets", "()I"⟩
def dkwX16_gets_0 : List UInt8 := [6, 42, 185, 0, 1, 1, 0, 104, 172]
abbrev dktX16_gets_0 : List UInt8 := dkwX16_gets_0 ++ []
theorem dksX16_gets_0 : cX16_gets.data.toList.drop 0 = dktX16_gets_0 := by decide +kernel
theorem dX16_gets_0 : decode cX16_gets 0 = .ok (.iconst 3, 1) := dk_6 (dk_at dksX16_gets_0 0 rfl rfl)
theorem dX16_gets_1 : decode cX16_gets 1 = .ok (.aload_n 0, 1) := dk_42 (dk_at dksX16_gets_0 1 rfl rfl)
theorem dX16_gets_2 : decode cX16_gets 2 = .ok (.invokeinterface 1 1, 5) := by decide +kernel
theorem dX16_gets_7 : decode cX16_gets 7 = .ok (.imul, 1) := dk_104 (dk_at dksX16_gets_0 7 rfl rfl)
theorem dX16_gets_8 : decode cX16_gets 8 = .ok (.ireturn, 1) := dk_172 (dk_at dksX16_gets_0 8 rfl rfl)
abbrev cX16_hears : ByteArray := prog_16_method_1_code
def yX16_hears : MethodName := ⟨RX16, "hears", "()I"⟩
theorem dX16_hears_0 : decode cX16_hears 0 = .ok (.iconst 1, 1) := by decide +kernel
theorem dX16_hears_1 : decode cX16_hears 1 = .ok (.ireturn, 1) := by decide +kernel
abbrev cX16_silences : ByteArray := prog_16_method_5_code
def yX16_silences : MethodName := ⟨RX16, "silences", "()Z"⟩
def dkwX16_silences_0 : List UInt8 := [42, 185, 0, 7, 1, 0, 154, 0, 7, 4, 167, 0, 4, 3, 172]
abbrev dktX16_silences_0 : List UInt8 := dkwX16_silences_0 ++ []
theorem dksX16_silences_0 : cX16_silences.data.toList.drop 0 = dktX16_silences_0 := by decide +kernel
theorem dX16_silences_0 : decode cX16_silences 0 = .ok (.aload_n 0, 1) := dk_42 (dk_at dksX16_silences_0 0 rfl rfl)
theorem dX16_silences_1 : decode cX16_silences 1 = .ok (.invokeinterface 7 1, 5) := by decide +kernel
theorem dX16_silences_6 : decode cX16_silences 6 = .ok (.ifCond .ne 7, 3) := dk_154 0 7 (dk_at dksX16_silences_0 6 rfl rfl)
theorem dX16_silences_9 : decode cX16_silences 9 = .ok (.iconst 1, 1) := dk_4 (dk_at dksX16_silences_0 9 rfl rfl)
theorem dX16_silences_10 : decode cX16_silences 10 = .ok (.goto 4, 3) := dk_167 0 4 (dk_at dksX16_silences_0 10 rfl rfl)
theorem dX16_silences_13 : decode cX16_silences 13 = .ok (.iconst 0, 1) := dk_3 (dk_at dksX16_silences_0 13 rfl rfl)
theorem dX16_silences_14 : decode cX16_silences 14 = .ok (.ireturn, 1) := dk_172 (dk_at dksX16_silences_0 14 rfl rfl)
abbrev cX16_loses : ByteArray := prog_16_method_4_code
def yX16_loses : MethodName := ⟨RX16, "loses", "()I"⟩
theorem dX16_loses_0 : decode cX16_loses 0 = .ok (.aload_n 0, 1) := by decide +kernel
theorem dX16_loses_1 : decode cX16_loses 1 = .ok (.invokeinterface 1 1, 5) := by decide +kernel
theorem dX16_loses_6 : decode cX16_loses 6 = .ok (.ireturn, 1) := by decide +kernel
theorem q1264 : (Jvm.Cond.declares ({ cls := "ParrotSpeech$Voice", name := "gets", desc := "()I" } : Jvm.MethodName)) ∈ lw_tbl := lw_at lw_m5 217 rfl
theorem q1275 : (Jvm.Cond.instanceMethod ({ cls := "ParrotSpeech$Voice", name := "gets", desc := "()I" } : Jvm.MethodName)) ∈ lw_all := lw_g (lw_at lw_m5 228 rfl) rfl
theorem q1276 : (Jvm.Cond.code ({ cls := "ParrotSpeech$Voice", name := "gets", desc := "()I" } : Jvm.MethodName) prog_16_method_2_code (1 : Nat) (Option.some Jvm.ClassFile.FieldType.int)) ∈ lw_all := lw_g (lw_at lw_m5 229 rfl) rfl
theorem q1277 : (Jvm.Cond.interfaceEntry "ParrotSpeech$Voice" (1 : Nat)) ∈ lw_tbl := lw_at lw_m5 230 rfl
theorem q1278 : (Jvm.Cond.methodLink "ParrotSpeech$Voice" (1 : Nat) ({ cls := "ParrotSpeech$Voice", name := "hears", desc := "()I" } : Jvm.MethodName)) ∈ lw_all := lw_g (lw_at lw_m5 231 rfl) rfl
theorem q1279 : (Jvm.Cond.interfaceMethod "ParrotSpeech$Voice" "ParrotSpeech$Voice" "hears" "()I") ∈ lw_tbl := lw_at lw_m5 232 rfl
theorem q1280 : (Jvm.Cond.declares ({ cls := "ParrotSpeech$Voice", name := "hears", desc := "()I" } : Jvm.MethodName)) ∈ lw_tbl := lw_at lw_m5 233 rfl
theorem q1283 : (Jvm.Cond.instanceMethod ({ cls := "ParrotSpeech$Voice", name := "hears", desc := "()I" } : Jvm.MethodName)) ∈ lw_all := lw_g (lw_at lw_m5 236 rfl) rfl
theorem q1284 : (Jvm.Cond.publicMethod ({ cls := "ParrotSpeech$Voice", name := "hears", desc := "()I" } : Jvm.MethodName)) ∈ lw_tbl := lw_at lw_m5 237 rfl
theorem q1285 : (Jvm.Cond.code ({ cls := "ParrotSpeech$Voice", name := "hears", desc := "()I" } : Jvm.MethodName) prog_16_method_1_code (1 : Nat) (Option.some Jvm.ClassFile.FieldType.int)) ∈ lw_all := lw_g (lw_at lw_m5 238 rfl) rfl
theorem q1302 : (Jvm.Cond.publicMethod ({ cls := "ParrotSpeech$Voice", name := "gets", desc := "()I" } : Jvm.MethodName)) ∈ lw_tbl := lw_at lw_m6 15 rfl
theorem q1317 : (Jvm.Cond.declares ({ cls := "ParrotSpeech$Voice", name := "silences", desc := "()Z" } : Jvm.MethodName)) ∈ lw_tbl := lw_at lw_m6 30 rfl
theorem q1322 : (Jvm.Cond.instanceMethod ({ cls := "ParrotSpeech$Voice", name := "silences", desc := "()Z" } : Jvm.MethodName)) ∈ lw_all := lw_g (lw_at lw_m6 35 rfl) rfl
theorem q1323 : (Jvm.Cond.code ({ cls := "ParrotSpeech$Voice", name := "silences", desc := "()Z" } : Jvm.MethodName) prog_16_method_5_code (1 : Nat) (Option.some Jvm.ClassFile.FieldType.boolean)) ∈ lw_all := lw_g (lw_at lw_m6 36 rfl) rfl
theorem q1324 : (Jvm.Cond.interfaceEntry "ParrotSpeech$Voice" (7 : Nat)) ∈ lw_tbl := lw_at lw_m6 37 rfl
theorem q1325 : (Jvm.Cond.methodLink "ParrotSpeech$Voice" (7 : Nat) ({ cls := "ParrotSpeech$Voice", name := "says", desc := "()I" } : Jvm.MethodName)) ∈ lw_all := lw_g (lw_at lw_m6 38 rfl) rfl
theorem q1326 : (Jvm.Cond.interfaceMethod "ParrotSpeech$Voice" "ParrotSpeech$Voice" "says" "()I") ∈ lw_tbl := lw_at lw_m6 39 rfl
theorem q1327 : (Jvm.Cond.declares ({ cls := "ParrotSpeech$Voice", name := "says", desc := "()I" } : Jvm.MethodName)) ∈ lw_tbl := lw_at lw_m6 40 rfl
theorem q1351 : (Jvm.Cond.publicMethod ({ cls := "ParrotSpeech$Voice", name := "silences", desc := "()Z" } : Jvm.MethodName)) ∈ lw_tbl := lw_at lw_m6 64 rfl
theorem q1368 : (Jvm.Cond.declares ({ cls := "ParrotSpeech$Voice", name := "loses", desc := "()I" } : Jvm.MethodName)) ∈ lw_tbl := lw_at lw_m6 81 rfl
theorem q1376 : (Jvm.Cond.instanceMethod ({ cls := "ParrotSpeech$Voice", name := "loses", desc := "()I" } : Jvm.MethodName)) ∈ lw_all := lw_g (lw_at lw_m6 89 rfl) rfl
theorem q1377 : (Jvm.Cond.code ({ cls := "ParrotSpeech$Voice", name := "loses", desc := "()I" } : Jvm.MethodName) prog_16_method_4_code (1 : Nat) (Option.some Jvm.ClassFile.FieldType.int)) ∈ lw_all := lw_g (lw_at lw_m6 90 rfl) rfl
theorem q1380 : (Jvm.Cond.publicMethod ({ cls := "ParrotSpeech$Voice", name := "loses", desc := "()I" } : Jvm.MethodName)) ∈ lw_tbl := lw_at lw_m6 93 rfl
theorem q2256 : (Jvm.Cond.initialized "ParrotSpeech$Voice") ∈ lw_all := lw_g (lw_at lw_m10 9 rfl) rfl

/-! ParrotSpeech$Fault -/
set_option maxRecDepth 100000
def RX4 : String := "ParrotSpeech$Fault"
def TX4 : u_T := fun k => match k with
  | 0 => ("java/lang/Throwable", "cause", "Ljava/lang/Throwable;", false)
  | 1 => ("java/lang/Throwable", "stackTrace", "[Ljava/lang/StackTraceElement;", false)
  | 2 => ("java/lang/Throwable", "suppressedExceptions", "Ljava/util/List;", false)
  | 3 => ("java/lang/Throwable", "detailMessage", "Ljava/lang/String;", false)
  | 4 => ("java/lang/Throwable", "backtrace", "Ljava/lang/Object;", false)
  | 5 => ("java/lang/Throwable", "depth", "I", false)
  | _ => ("ParrotSpeech$Fault", "at", "I", true)
def tyX4 : Nat → FieldType := fun k => match k with
  | 0 => .object "java/lang/Throwable"
  | 1 => .array (.object "java/lang/StackTraceElement")
  | 2 => .object "java/util/List"
  | 3 => .object "java/lang/String"
  | 4 => .object "java/lang/Object"
  | 5 => .int
  | _ => .int
abbrev wsX40 : List Cond := u_ws RX4 TX4 7
theorem nmX4 : ∀ a, a < 7 → ∀ b, b < 7 → a ≠ b → (TX4 a).2.1 ≠ (TX4 b).2.1 := by decide +kernel
theorem tyX4_ok : ∀ k, k < 7 → parseFieldDescriptor (TX4 k).2.2.1 = some (tyX4 k) := by decide +kernel
abbrev cX4_init : ByteArray := prog_5_method_1_code
def yX4_init : MethodName := ⟨RX4, "<init>", "(I)V"⟩
def dkwX4_init_0 : List UInt8 := [42, 1, 1, 3, 3, 183, 0, 1, 42, 27, 181, 0, 7, 177]
abbrev dktX4_init_0 : List UInt8 := dkwX4_init_0 ++ []
theorem dksX4_init_0 : cX4_init.data.toList.drop 0 = dktX4_init_0 := by decide +kernel
theorem dX4_init_0 : decode cX4_init 0 = .ok (.aload_n 0, 1) := dk_42 (dk_at dksX4_init_0 0 rfl rfl)
theorem dX4_init_1 : decode cX4_init 1 = .ok (.aconst_null, 1) := dk_1 (dk_at dksX4_init_0 1 rfl rfl)
theorem dX4_init_2 : decode cX4_init 2 = .ok (.aconst_null, 1) := dk_1 (dk_at dksX4_init_0 2 rfl rfl)
theorem dX4_init_3 : decode cX4_init 3 = .ok (.iconst 0, 1) := dk_3 (dk_at dksX4_init_0 3 rfl rfl)
theorem dX4_init_4 : decode cX4_init 4 = .ok (.iconst 0, 1) := dk_3 (dk_at dksX4_init_0 4 rfl rfl)
theorem dX4_init_5 : decode cX4_init 5 = .ok (.invokespecial 1, 3) := dk_183 0 1 (dk_at dksX4_init_0 5 rfl rfl)
theorem dX4_init_8 : decode cX4_init 8 = .ok (.aload_n 0, 1) := dk_42 (dk_at dksX4_init_0 8 rfl rfl)
theorem dX4_init_9 : decode cX4_init 9 = .ok (.iload_n 1, 1) := dk_27 (dk_at dksX4_init_0 9 rfl rfl)
theorem dX4_init_10 : decode cX4_init 10 = .ok (.putfield 7, 3) := dk_181 0 7 (dk_at dksX4_init_0 10 rfl rfl)
theorem dX4_init_13 : decode cX4_init 13 = .ok (.return_, 1) := dk_177 (dk_at dksX4_init_0 13 rfl rfl)
theorem q111 : (Jvm.Cond.initialized "ParrotSpeech$Fault") ∈ lw_all := lw_g (lw_at lw_m1 24 rfl) rfl
theorem q427 : (Jvm.Cond.selects "ParrotSpeech$Fault" ({ cls := "java/lang/Throwable", name := "fillInStackTrace", desc := "()Ljava/lang/Throwable;" } : Jvm.MethodName) ({ cls := "java/lang/Throwable", name := "fillInStackTrace", desc := "()Ljava/lang/Throwable;" } : Jvm.MethodName)) ∈ lw_all := lw_g (lw_at lw_m2 100 rfl) rfl
theorem q712 : (Jvm.Cond.selects "ParrotSpeech$Fault" ({ cls := "java/lang/Object", name := "equals", desc := "(Ljava/lang/Object;)Z" } : Jvm.MethodName) ({ cls := "java/lang/Object", name := "equals", desc := "(Ljava/lang/Object;)Z" } : Jvm.MethodName)) ∈ lw_all := lw_g (lw_at lw_m3 145 rfl) rfl
theorem q750 : (Jvm.Cond.instantiable "ParrotSpeech$Fault" (7 : Nat)) ∈ lw_all := lw_g (lw_at lw_m3 183 rfl) rfl
theorem q751 : (Jvm.Cond.castable "ParrotSpeech$Fault" "ParrotSpeech$Fault") ∈ lw_tbl := lw_at lw_m3 184 rfl
theorem q752 : (Jvm.Cond.selects "ParrotSpeech$Fault" ({ cls := "java/lang/Throwable", name := "fillInStackTrace", desc := "(I)Ljava/lang/Throwable;" } : Jvm.MethodName) ({ cls := "java/lang/Throwable", name := "fillInStackTrace", desc := "(I)Ljava/lang/Throwable;" } : Jvm.MethodName)) ∈ lw_all := lw_g (lw_at lw_m3 185 rfl) rfl
theorem q753 : (Jvm.Cond.lays "ParrotSpeech$Fault" "java/lang/Throwable" "cause" "Ljava/lang/Throwable;") ∈ lw_all := lw_g (lw_at lw_m3 186 rfl) rfl
theorem q754 : (Jvm.Cond.lays "ParrotSpeech$Fault" "java/lang/Throwable" "stackTrace" "[Ljava/lang/StackTraceElement;") ∈ lw_all := lw_g (lw_at lw_m3 187 rfl) rfl
theorem q755 : (Jvm.Cond.lays "ParrotSpeech$Fault" "java/lang/Throwable" "suppressedExceptions" "Ljava/util/List;") ∈ lw_all := lw_g (lw_at lw_m3 188 rfl) rfl
theorem q756 : (Jvm.Cond.lays "ParrotSpeech$Fault" "java/lang/Throwable" "detailMessage" "Ljava/lang/String;") ∈ lw_all := lw_g (lw_at lw_m3 189 rfl) rfl
theorem q757 : (Jvm.Cond.lays "ParrotSpeech$Fault" "java/lang/Throwable" "backtrace" "Ljava/lang/Object;") ∈ lw_all := lw_g (lw_at lw_m3 190 rfl) rfl
theorem q759 : (Jvm.Cond.instanceMethod ({ cls := "ParrotSpeech$Fault", name := "<init>", desc := "(I)V" } : Jvm.MethodName)) ∈ lw_all := lw_g (lw_at lw_m3 192 rfl) rfl
theorem q760 : (Jvm.Cond.code ({ cls := "ParrotSpeech$Fault", name := "<init>", desc := "(I)V" } : Jvm.MethodName) prog_5_method_1_code (2 : Nat) (Option.none : Option Jvm.ClassFile.FieldType)) ∈ lw_all := lw_g (lw_at lw_m3 193 rfl) rfl
theorem q761 : (Jvm.Cond.methodLink "ParrotSpeech$Fault" (1 : Nat) ({ cls := "java/lang/Exception", name := "<init>", desc := "(Ljava/lang/String;Ljava/lang/Throwable;ZZ)V" } : Jvm.MethodName)) ∈ lw_all := lw_g (lw_at lw_m3 194 rfl) rfl
theorem q767 : (Jvm.Cond.fieldLink "ParrotSpeech$Fault" (7 : Nat) "ParrotSpeech$Fault" "at" "I") ∈ lw_all := lw_g (lw_at lw_m3 200 rfl) rfl
theorem q769 : (Jvm.Cond.laysFinal "ParrotSpeech$Fault" "ParrotSpeech$Fault" "at" "I") ∈ lw_all := lw_g (lw_at lw_m3 202 rfl) rfl
theorem q770 : (Jvm.Cond.soleField "ParrotSpeech$Fault" "at") ∈ lw_all := lw_g (lw_at lw_m3 203 rfl) rfl
theorem q771 : (Jvm.Cond.lays "ParrotSpeech$Fault" "java/lang/Throwable" "depth" "I") ∈ lw_all := lw_g (lw_at lw_m3 204 rfl) rfl
theorem q772 : (Jvm.Cond.superclass "ParrotSpeech$Fault" "java/lang/Exception") ∈ lw_all := lw_g (lw_at lw_m3 205 rfl) rfl
theorem q969 : (Jvm.Cond.selects "ParrotSpeech$Fault" ({ cls := "java/lang/Object", name := "getClass", desc := "()Ljava/lang/Class;" } : Jvm.MethodName) ({ cls := "java/lang/Object", name := "getClass", desc := "()Ljava/lang/Class;" } : Jvm.MethodName)) ∈ lw_all := lw_g (lw_at lw_m4 162 rfl) rfl
theorem q2280 : (Jvm.Cond.castable "ParrotSpeech$Fault" "java/lang/Object") ∈ lw_tbl := lw_at lw_m10 33 rfl
theorem in_X4 : ∀ w ∈ wsX40, w ∈ lw_all := lw_in wsX40 [753, 754, 755, 756, 757, 771, 769] (by decide +kernel) (by decide +kernel)

/-! ParrotSpeech$Part -/
set_option maxRecDepth 100000
def RX5 : String := "ParrotSpeech$Part"
abbrev cX5_init : ByteArray := prog_12_method_1_code
def yX5_init : MethodName := ⟨RX5, "<init>", "(LParrotSpeech;)V"⟩
def dkwX5_init_0 : List UInt8 := [42, 43, 181, 0, 1, 42, 183, 0, 7, 177]
abbrev dktX5_init_0 : List UInt8 := dkwX5_init_0 ++ []
theorem dksX5_init_0 : cX5_init.data.toList.drop 0 = dktX5_init_0 := by decide +kernel
theorem dX5_init_0 : decode cX5_init 0 = .ok (.aload_n 0, 1) := dk_42 (dk_at dksX5_init_0 0 rfl rfl)
theorem dX5_init_1 : decode cX5_init 1 = .ok (.aload_n 1, 1) := dk_43 (dk_at dksX5_init_0 1 rfl rfl)
theorem dX5_init_2 : decode cX5_init 2 = .ok (.putfield 1, 3) := dk_181 0 1 (dk_at dksX5_init_0 2 rfl rfl)
theorem dX5_init_5 : decode cX5_init 5 = .ok (.aload_n 0, 1) := dk_42 (dk_at dksX5_init_0 5 rfl rfl)
theorem dX5_init_6 : decode cX5_init 6 = .ok (.invokespecial 7, 3) := dk_183 0 7 (dk_at dksX5_init_0 6 rfl rfl)
theorem dX5_init_9 : decode cX5_init 9 = .ok (.return_, 1) := dk_177 (dk_at dksX5_init_0 9 rfl rfl)
theorem q114 : (Jvm.Cond.initialized "ParrotSpeech$Part") ∈ lw_all := lw_g (lw_at lw_m1 27 rfl) rfl
theorem q844 : (Jvm.Cond.instanceMethod ({ cls := "ParrotSpeech$Part", name := "<init>", desc := "(LParrotSpeech;)V" } : Jvm.MethodName)) ∈ lw_all := lw_g (lw_at lw_m4 37 rfl) rfl
theorem q845 : (Jvm.Cond.code ({ cls := "ParrotSpeech$Part", name := "<init>", desc := "(LParrotSpeech;)V" } : Jvm.MethodName) prog_12_method_1_code (2 : Nat) (Option.none : Option Jvm.ClassFile.FieldType)) ∈ lw_all := lw_g (lw_at lw_m4 38 rfl) rfl
theorem q846 : (Jvm.Cond.methodLink "ParrotSpeech$Part" (7 : Nat) ({ cls := "java/lang/Object", name := "<init>", desc := "()V" } : Jvm.MethodName)) ∈ lw_all := lw_g (lw_at lw_m4 39 rfl) rfl
theorem q868 : (Jvm.Cond.fieldLink "ParrotSpeech$Part" (1 : Nat) "ParrotSpeech$Part" "this$0" "LParrotSpeech;") ∈ lw_all := lw_g (lw_at lw_m4 61 rfl) rfl
theorem q874 : (Jvm.Cond.soleField "ParrotSpeech$Part" "this$0") ∈ lw_all := lw_g (lw_at lw_m4 67 rfl) rfl
theorem q1499 : (Jvm.Cond.declares ({ cls := "ParrotSpeech$Part", name := "ends", desc := "(I)I" } : Jvm.MethodName)) ∈ lw_tbl := lw_at lw_m6 212 rfl
theorem q1500 : (Jvm.Cond.sameMethod "ParrotSpeech$Part" "ParrotSpeech$Part" "ends" "(I)I") ∈ lw_all := lw_g (lw_at lw_m6 213 rfl) rfl

/-! ParrotSpeech$Either -/
set_option maxRecDepth 100000
def RX6 : String := "ParrotSpeech$Either"
def TX6 : u_T := fun k => match k with
  | 0 => ("ParrotSpeech$Part", "this$0", "LParrotSpeech;", true)
  | 1 => ("ParrotSpeech$Either", "parts", "Ljava/util/List;", true)
  | _ => ("ParrotSpeech$Either", "this$0", "LParrotSpeech;", true)
def tyX6 : Nat → FieldType := fun k => match k with
  | 0 => .object "ParrotSpeech"
  | 1 => .object "java/util/List"
  | _ => .object "ParrotSpeech"
abbrev wsX60 : List Cond := u_ws RX6 TX6 3
-- two fields of one name: no nmX6
theorem tyX6_ok : ∀ k, k < 3 → parseFieldDescriptor (TX6 k).2.2.1 = some (tyX6 k) := by decide +kernel
abbrev cX6_init : ByteArray := prog_4_method_1_code
def yX6_init : MethodName := ⟨RX6, "<init>", "(LParrotSpeech;)V"⟩
def dkwX6_init_0 : List UInt8 := [42, 43, 181, 0, 1, 42, 43, 183, 0, 7, 42, 187, 0, 13, 89, 183, 0, 15, 181, 0, 18, 177]
abbrev dktX6_init_0 : List UInt8 := dkwX6_init_0 ++ []
theorem dksX6_init_0 : cX6_init.data.toList.drop 0 = dktX6_init_0 := by decide +kernel
theorem dX6_init_0 : decode cX6_init 0 = .ok (.aload_n 0, 1) := dk_42 (dk_at dksX6_init_0 0 rfl rfl)
theorem dX6_init_1 : decode cX6_init 1 = .ok (.aload_n 1, 1) := dk_43 (dk_at dksX6_init_0 1 rfl rfl)
theorem dX6_init_2 : decode cX6_init 2 = .ok (.putfield 1, 3) := dk_181 0 1 (dk_at dksX6_init_0 2 rfl rfl)
theorem dX6_init_5 : decode cX6_init 5 = .ok (.aload_n 0, 1) := dk_42 (dk_at dksX6_init_0 5 rfl rfl)
theorem dX6_init_6 : decode cX6_init 6 = .ok (.aload_n 1, 1) := dk_43 (dk_at dksX6_init_0 6 rfl rfl)
theorem dX6_init_7 : decode cX6_init 7 = .ok (.invokespecial 7, 3) := dk_183 0 7 (dk_at dksX6_init_0 7 rfl rfl)
theorem dX6_init_10 : decode cX6_init 10 = .ok (.aload_n 0, 1) := dk_42 (dk_at dksX6_init_0 10 rfl rfl)
theorem dX6_init_11 : decode cX6_init 11 = .ok (.new 13, 3) := dk_187 0 13 (dk_at dksX6_init_0 11 rfl rfl)
theorem dX6_init_14 : decode cX6_init 14 = .ok (.dup, 1) := dk_89 (dk_at dksX6_init_0 14 rfl rfl)
theorem dX6_init_15 : decode cX6_init 15 = .ok (.invokespecial 15, 3) := dk_183 0 15 (dk_at dksX6_init_0 15 rfl rfl)
theorem dX6_init_18 : decode cX6_init 18 = .ok (.putfield 18, 3) := dk_181 0 18 (dk_at dksX6_init_0 18 rfl rfl)
theorem dX6_init_21 : decode cX6_init 21 = .ok (.return_, 1) := dk_177 (dk_at dksX6_init_0 21 rfl rfl)
abbrev cX6_ends : ByteArray := prog_4_method_2_code
def yX6_ends : MethodName := ⟨RX6, "ends", "(I)I"⟩
def dkwX6_ends_1 : List UInt8 := [185, 0, 34, 1, 0, 192, 0, 8, 58, 4, 28, 25, 4, 27, 182, 0, 38, 128, 61, 167, 255, 227, 28, 172]
abbrev dktX6_ends_1 : List UInt8 := dkwX6_ends_1 ++ []
def dkwX6_ends_0 : List UInt8 := [3, 61, 42, 180, 0, 18, 185, 0, 22, 1, 0, 78, 45, 185, 0, 28, 1, 0, 153, 0, 26, 45]
abbrev dktX6_ends_0 : List UInt8 := dkwX6_ends_0 ++ dktX6_ends_1
theorem dksX6_ends_0 : cX6_ends.data.toList.drop 0 = dktX6_ends_0 := by decide +kernel
theorem dksX6_ends_1 : cX6_ends.data.toList.drop 22 = dktX6_ends_1 := dk_seg dksX6_ends_0 22 rfl rfl
theorem dX6_ends_0 : decode cX6_ends 0 = .ok (.iconst 0, 1) := dk_3 (dk_at dksX6_ends_0 0 rfl rfl)
theorem dX6_ends_1 : decode cX6_ends 1 = .ok (.istore_n 2, 1) := dk_61 (dk_at dksX6_ends_0 1 rfl rfl)
theorem dX6_ends_2 : decode cX6_ends 2 = .ok (.aload_n 0, 1) := dk_42 (dk_at dksX6_ends_0 2 rfl rfl)
theorem dX6_ends_3 : decode cX6_ends 3 = .ok (.getfield 18, 3) := dk_180 0 18 (dk_at dksX6_ends_0 3 rfl rfl)
theorem dX6_ends_6 : decode cX6_ends 6 = .ok (.invokeinterface 22 1, 5) := by decide +kernel
theorem dX6_ends_11 : decode cX6_ends 11 = .ok (.astore_n 3, 1) := dk_78 (dk_at dksX6_ends_0 11 rfl rfl)
theorem dX6_ends_12 : decode cX6_ends 12 = .ok (.aload_n 3, 1) := dk_45 (dk_at dksX6_ends_0 12 rfl rfl)
theorem dX6_ends_13 : decode cX6_ends 13 = .ok (.invokeinterface 28 1, 5) := by decide +kernel
theorem dX6_ends_18 : decode cX6_ends 18 = .ok (.ifCond .eq 26, 3) := dk_153 0 26 (dk_at dksX6_ends_0 18 rfl rfl)
theorem dX6_ends_21 : decode cX6_ends 21 = .ok (.aload_n 3, 1) := dk_45 (dk_at dksX6_ends_0 21 rfl rfl)
theorem dX6_ends_22 : decode cX6_ends 22 = .ok (.invokeinterface 34 1, 5) := by decide +kernel
theorem dX6_ends_27 : decode cX6_ends 27 = .ok (.checkcast 8, 3) := dk_192 0 8 (dk_at dksX6_ends_1 5 rfl rfl)
theorem dX6_ends_30 : decode cX6_ends 30 = .ok (.astore 4, 2) := dk_58 4 (dk_at dksX6_ends_1 8 rfl rfl)
theorem dX6_ends_32 : decode cX6_ends 32 = .ok (.iload_n 2, 1) := dk_28 (dk_at dksX6_ends_1 10 rfl rfl)
theorem dX6_ends_33 : decode cX6_ends 33 = .ok (.aload 4, 2) := dk_25 4 (dk_at dksX6_ends_1 11 rfl rfl)
theorem dX6_ends_35 : decode cX6_ends 35 = .ok (.iload_n 1, 1) := dk_27 (dk_at dksX6_ends_1 13 rfl rfl)
theorem dX6_ends_36 : decode cX6_ends 36 = .ok (.invokevirtual 38, 3) := dk_182 0 38 (dk_at dksX6_ends_1 14 rfl rfl)
theorem dX6_ends_39 : decode cX6_ends 39 = .ok (.ior, 1) := dk_128 (dk_at dksX6_ends_1 17 rfl rfl)
theorem dX6_ends_40 : decode cX6_ends 40 = .ok (.istore_n 2, 1) := dk_61 (dk_at dksX6_ends_1 18 rfl rfl)
theorem dX6_ends_41 : decode cX6_ends 41 = .ok (.goto (-29), 3) := dk_167 255 227 (dk_at dksX6_ends_1 19 rfl rfl)
theorem dX6_ends_44 : decode cX6_ends 44 = .ok (.iload_n 2, 1) := dk_28 (dk_at dksX6_ends_1 22 rfl rfl)
theorem dX6_ends_45 : decode cX6_ends 45 = .ok (.ireturn, 1) := dk_172 (dk_at dksX6_ends_1 23 rfl rfl)
theorem q115 : (Jvm.Cond.initialized "ParrotSpeech$Either") ∈ lw_all := lw_g (lw_at lw_m1 28 rfl) rfl
theorem q711 : (Jvm.Cond.selects "ParrotSpeech$Either" ({ cls := "java/lang/Object", name := "equals", desc := "(Ljava/lang/Object;)Z" } : Jvm.MethodName) ({ cls := "java/lang/Object", name := "equals", desc := "(Ljava/lang/Object;)Z" } : Jvm.MethodName)) ∈ lw_all := lw_g (lw_at lw_m3 144 rfl) rfl
theorem q839 : (Jvm.Cond.instantiable "ParrotSpeech$Either" (3 : Nat)) ∈ lw_all := lw_g (lw_at lw_m4 32 rfl) rfl
theorem q841 : (Jvm.Cond.instanceMethod ({ cls := "ParrotSpeech$Either", name := "<init>", desc := "(LParrotSpeech;)V" } : Jvm.MethodName)) ∈ lw_all := lw_g (lw_at lw_m4 34 rfl) rfl
theorem q842 : (Jvm.Cond.code ({ cls := "ParrotSpeech$Either", name := "<init>", desc := "(LParrotSpeech;)V" } : Jvm.MethodName) prog_4_method_1_code (2 : Nat) (Option.none : Option Jvm.ClassFile.FieldType)) ∈ lw_all := lw_g (lw_at lw_m4 35 rfl) rfl
theorem q843 : (Jvm.Cond.methodLinkNest "ParrotSpeech$Either" (7 : Nat) ({ cls := "ParrotSpeech$Part", name := "<init>", desc := "(LParrotSpeech;)V" } : Jvm.MethodName) "ParrotSpeech") ∈ lw_tbl := lw_at lw_m4 36 rfl
theorem q847 : (Jvm.Cond.classLink "ParrotSpeech$Either" (13 : Nat) "java/util/ArrayList") ∈ lw_all := lw_g (lw_at lw_m4 40 rfl) rfl
theorem q849 : (Jvm.Cond.methodLink "ParrotSpeech$Either" (15 : Nat) ({ cls := "java/util/ArrayList", name := "<init>", desc := "()V" } : Jvm.MethodName)) ∈ lw_all := lw_g (lw_at lw_m4 42 rfl) rfl
theorem q865 : (Jvm.Cond.fieldLink "ParrotSpeech$Either" (18 : Nat) "ParrotSpeech$Either" "parts" "Ljava/util/List;") ∈ lw_all := lw_g (lw_at lw_m4 58 rfl) rfl
theorem q867 : (Jvm.Cond.fieldLink "ParrotSpeech$Either" (1 : Nat) "ParrotSpeech$Either" "this$0" "LParrotSpeech;") ∈ lw_all := lw_g (lw_at lw_m4 60 rfl) rfl
theorem q869 : (Jvm.Cond.laysFinal "ParrotSpeech$Either" "ParrotSpeech$Either" "parts" "Ljava/util/List;") ∈ lw_all := lw_g (lw_at lw_m4 62 rfl) rfl
theorem q870 : (Jvm.Cond.soleField "ParrotSpeech$Either" "parts") ∈ lw_all := lw_g (lw_at lw_m4 63 rfl) rfl
theorem q871 : (Jvm.Cond.laysFinal "ParrotSpeech$Either" "ParrotSpeech$Either" "this$0" "LParrotSpeech;") ∈ lw_all := lw_g (lw_at lw_m4 64 rfl) rfl
theorem q872 : (Jvm.Cond.soleField "ParrotSpeech$Either" "this$0") ∈ lw_all := lw_g (lw_at lw_m4 65 rfl) rfl
theorem q873 : (Jvm.Cond.laysFinal "ParrotSpeech$Either" "ParrotSpeech$Part" "this$0" "LParrotSpeech;") ∈ lw_all := lw_g (lw_at lw_m4 66 rfl) rfl
theorem q875 : (Jvm.Cond.superclass "ParrotSpeech$Either" "ParrotSpeech$Part") ∈ lw_all := lw_g (lw_at lw_m4 68 rfl) rfl
theorem q968 : (Jvm.Cond.selects "ParrotSpeech$Either" ({ cls := "java/lang/Object", name := "getClass", desc := "()Ljava/lang/Class;" } : Jvm.MethodName) ({ cls := "java/lang/Object", name := "getClass", desc := "()Ljava/lang/Class;" } : Jvm.MethodName)) ∈ lw_all := lw_g (lw_at lw_m4 161 rfl) rfl
theorem q1501 : (Jvm.Cond.selects "ParrotSpeech$Either" ({ cls := "ParrotSpeech$Part", name := "ends", desc := "(I)I" } : Jvm.MethodName) ({ cls := "ParrotSpeech$Either", name := "ends", desc := "(I)I" } : Jvm.MethodName)) ∈ lw_all := lw_g (lw_at lw_m6 214 rfl) rfl
theorem q1502 : (Jvm.Cond.instanceMethod ({ cls := "ParrotSpeech$Either", name := "ends", desc := "(I)I" } : Jvm.MethodName)) ∈ lw_all := lw_g (lw_at lw_m6 215 rfl) rfl
theorem q1503 : (Jvm.Cond.code ({ cls := "ParrotSpeech$Either", name := "ends", desc := "(I)I" } : Jvm.MethodName) prog_4_method_2_code (5 : Nat) (Option.some Jvm.ClassFile.FieldType.int)) ∈ lw_all := lw_g (lw_at lw_m6 216 rfl) rfl
theorem q1504 : (Jvm.Cond.interfaceEntry "ParrotSpeech$Either" (22 : Nat)) ∈ lw_tbl := lw_at lw_m6 217 rfl
theorem q1505 : (Jvm.Cond.methodLink "ParrotSpeech$Either" (22 : Nat) ({ cls := "java/util/List", name := "iterator", desc := "()Ljava/util/Iterator;" } : Jvm.MethodName)) ∈ lw_all := lw_g (lw_at lw_m6 218 rfl) rfl
theorem q1550 : (Jvm.Cond.interfaceEntry "ParrotSpeech$Either" (28 : Nat)) ∈ lw_tbl := lw_at lw_m7 23 rfl
theorem q1551 : (Jvm.Cond.methodLink "ParrotSpeech$Either" (28 : Nat) ({ cls := "java/util/Iterator", name := "hasNext", desc := "()Z" } : Jvm.MethodName)) ∈ lw_all := lw_g (lw_at lw_m7 24 rfl) rfl
theorem q1566 : (Jvm.Cond.interfaceEntry "ParrotSpeech$Either" (34 : Nat)) ∈ lw_tbl := lw_at lw_m7 39 rfl
theorem q1567 : (Jvm.Cond.methodLink "ParrotSpeech$Either" (34 : Nat) ({ cls := "java/util/Iterator", name := "next", desc := "()Ljava/lang/Object;" } : Jvm.MethodName)) ∈ lw_all := lw_g (lw_at lw_m7 40 rfl) rfl
theorem q1584 : (Jvm.Cond.classLink "ParrotSpeech$Either" (8 : Nat) "ParrotSpeech$Part") ∈ lw_all := lw_g (lw_at lw_m7 57 rfl) rfl
theorem q1585 : (Jvm.Cond.methodLink "ParrotSpeech$Either" (38 : Nat) ({ cls := "ParrotSpeech$Part", name := "ends", desc := "(I)I" } : Jvm.MethodName)) ∈ lw_all := lw_g (lw_at lw_m7 58 rfl) rfl
theorem q2266 : (Jvm.Cond.castable "ParrotSpeech$Either" "ParrotSpeech$Part") ∈ lw_tbl := lw_at lw_m10 19 rfl
theorem q2281 : (Jvm.Cond.castable "ParrotSpeech$Either" "java/lang/Object") ∈ lw_tbl := lw_at lw_m10 34 rfl
theorem in_X6 : ∀ w ∈ wsX60, w ∈ lw_all := lw_in wsX60 [873, 869, 871] (by decide +kernel) (by decide +kernel)

/-! ParrotSpeech$Row -/
set_option maxRecDepth 100000
def RX7 : String := "ParrotSpeech$Row"
def TX7 : u_T := fun k => match k with
  | 0 => ("ParrotSpeech$Part", "this$0", "LParrotSpeech;", true)
  | 1 => ("ParrotSpeech$Row", "parts", "Ljava/util/List;", true)
  | _ => ("ParrotSpeech$Row", "this$0", "LParrotSpeech;", true)
def tyX7 : Nat → FieldType := fun k => match k with
  | 0 => .object "ParrotSpeech"
  | 1 => .object "java/util/List"
  | _ => .object "ParrotSpeech"
abbrev wsX70 : List Cond := u_ws RX7 TX7 3
-- two fields of one name: no nmX7
theorem tyX7_ok : ∀ k, k < 3 → parseFieldDescriptor (TX7 k).2.2.1 = some (tyX7 k) := by decide +kernel
abbrev cX7_init : ByteArray := prog_14_method_1_code
def yX7_init : MethodName := ⟨RX7, "<init>", "(LParrotSpeech;)V"⟩
def dkwX7_init_0 : List UInt8 := [42, 43, 181, 0, 1, 42, 43, 183, 0, 7, 42, 187, 0, 13, 89, 183, 0, 15, 181, 0, 18, 177]
abbrev dktX7_init_0 : List UInt8 := dkwX7_init_0 ++ []
theorem dksX7_init_0 : cX7_init.data.toList.drop 0 = dktX7_init_0 := by decide +kernel
theorem dX7_init_0 : decode cX7_init 0 = .ok (.aload_n 0, 1) := dk_42 (dk_at dksX7_init_0 0 rfl rfl)
theorem dX7_init_1 : decode cX7_init 1 = .ok (.aload_n 1, 1) := dk_43 (dk_at dksX7_init_0 1 rfl rfl)
theorem dX7_init_2 : decode cX7_init 2 = .ok (.putfield 1, 3) := dk_181 0 1 (dk_at dksX7_init_0 2 rfl rfl)
theorem dX7_init_5 : decode cX7_init 5 = .ok (.aload_n 0, 1) := dk_42 (dk_at dksX7_init_0 5 rfl rfl)
theorem dX7_init_6 : decode cX7_init 6 = .ok (.aload_n 1, 1) := dk_43 (dk_at dksX7_init_0 6 rfl rfl)
theorem dX7_init_7 : decode cX7_init 7 = .ok (.invokespecial 7, 3) := dk_183 0 7 (dk_at dksX7_init_0 7 rfl rfl)
theorem dX7_init_10 : decode cX7_init 10 = .ok (.aload_n 0, 1) := dk_42 (dk_at dksX7_init_0 10 rfl rfl)
theorem dX7_init_11 : decode cX7_init 11 = .ok (.new 13, 3) := dk_187 0 13 (dk_at dksX7_init_0 11 rfl rfl)
theorem dX7_init_14 : decode cX7_init 14 = .ok (.dup, 1) := dk_89 (dk_at dksX7_init_0 14 rfl rfl)
theorem dX7_init_15 : decode cX7_init 15 = .ok (.invokespecial 15, 3) := dk_183 0 15 (dk_at dksX7_init_0 15 rfl rfl)
theorem dX7_init_18 : decode cX7_init 18 = .ok (.putfield 18, 3) := dk_181 0 18 (dk_at dksX7_init_0 18 rfl rfl)
theorem dX7_init_21 : decode cX7_init 21 = .ok (.return_, 1) := dk_177 (dk_at dksX7_init_0 21 rfl rfl)
abbrev cX7_ends : ByteArray := prog_14_method_2_code
def yX7_ends : MethodName := ⟨RX7, "ends", "(I)I"⟩
def dkwX7_ends_1 : List UInt8 := [185, 0, 34, 1, 0, 192, 0, 8, 58, 4, 25, 4, 28, 182, 0, 38, 61, 167, 255, 229, 28, 172]
abbrev dktX7_ends_1 : List UInt8 := dkwX7_ends_1 ++ []
def dkwX7_ends_0 : List UInt8 := [27, 61, 42, 180, 0, 18, 185, 0, 22, 1, 0, 78, 45, 185, 0, 28, 1, 0, 153, 0, 24, 45]
abbrev dktX7_ends_0 : List UInt8 := dkwX7_ends_0 ++ dktX7_ends_1
theorem dksX7_ends_0 : cX7_ends.data.toList.drop 0 = dktX7_ends_0 := by decide +kernel
theorem dksX7_ends_1 : cX7_ends.data.toList.drop 22 = dktX7_ends_1 := dk_seg dksX7_ends_0 22 rfl rfl
theorem dX7_ends_0 : decode cX7_ends 0 = .ok (.iload_n 1, 1) := dk_27 (dk_at dksX7_ends_0 0 rfl rfl)
theorem dX7_ends_1 : decode cX7_ends 1 = .ok (.istore_n 2, 1) := dk_61 (dk_at dksX7_ends_0 1 rfl rfl)
theorem dX7_ends_2 : decode cX7_ends 2 = .ok (.aload_n 0, 1) := dk_42 (dk_at dksX7_ends_0 2 rfl rfl)
theorem dX7_ends_3 : decode cX7_ends 3 = .ok (.getfield 18, 3) := dk_180 0 18 (dk_at dksX7_ends_0 3 rfl rfl)
theorem dX7_ends_6 : decode cX7_ends 6 = .ok (.invokeinterface 22 1, 5) := by decide +kernel
theorem dX7_ends_11 : decode cX7_ends 11 = .ok (.astore_n 3, 1) := dk_78 (dk_at dksX7_ends_0 11 rfl rfl)
theorem dX7_ends_12 : decode cX7_ends 12 = .ok (.aload_n 3, 1) := dk_45 (dk_at dksX7_ends_0 12 rfl rfl)
theorem dX7_ends_13 : decode cX7_ends 13 = .ok (.invokeinterface 28 1, 5) := by decide +kernel
theorem dX7_ends_18 : decode cX7_ends 18 = .ok (.ifCond .eq 24, 3) := dk_153 0 24 (dk_at dksX7_ends_0 18 rfl rfl)
theorem dX7_ends_21 : decode cX7_ends 21 = .ok (.aload_n 3, 1) := dk_45 (dk_at dksX7_ends_0 21 rfl rfl)
theorem dX7_ends_22 : decode cX7_ends 22 = .ok (.invokeinterface 34 1, 5) := by decide +kernel
theorem dX7_ends_27 : decode cX7_ends 27 = .ok (.checkcast 8, 3) := dk_192 0 8 (dk_at dksX7_ends_1 5 rfl rfl)
theorem dX7_ends_30 : decode cX7_ends 30 = .ok (.astore 4, 2) := dk_58 4 (dk_at dksX7_ends_1 8 rfl rfl)
theorem dX7_ends_32 : decode cX7_ends 32 = .ok (.aload 4, 2) := dk_25 4 (dk_at dksX7_ends_1 10 rfl rfl)
theorem dX7_ends_34 : decode cX7_ends 34 = .ok (.iload_n 2, 1) := dk_28 (dk_at dksX7_ends_1 12 rfl rfl)
theorem dX7_ends_35 : decode cX7_ends 35 = .ok (.invokevirtual 38, 3) := dk_182 0 38 (dk_at dksX7_ends_1 13 rfl rfl)
theorem dX7_ends_38 : decode cX7_ends 38 = .ok (.istore_n 2, 1) := dk_61 (dk_at dksX7_ends_1 16 rfl rfl)
theorem dX7_ends_39 : decode cX7_ends 39 = .ok (.goto (-27), 3) := dk_167 255 229 (dk_at dksX7_ends_1 17 rfl rfl)
theorem dX7_ends_42 : decode cX7_ends 42 = .ok (.iload_n 2, 1) := dk_28 (dk_at dksX7_ends_1 20 rfl rfl)
theorem dX7_ends_43 : decode cX7_ends 43 = .ok (.ireturn, 1) := dk_172 (dk_at dksX7_ends_1 21 rfl rfl)
theorem q117 : (Jvm.Cond.initialized "ParrotSpeech$Row") ∈ lw_all := lw_g (lw_at lw_m1 30 rfl) rfl
theorem q720 : (Jvm.Cond.selects "ParrotSpeech$Row" ({ cls := "java/lang/Object", name := "equals", desc := "(Ljava/lang/Object;)Z" } : Jvm.MethodName) ({ cls := "java/lang/Object", name := "equals", desc := "(Ljava/lang/Object;)Z" } : Jvm.MethodName)) ∈ lw_all := lw_g (lw_at lw_m3 153 rfl) rfl
theorem q881 : (Jvm.Cond.instantiable "ParrotSpeech$Row" (3 : Nat)) ∈ lw_all := lw_g (lw_at lw_m4 74 rfl) rfl
theorem q883 : (Jvm.Cond.instanceMethod ({ cls := "ParrotSpeech$Row", name := "<init>", desc := "(LParrotSpeech;)V" } : Jvm.MethodName)) ∈ lw_all := lw_g (lw_at lw_m4 76 rfl) rfl
theorem q884 : (Jvm.Cond.code ({ cls := "ParrotSpeech$Row", name := "<init>", desc := "(LParrotSpeech;)V" } : Jvm.MethodName) prog_14_method_1_code (2 : Nat) (Option.none : Option Jvm.ClassFile.FieldType)) ∈ lw_all := lw_g (lw_at lw_m4 77 rfl) rfl
theorem q885 : (Jvm.Cond.methodLinkNest "ParrotSpeech$Row" (7 : Nat) ({ cls := "ParrotSpeech$Part", name := "<init>", desc := "(LParrotSpeech;)V" } : Jvm.MethodName) "ParrotSpeech") ∈ lw_tbl := lw_at lw_m4 78 rfl
theorem q886 : (Jvm.Cond.classLink "ParrotSpeech$Row" (13 : Nat) "java/util/ArrayList") ∈ lw_all := lw_g (lw_at lw_m4 79 rfl) rfl
theorem q887 : (Jvm.Cond.methodLink "ParrotSpeech$Row" (15 : Nat) ({ cls := "java/util/ArrayList", name := "<init>", desc := "()V" } : Jvm.MethodName)) ∈ lw_all := lw_g (lw_at lw_m4 80 rfl) rfl
theorem q888 : (Jvm.Cond.fieldLink "ParrotSpeech$Row" (18 : Nat) "ParrotSpeech$Row" "parts" "Ljava/util/List;") ∈ lw_all := lw_g (lw_at lw_m4 81 rfl) rfl
theorem q890 : (Jvm.Cond.fieldLink "ParrotSpeech$Row" (1 : Nat) "ParrotSpeech$Row" "this$0" "LParrotSpeech;") ∈ lw_all := lw_g (lw_at lw_m4 83 rfl) rfl
theorem q891 : (Jvm.Cond.laysFinal "ParrotSpeech$Row" "ParrotSpeech$Row" "parts" "Ljava/util/List;") ∈ lw_all := lw_g (lw_at lw_m4 84 rfl) rfl
theorem q892 : (Jvm.Cond.soleField "ParrotSpeech$Row" "parts") ∈ lw_all := lw_g (lw_at lw_m4 85 rfl) rfl
theorem q893 : (Jvm.Cond.laysFinal "ParrotSpeech$Row" "ParrotSpeech$Row" "this$0" "LParrotSpeech;") ∈ lw_all := lw_g (lw_at lw_m4 86 rfl) rfl
theorem q894 : (Jvm.Cond.soleField "ParrotSpeech$Row" "this$0") ∈ lw_all := lw_g (lw_at lw_m4 87 rfl) rfl
theorem q895 : (Jvm.Cond.laysFinal "ParrotSpeech$Row" "ParrotSpeech$Part" "this$0" "LParrotSpeech;") ∈ lw_all := lw_g (lw_at lw_m4 88 rfl) rfl
theorem q896 : (Jvm.Cond.superclass "ParrotSpeech$Row" "ParrotSpeech$Part") ∈ lw_all := lw_g (lw_at lw_m4 89 rfl) rfl
theorem q977 : (Jvm.Cond.selects "ParrotSpeech$Row" ({ cls := "java/lang/Object", name := "getClass", desc := "()Ljava/lang/Class;" } : Jvm.MethodName) ({ cls := "java/lang/Object", name := "getClass", desc := "()Ljava/lang/Class;" } : Jvm.MethodName)) ∈ lw_all := lw_g (lw_at lw_m4 170 rfl) rfl
theorem q1592 : (Jvm.Cond.instanceMethod ({ cls := "ParrotSpeech$Row", name := "ends", desc := "(I)I" } : Jvm.MethodName)) ∈ lw_all := lw_g (lw_at lw_m7 65 rfl) rfl
theorem q1593 : (Jvm.Cond.code ({ cls := "ParrotSpeech$Row", name := "ends", desc := "(I)I" } : Jvm.MethodName) prog_14_method_2_code (5 : Nat) (Option.some Jvm.ClassFile.FieldType.int)) ∈ lw_all := lw_g (lw_at lw_m7 66 rfl) rfl
theorem q1594 : (Jvm.Cond.interfaceEntry "ParrotSpeech$Row" (22 : Nat)) ∈ lw_tbl := lw_at lw_m7 67 rfl
theorem q1595 : (Jvm.Cond.methodLink "ParrotSpeech$Row" (22 : Nat) ({ cls := "java/util/List", name := "iterator", desc := "()Ljava/util/Iterator;" } : Jvm.MethodName)) ∈ lw_all := lw_g (lw_at lw_m7 68 rfl) rfl
theorem q1596 : (Jvm.Cond.interfaceEntry "ParrotSpeech$Row" (28 : Nat)) ∈ lw_tbl := lw_at lw_m7 69 rfl
theorem q1597 : (Jvm.Cond.methodLink "ParrotSpeech$Row" (28 : Nat) ({ cls := "java/util/Iterator", name := "hasNext", desc := "()Z" } : Jvm.MethodName)) ∈ lw_all := lw_g (lw_at lw_m7 70 rfl) rfl
theorem q1598 : (Jvm.Cond.interfaceEntry "ParrotSpeech$Row" (34 : Nat)) ∈ lw_tbl := lw_at lw_m7 71 rfl
theorem q1599 : (Jvm.Cond.methodLink "ParrotSpeech$Row" (34 : Nat) ({ cls := "java/util/Iterator", name := "next", desc := "()Ljava/lang/Object;" } : Jvm.MethodName)) ∈ lw_all := lw_g (lw_at lw_m7 72 rfl) rfl
theorem q1600 : (Jvm.Cond.classLink "ParrotSpeech$Row" (8 : Nat) "ParrotSpeech$Part") ∈ lw_all := lw_g (lw_at lw_m7 73 rfl) rfl
theorem q1601 : (Jvm.Cond.methodLink "ParrotSpeech$Row" (38 : Nat) ({ cls := "ParrotSpeech$Part", name := "ends", desc := "(I)I" } : Jvm.MethodName)) ∈ lw_all := lw_g (lw_at lw_m7 74 rfl) rfl
theorem q1604 : (Jvm.Cond.selects "ParrotSpeech$Row" ({ cls := "ParrotSpeech$Part", name := "ends", desc := "(I)I" } : Jvm.MethodName) ({ cls := "ParrotSpeech$Row", name := "ends", desc := "(I)I" } : Jvm.MethodName)) ∈ lw_all := lw_g (lw_at lw_m7 77 rfl) rfl
theorem q2269 : (Jvm.Cond.castable "ParrotSpeech$Row" "ParrotSpeech$Part") ∈ lw_tbl := lw_at lw_m10 22 rfl
theorem q2283 : (Jvm.Cond.castable "ParrotSpeech$Row" "java/lang/Object") ∈ lw_tbl := lw_at lw_m10 36 rfl
theorem in_X7 : ∀ w ∈ wsX70, w ∈ lw_all := lw_in wsX70 [895, 891, 893] (by decide +kernel) (by decide +kernel)

/-! ParrotSpeech$OneWord -/
set_option maxRecDepth 100000
def RX8 : String := "ParrotSpeech$OneWord"
def TX8 : u_T := fun k => match k with
  | 0 => ("ParrotSpeech$Part", "this$0", "LParrotSpeech;", true)
  | 1 => ("ParrotSpeech$OneWord", "word", "I", true)
  | _ => ("ParrotSpeech$OneWord", "this$0", "LParrotSpeech;", true)
def tyX8 : Nat → FieldType := fun k => match k with
  | 0 => .object "ParrotSpeech"
  | 1 => .int
  | _ => .object "ParrotSpeech"
abbrev wsX80 : List Cond := u_ws RX8 TX8 3
-- two fields of one name: no nmX8
theorem tyX8_ok : ∀ k, k < 3 → parseFieldDescriptor (TX8 k).2.2.1 = some (tyX8 k) := by decide +kernel
abbrev cX8_init : ByteArray := prog_10_method_1_code
def yX8_init : MethodName := ⟨RX8, "<init>", "(LParrotSpeech;I)V"⟩
def dkwX8_init_0 : List UInt8 := [42, 43, 181, 0, 3, 42, 43, 183, 0, 9, 42, 28, 181, 0, 15, 177]
abbrev dktX8_init_0 : List UInt8 := dkwX8_init_0 ++ []
theorem dksX8_init_0 : cX8_init.data.toList.drop 0 = dktX8_init_0 := by decide +kernel
theorem dX8_init_0 : decode cX8_init 0 = .ok (.aload_n 0, 1) := dk_42 (dk_at dksX8_init_0 0 rfl rfl)
theorem dX8_init_1 : decode cX8_init 1 = .ok (.aload_n 1, 1) := dk_43 (dk_at dksX8_init_0 1 rfl rfl)
theorem dX8_init_2 : decode cX8_init 2 = .ok (.putfield 3, 3) := dk_181 0 3 (dk_at dksX8_init_0 2 rfl rfl)
theorem dX8_init_5 : decode cX8_init 5 = .ok (.aload_n 0, 1) := dk_42 (dk_at dksX8_init_0 5 rfl rfl)
theorem dX8_init_6 : decode cX8_init 6 = .ok (.aload_n 1, 1) := dk_43 (dk_at dksX8_init_0 6 rfl rfl)
theorem dX8_init_7 : decode cX8_init 7 = .ok (.invokespecial 9, 3) := dk_183 0 9 (dk_at dksX8_init_0 7 rfl rfl)
theorem dX8_init_10 : decode cX8_init 10 = .ok (.aload_n 0, 1) := dk_42 (dk_at dksX8_init_0 10 rfl rfl)
theorem dX8_init_11 : decode cX8_init 11 = .ok (.iload_n 2, 1) := dk_28 (dk_at dksX8_init_0 11 rfl rfl)
theorem dX8_init_12 : decode cX8_init 12 = .ok (.putfield 15, 3) := dk_181 0 15 (dk_at dksX8_init_0 12 rfl rfl)
theorem dX8_init_15 : decode cX8_init 15 = .ok (.return_, 1) := dk_177 (dk_at dksX8_init_0 15 rfl rfl)
abbrev cX8_ends : ByteArray := prog_10_method_2_code
def yX8_ends : MethodName := ⟨RX8, "ends", "(I)I"⟩
def dkwX8_ends_2 : List UInt8 := [4, 29, 4, 96, 120, 167, 0, 4, 3, 128, 61, 132, 3, 1, 167, 255, 198, 28, 172]
abbrev dktX8_ends_2 : List UInt8 := dkwX8_ends_2 ++ []
def dkwX8_ends_1 : List UInt8 := [42, 180, 0, 15, 2, 159, 0, 19, 42, 180, 0, 3, 180, 0, 26, 29, 46, 42, 180, 0, 15, 160, 0, 11]
abbrev dktX8_ends_1 : List UInt8 := dkwX8_ends_1 ++ dktX8_ends_2
def dkwX8_ends_0 : List UInt8 := [3, 61, 3, 62, 29, 42, 180, 0, 3, 180, 0, 19, 162, 0, 53, 28, 27, 29, 184, 0, 22, 153, 0, 35]
abbrev dktX8_ends_0 : List UInt8 := dkwX8_ends_0 ++ dktX8_ends_1
theorem dksX8_ends_0 : cX8_ends.data.toList.drop 0 = dktX8_ends_0 := by decide +kernel
theorem dksX8_ends_1 : cX8_ends.data.toList.drop 24 = dktX8_ends_1 := dk_seg dksX8_ends_0 24 rfl rfl
theorem dksX8_ends_2 : cX8_ends.data.toList.drop 48 = dktX8_ends_2 := dk_seg dksX8_ends_1 24 rfl rfl
theorem dX8_ends_0 : decode cX8_ends 0 = .ok (.iconst 0, 1) := dk_3 (dk_at dksX8_ends_0 0 rfl rfl)
theorem dX8_ends_1 : decode cX8_ends 1 = .ok (.istore_n 2, 1) := dk_61 (dk_at dksX8_ends_0 1 rfl rfl)
theorem dX8_ends_2 : decode cX8_ends 2 = .ok (.iconst 0, 1) := dk_3 (dk_at dksX8_ends_0 2 rfl rfl)
theorem dX8_ends_3 : decode cX8_ends 3 = .ok (.istore_n 3, 1) := dk_62 (dk_at dksX8_ends_0 3 rfl rfl)
theorem dX8_ends_4 : decode cX8_ends 4 = .ok (.iload_n 3, 1) := dk_29 (dk_at dksX8_ends_0 4 rfl rfl)
theorem dX8_ends_5 : decode cX8_ends 5 = .ok (.aload_n 0, 1) := dk_42 (dk_at dksX8_ends_0 5 rfl rfl)
theorem dX8_ends_6 : decode cX8_ends 6 = .ok (.getfield 3, 3) := dk_180 0 3 (dk_at dksX8_ends_0 6 rfl rfl)
theorem dX8_ends_9 : decode cX8_ends 9 = .ok (.getfield 19, 3) := dk_180 0 19 (dk_at dksX8_ends_0 9 rfl rfl)
theorem dX8_ends_12 : decode cX8_ends 12 = .ok (.if_icmp .ge 53, 3) := dk_162 0 53 (dk_at dksX8_ends_0 12 rfl rfl)
theorem dX8_ends_15 : decode cX8_ends 15 = .ok (.iload_n 2, 1) := dk_28 (dk_at dksX8_ends_0 15 rfl rfl)
theorem dX8_ends_16 : decode cX8_ends 16 = .ok (.iload_n 1, 1) := dk_27 (dk_at dksX8_ends_0 16 rfl rfl)
theorem dX8_ends_17 : decode cX8_ends 17 = .ok (.iload_n 3, 1) := dk_29 (dk_at dksX8_ends_0 17 rfl rfl)
theorem dX8_ends_18 : decode cX8_ends 18 = .ok (.invokestatic 22, 3) := dk_184 0 22 (dk_at dksX8_ends_0 18 rfl rfl)
theorem dX8_ends_21 : decode cX8_ends 21 = .ok (.ifCond .eq 35, 3) := dk_153 0 35 (dk_at dksX8_ends_0 21 rfl rfl)
theorem dX8_ends_24 : decode cX8_ends 24 = .ok (.aload_n 0, 1) := dk_42 (dk_at dksX8_ends_1 0 rfl rfl)
theorem dX8_ends_25 : decode cX8_ends 25 = .ok (.getfield 15, 3) := dk_180 0 15 (dk_at dksX8_ends_1 1 rfl rfl)
theorem dX8_ends_28 : decode cX8_ends 28 = .ok (.iconst (-1), 1) := dk_2 (dk_at dksX8_ends_1 4 rfl rfl)
theorem dX8_ends_29 : decode cX8_ends 29 = .ok (.if_icmp .eq 19, 3) := dk_159 0 19 (dk_at dksX8_ends_1 5 rfl rfl)
theorem dX8_ends_32 : decode cX8_ends 32 = .ok (.aload_n 0, 1) := dk_42 (dk_at dksX8_ends_1 8 rfl rfl)
theorem dX8_ends_33 : decode cX8_ends 33 = .ok (.getfield 3, 3) := dk_180 0 3 (dk_at dksX8_ends_1 9 rfl rfl)
theorem dX8_ends_36 : decode cX8_ends 36 = .ok (.getfield 26, 3) := dk_180 0 26 (dk_at dksX8_ends_1 12 rfl rfl)
theorem dX8_ends_39 : decode cX8_ends 39 = .ok (.iload_n 3, 1) := dk_29 (dk_at dksX8_ends_1 15 rfl rfl)
theorem dX8_ends_40 : decode cX8_ends 40 = .ok (.iaload, 1) := dk_46 (dk_at dksX8_ends_1 16 rfl rfl)
theorem dX8_ends_41 : decode cX8_ends 41 = .ok (.aload_n 0, 1) := dk_42 (dk_at dksX8_ends_1 17 rfl rfl)
theorem dX8_ends_42 : decode cX8_ends 42 = .ok (.getfield 15, 3) := dk_180 0 15 (dk_at dksX8_ends_1 18 rfl rfl)
theorem dX8_ends_45 : decode cX8_ends 45 = .ok (.if_icmp .ne 11, 3) := dk_160 0 11 (dk_at dksX8_ends_1 21 rfl rfl)
theorem dX8_ends_48 : decode cX8_ends 48 = .ok (.iconst 1, 1) := dk_4 (dk_at dksX8_ends_2 0 rfl rfl)
theorem dX8_ends_49 : decode cX8_ends 49 = .ok (.iload_n 3, 1) := dk_29 (dk_at dksX8_ends_2 1 rfl rfl)
theorem dX8_ends_50 : decode cX8_ends 50 = .ok (.iconst 1, 1) := dk_4 (dk_at dksX8_ends_2 2 rfl rfl)
theorem dX8_ends_51 : decode cX8_ends 51 = .ok (.iadd, 1) := dk_96 (dk_at dksX8_ends_2 3 rfl rfl)
theorem dX8_ends_52 : decode cX8_ends 52 = .ok (.ishl, 1) := dk_120 (dk_at dksX8_ends_2 4 rfl rfl)
theorem dX8_ends_53 : decode cX8_ends 53 = .ok (.goto 4, 3) := dk_167 0 4 (dk_at dksX8_ends_2 5 rfl rfl)
theorem dX8_ends_56 : decode cX8_ends 56 = .ok (.iconst 0, 1) := dk_3 (dk_at dksX8_ends_2 8 rfl rfl)
theorem dX8_ends_57 : decode cX8_ends 57 = .ok (.ior, 1) := dk_128 (dk_at dksX8_ends_2 9 rfl rfl)
theorem dX8_ends_58 : decode cX8_ends 58 = .ok (.istore_n 2, 1) := dk_61 (dk_at dksX8_ends_2 10 rfl rfl)
theorem dX8_ends_59 : decode cX8_ends 59 = .ok (.iinc 3 1, 3) := dk_132 3 1 (dk_at dksX8_ends_2 11 rfl rfl)
theorem dX8_ends_62 : decode cX8_ends 62 = .ok (.goto (-58), 3) := dk_167 255 198 (dk_at dksX8_ends_2 14 rfl rfl)
theorem dX8_ends_65 : decode cX8_ends 65 = .ok (.iload_n 2, 1) := dk_28 (dk_at dksX8_ends_2 17 rfl rfl)
theorem dX8_ends_66 : decode cX8_ends 66 = .ok (.ireturn, 1) := dk_172 (dk_at dksX8_ends_2 18 rfl rfl)
theorem q118 : (Jvm.Cond.initialized "ParrotSpeech$OneWord") ∈ lw_all := lw_g (lw_at lw_m1 31 rfl) rfl
theorem q213 : (Jvm.Cond.fieldLinkNest "ParrotSpeech$OneWord" (26 : Nat) "ParrotSpeech" "said" "[I" "ParrotSpeech") ∈ lw_tbl := lw_at lw_m1 126 rfl
theorem q216 : (Jvm.Cond.fieldLinkNest "ParrotSpeech$OneWord" (19 : Nat) "ParrotSpeech" "saidMany" "I" "ParrotSpeech") ∈ lw_tbl := lw_at lw_m1 129 rfl
theorem q717 : (Jvm.Cond.selects "ParrotSpeech$OneWord" ({ cls := "java/lang/Object", name := "equals", desc := "(Ljava/lang/Object;)Z" } : Jvm.MethodName) ({ cls := "java/lang/Object", name := "equals", desc := "(Ljava/lang/Object;)Z" } : Jvm.MethodName)) ∈ lw_all := lw_g (lw_at lw_m3 150 rfl) rfl
theorem q910 : (Jvm.Cond.instantiable "ParrotSpeech$OneWord" (3 : Nat)) ∈ lw_all := lw_g (lw_at lw_m4 103 rfl) rfl
theorem q912 : (Jvm.Cond.instanceMethod ({ cls := "ParrotSpeech$OneWord", name := "<init>", desc := "(LParrotSpeech;I)V" } : Jvm.MethodName)) ∈ lw_all := lw_g (lw_at lw_m4 105 rfl) rfl
theorem q913 : (Jvm.Cond.code ({ cls := "ParrotSpeech$OneWord", name := "<init>", desc := "(LParrotSpeech;I)V" } : Jvm.MethodName) prog_10_method_1_code (3 : Nat) (Option.none : Option Jvm.ClassFile.FieldType)) ∈ lw_all := lw_g (lw_at lw_m4 106 rfl) rfl
theorem q914 : (Jvm.Cond.methodLinkNest "ParrotSpeech$OneWord" (9 : Nat) ({ cls := "ParrotSpeech$Part", name := "<init>", desc := "(LParrotSpeech;)V" } : Jvm.MethodName) "ParrotSpeech") ∈ lw_tbl := lw_at lw_m4 107 rfl
theorem q915 : (Jvm.Cond.fieldLink "ParrotSpeech$OneWord" (15 : Nat) "ParrotSpeech$OneWord" "word" "I") ∈ lw_all := lw_g (lw_at lw_m4 108 rfl) rfl
theorem q916 : (Jvm.Cond.fieldLink "ParrotSpeech$OneWord" (3 : Nat) "ParrotSpeech$OneWord" "this$0" "LParrotSpeech;") ∈ lw_all := lw_g (lw_at lw_m4 109 rfl) rfl
theorem q917 : (Jvm.Cond.laysFinal "ParrotSpeech$OneWord" "ParrotSpeech$OneWord" "word" "I") ∈ lw_all := lw_g (lw_at lw_m4 110 rfl) rfl
theorem q918 : (Jvm.Cond.soleField "ParrotSpeech$OneWord" "word") ∈ lw_all := lw_g (lw_at lw_m4 111 rfl) rfl
theorem q919 : (Jvm.Cond.laysFinal "ParrotSpeech$OneWord" "ParrotSpeech$OneWord" "this$0" "LParrotSpeech;") ∈ lw_all := lw_g (lw_at lw_m4 112 rfl) rfl
theorem q920 : (Jvm.Cond.soleField "ParrotSpeech$OneWord" "this$0") ∈ lw_all := lw_g (lw_at lw_m4 113 rfl) rfl
theorem q921 : (Jvm.Cond.laysFinal "ParrotSpeech$OneWord" "ParrotSpeech$Part" "this$0" "LParrotSpeech;") ∈ lw_all := lw_g (lw_at lw_m4 114 rfl) rfl
theorem q922 : (Jvm.Cond.superclass "ParrotSpeech$OneWord" "ParrotSpeech$Part") ∈ lw_all := lw_g (lw_at lw_m4 115 rfl) rfl
theorem q974 : (Jvm.Cond.selects "ParrotSpeech$OneWord" ({ cls := "java/lang/Object", name := "getClass", desc := "()Ljava/lang/Class;" } : Jvm.MethodName) ({ cls := "java/lang/Object", name := "getClass", desc := "()Ljava/lang/Class;" } : Jvm.MethodName)) ∈ lw_all := lw_g (lw_at lw_m4 167 rfl) rfl
theorem q1589 : (Jvm.Cond.instanceMethod ({ cls := "ParrotSpeech$OneWord", name := "ends", desc := "(I)I" } : Jvm.MethodName)) ∈ lw_all := lw_g (lw_at lw_m7 62 rfl) rfl
theorem q1590 : (Jvm.Cond.code ({ cls := "ParrotSpeech$OneWord", name := "ends", desc := "(I)I" } : Jvm.MethodName) prog_10_method_2_code (4 : Nat) (Option.some Jvm.ClassFile.FieldType.int)) ∈ lw_all := lw_g (lw_at lw_m7 63 rfl) rfl
theorem q1591 : (Jvm.Cond.methodLinkNest "ParrotSpeech$OneWord" (22 : Nat) ({ cls := "ParrotSpeech", name := "has", desc := "(II)Z" } : Jvm.MethodName) "ParrotSpeech") ∈ lw_tbl := lw_at lw_m7 64 rfl
theorem q1603 : (Jvm.Cond.selects "ParrotSpeech$OneWord" ({ cls := "ParrotSpeech$Part", name := "ends", desc := "(I)I" } : Jvm.MethodName) ({ cls := "ParrotSpeech$OneWord", name := "ends", desc := "(I)I" } : Jvm.MethodName)) ∈ lw_all := lw_g (lw_at lw_m7 76 rfl) rfl
theorem q2268 : (Jvm.Cond.castable "ParrotSpeech$OneWord" "ParrotSpeech$Part") ∈ lw_tbl := lw_at lw_m10 21 rfl
theorem q2284 : (Jvm.Cond.castable "ParrotSpeech$OneWord" "java/lang/Object") ∈ lw_tbl := lw_at lw_m10 37 rfl
theorem in_X8 : ∀ w ∈ wsX80, w ∈ lw_all := lw_in wsX80 [921, 917, 919] (by decide +kernel) (by decide +kernel)

/-! ParrotSpeech$Often -/
set_option maxRecDepth 100000
def RX9 : String := "ParrotSpeech$Often"
def TX9 : u_T := fun k => match k with
  | 0 => ("ParrotSpeech$Part", "this$0", "LParrotSpeech;", true)
  | 1 => ("ParrotSpeech$Often", "part", "LParrotSpeech$Part;", true)
  | _ => ("ParrotSpeech$Often", "this$0", "LParrotSpeech;", true)
def tyX9 : Nat → FieldType := fun k => match k with
  | 0 => .object "ParrotSpeech"
  | 1 => .object "ParrotSpeech$Part"
  | _ => .object "ParrotSpeech"
abbrev wsX90 : List Cond := u_ws RX9 TX9 3
-- two fields of one name: no nmX9
theorem tyX9_ok : ∀ k, k < 3 → parseFieldDescriptor (TX9 k).2.2.1 = some (tyX9 k) := by decide +kernel
abbrev cX9_init : ByteArray := prog_9_method_1_code
def yX9_init : MethodName := ⟨RX9, "<init>", "(LParrotSpeech;LParrotSpeech$Part;)V"⟩
def dkwX9_init_0 : List UInt8 := [42, 43, 181, 0, 1, 42, 43, 183, 0, 7, 42, 44, 181, 0, 13, 177]
abbrev dktX9_init_0 : List UInt8 := dkwX9_init_0 ++ []
theorem dksX9_init_0 : cX9_init.data.toList.drop 0 = dktX9_init_0 := by decide +kernel
theorem dX9_init_0 : decode cX9_init 0 = .ok (.aload_n 0, 1) := dk_42 (dk_at dksX9_init_0 0 rfl rfl)
theorem dX9_init_1 : decode cX9_init 1 = .ok (.aload_n 1, 1) := dk_43 (dk_at dksX9_init_0 1 rfl rfl)
theorem dX9_init_2 : decode cX9_init 2 = .ok (.putfield 1, 3) := dk_181 0 1 (dk_at dksX9_init_0 2 rfl rfl)
theorem dX9_init_5 : decode cX9_init 5 = .ok (.aload_n 0, 1) := dk_42 (dk_at dksX9_init_0 5 rfl rfl)
theorem dX9_init_6 : decode cX9_init 6 = .ok (.aload_n 1, 1) := dk_43 (dk_at dksX9_init_0 6 rfl rfl)
theorem dX9_init_7 : decode cX9_init 7 = .ok (.invokespecial 7, 3) := dk_183 0 7 (dk_at dksX9_init_0 7 rfl rfl)
theorem dX9_init_10 : decode cX9_init 10 = .ok (.aload_n 0, 1) := dk_42 (dk_at dksX9_init_0 10 rfl rfl)
theorem dX9_init_11 : decode cX9_init 11 = .ok (.aload_n 2, 1) := dk_44 (dk_at dksX9_init_0 11 rfl rfl)
theorem dX9_init_12 : decode cX9_init 12 = .ok (.putfield 13, 3) := dk_181 0 13 (dk_at dksX9_init_0 12 rfl rfl)
theorem dX9_init_15 : decode cX9_init 15 = .ok (.return_, 1) := dk_177 (dk_at dksX9_init_0 15 rfl rfl)
abbrev cX9_ends : ByteArray := prog_9_method_2_code
def yX9_ends : MethodName := ⟨RX9, "ends", "(I)I"⟩
def dkwX9_ends_1 : List UInt8 := [167, 255, 238, 28, 172]
abbrev dktX9_ends_1 : List UInt8 := dkwX9_ends_1 ++ []
def dkwX9_ends_0 : List UInt8 := [27, 61, 3, 62, 28, 29, 159, 0, 19, 28, 62, 28, 42, 180, 0, 13, 28, 182, 0, 17, 128, 61]
abbrev dktX9_ends_0 : List UInt8 := dkwX9_ends_0 ++ dktX9_ends_1
theorem dksX9_ends_0 : cX9_ends.data.toList.drop 0 = dktX9_ends_0 := by decide +kernel
theorem dksX9_ends_1 : cX9_ends.data.toList.drop 22 = dktX9_ends_1 := dk_seg dksX9_ends_0 22 rfl rfl
theorem dX9_ends_0 : decode cX9_ends 0 = .ok (.iload_n 1, 1) := dk_27 (dk_at dksX9_ends_0 0 rfl rfl)
theorem dX9_ends_1 : decode cX9_ends 1 = .ok (.istore_n 2, 1) := dk_61 (dk_at dksX9_ends_0 1 rfl rfl)
theorem dX9_ends_2 : decode cX9_ends 2 = .ok (.iconst 0, 1) := dk_3 (dk_at dksX9_ends_0 2 rfl rfl)
theorem dX9_ends_3 : decode cX9_ends 3 = .ok (.istore_n 3, 1) := dk_62 (dk_at dksX9_ends_0 3 rfl rfl)
theorem dX9_ends_4 : decode cX9_ends 4 = .ok (.iload_n 2, 1) := dk_28 (dk_at dksX9_ends_0 4 rfl rfl)
theorem dX9_ends_5 : decode cX9_ends 5 = .ok (.iload_n 3, 1) := dk_29 (dk_at dksX9_ends_0 5 rfl rfl)
theorem dX9_ends_6 : decode cX9_ends 6 = .ok (.if_icmp .eq 19, 3) := dk_159 0 19 (dk_at dksX9_ends_0 6 rfl rfl)
theorem dX9_ends_9 : decode cX9_ends 9 = .ok (.iload_n 2, 1) := dk_28 (dk_at dksX9_ends_0 9 rfl rfl)
theorem dX9_ends_10 : decode cX9_ends 10 = .ok (.istore_n 3, 1) := dk_62 (dk_at dksX9_ends_0 10 rfl rfl)
theorem dX9_ends_11 : decode cX9_ends 11 = .ok (.iload_n 2, 1) := dk_28 (dk_at dksX9_ends_0 11 rfl rfl)
theorem dX9_ends_12 : decode cX9_ends 12 = .ok (.aload_n 0, 1) := dk_42 (dk_at dksX9_ends_0 12 rfl rfl)
theorem dX9_ends_13 : decode cX9_ends 13 = .ok (.getfield 13, 3) := dk_180 0 13 (dk_at dksX9_ends_0 13 rfl rfl)
theorem dX9_ends_16 : decode cX9_ends 16 = .ok (.iload_n 2, 1) := dk_28 (dk_at dksX9_ends_0 16 rfl rfl)
theorem dX9_ends_17 : decode cX9_ends 17 = .ok (.invokevirtual 17, 3) := dk_182 0 17 (dk_at dksX9_ends_0 17 rfl rfl)
theorem dX9_ends_20 : decode cX9_ends 20 = .ok (.ior, 1) := dk_128 (dk_at dksX9_ends_0 20 rfl rfl)
theorem dX9_ends_21 : decode cX9_ends 21 = .ok (.istore_n 2, 1) := dk_61 (dk_at dksX9_ends_0 21 rfl rfl)
theorem dX9_ends_22 : decode cX9_ends 22 = .ok (.goto (-18), 3) := dk_167 255 238 (dk_at dksX9_ends_1 0 rfl rfl)
theorem dX9_ends_25 : decode cX9_ends 25 = .ok (.iload_n 2, 1) := dk_28 (dk_at dksX9_ends_1 3 rfl rfl)
theorem dX9_ends_26 : decode cX9_ends 26 = .ok (.ireturn, 1) := dk_172 (dk_at dksX9_ends_1 4 rfl rfl)
theorem q119 : (Jvm.Cond.initialized "ParrotSpeech$Often") ∈ lw_all := lw_g (lw_at lw_m1 32 rfl) rfl
theorem q716 : (Jvm.Cond.selects "ParrotSpeech$Often" ({ cls := "java/lang/Object", name := "equals", desc := "(Ljava/lang/Object;)Z" } : Jvm.MethodName) ({ cls := "java/lang/Object", name := "equals", desc := "(Ljava/lang/Object;)Z" } : Jvm.MethodName)) ∈ lw_all := lw_g (lw_at lw_m3 149 rfl) rfl
theorem q925 : (Jvm.Cond.instantiable "ParrotSpeech$Often" (3 : Nat)) ∈ lw_all := lw_g (lw_at lw_m4 118 rfl) rfl
theorem q927 : (Jvm.Cond.instanceMethod ({ cls := "ParrotSpeech$Often", name := "<init>", desc := "(LParrotSpeech;LParrotSpeech$Part;)V" } : Jvm.MethodName)) ∈ lw_all := lw_g (lw_at lw_m4 120 rfl) rfl
theorem q928 : (Jvm.Cond.code ({ cls := "ParrotSpeech$Often", name := "<init>", desc := "(LParrotSpeech;LParrotSpeech$Part;)V" } : Jvm.MethodName) prog_9_method_1_code (3 : Nat) (Option.none : Option Jvm.ClassFile.FieldType)) ∈ lw_all := lw_g (lw_at lw_m4 121 rfl) rfl
theorem q929 : (Jvm.Cond.methodLinkNest "ParrotSpeech$Often" (7 : Nat) ({ cls := "ParrotSpeech$Part", name := "<init>", desc := "(LParrotSpeech;)V" } : Jvm.MethodName) "ParrotSpeech") ∈ lw_tbl := lw_at lw_m4 122 rfl
theorem q930 : (Jvm.Cond.fieldLink "ParrotSpeech$Often" (13 : Nat) "ParrotSpeech$Often" "part" "LParrotSpeech$Part;") ∈ lw_all := lw_g (lw_at lw_m4 123 rfl) rfl
theorem q931 : (Jvm.Cond.fieldLink "ParrotSpeech$Often" (1 : Nat) "ParrotSpeech$Often" "this$0" "LParrotSpeech;") ∈ lw_all := lw_g (lw_at lw_m4 124 rfl) rfl
theorem q932 : (Jvm.Cond.laysFinal "ParrotSpeech$Often" "ParrotSpeech$Often" "part" "LParrotSpeech$Part;") ∈ lw_all := lw_g (lw_at lw_m4 125 rfl) rfl
theorem q933 : (Jvm.Cond.soleField "ParrotSpeech$Often" "part") ∈ lw_all := lw_g (lw_at lw_m4 126 rfl) rfl
theorem q934 : (Jvm.Cond.laysFinal "ParrotSpeech$Often" "ParrotSpeech$Often" "this$0" "LParrotSpeech;") ∈ lw_all := lw_g (lw_at lw_m4 127 rfl) rfl
theorem q935 : (Jvm.Cond.soleField "ParrotSpeech$Often" "this$0") ∈ lw_all := lw_g (lw_at lw_m4 128 rfl) rfl
theorem q936 : (Jvm.Cond.laysFinal "ParrotSpeech$Often" "ParrotSpeech$Part" "this$0" "LParrotSpeech;") ∈ lw_all := lw_g (lw_at lw_m4 129 rfl) rfl
theorem q937 : (Jvm.Cond.superclass "ParrotSpeech$Often" "ParrotSpeech$Part") ∈ lw_all := lw_g (lw_at lw_m4 130 rfl) rfl
theorem q973 : (Jvm.Cond.selects "ParrotSpeech$Often" ({ cls := "java/lang/Object", name := "getClass", desc := "()Ljava/lang/Class;" } : Jvm.MethodName) ({ cls := "java/lang/Object", name := "getClass", desc := "()Ljava/lang/Class;" } : Jvm.MethodName)) ∈ lw_all := lw_g (lw_at lw_m4 166 rfl) rfl
theorem q1586 : (Jvm.Cond.instanceMethod ({ cls := "ParrotSpeech$Often", name := "ends", desc := "(I)I" } : Jvm.MethodName)) ∈ lw_all := lw_g (lw_at lw_m7 59 rfl) rfl
theorem q1587 : (Jvm.Cond.code ({ cls := "ParrotSpeech$Often", name := "ends", desc := "(I)I" } : Jvm.MethodName) prog_9_method_2_code (4 : Nat) (Option.some Jvm.ClassFile.FieldType.int)) ∈ lw_all := lw_g (lw_at lw_m7 60 rfl) rfl
theorem q1588 : (Jvm.Cond.methodLink "ParrotSpeech$Often" (17 : Nat) ({ cls := "ParrotSpeech$Part", name := "ends", desc := "(I)I" } : Jvm.MethodName)) ∈ lw_all := lw_g (lw_at lw_m7 61 rfl) rfl
theorem q1602 : (Jvm.Cond.selects "ParrotSpeech$Often" ({ cls := "ParrotSpeech$Part", name := "ends", desc := "(I)I" } : Jvm.MethodName) ({ cls := "ParrotSpeech$Often", name := "ends", desc := "(I)I" } : Jvm.MethodName)) ∈ lw_all := lw_g (lw_at lw_m7 75 rfl) rfl
theorem q2267 : (Jvm.Cond.castable "ParrotSpeech$Often" "ParrotSpeech$Part") ∈ lw_tbl := lw_at lw_m10 20 rfl
theorem q2285 : (Jvm.Cond.castable "ParrotSpeech$Often" "java/lang/Object") ∈ lw_tbl := lw_at lw_m10 38 rfl
theorem in_X9 : ∀ w ∈ wsX90, w ∈ lw_all := lw_in wsX90 [936, 932, 934] (by decide +kernel) (by decide +kernel)
