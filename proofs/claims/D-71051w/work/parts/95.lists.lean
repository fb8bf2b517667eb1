/-! MY LAYER, 15: places in lists -/
theorem xw_0 : Cond.methodLink "ParrotSpeech$State" (59 : Nat) ⟨"ParrotSpeech$Bird", "gets", "()I"⟩ ∈ xNar := List.mem_append_left _ (List.mem_of_getElem? (i := 0) rfl)
theorem xw_1 : Cond.sameMethod "ParrotSpeech$Bird" "ParrotSpeech$Voice" "gets" "()I" ∈ xNar := List.mem_append_left _ (List.mem_of_getElem? (i := 1) rfl)
theorem xw_2 : Cond.methodLink "ParrotSpeech$Grey" (11 : Nat) ⟨"ParrotSpeech$Parrot", "gets", "()I"⟩ ∈ xNar := List.mem_append_left _ (List.mem_of_getElem? (i := 2) rfl)
theorem xw_3 : Cond.sameMethod "ParrotSpeech$Parrot" "ParrotSpeech$Voice" "gets" "()I" ∈ xNar := List.mem_append_left _ (List.mem_of_getElem? (i := 3) rfl)
theorem xw_4 : Cond.methodLink "ParrotSpeech$State" (59 : Nat) ⟨"ParrotSpeech$Bird", "gets", "()I"⟩ ∈ xNar := List.mem_append_left _ (List.mem_of_getElem? (i := 4) rfl)
theorem xw_5 : Cond.methodLink "ParrotSpeech$State" (81 : Nat) ⟨"ParrotSpeech$Bird", "silences", "()Z"⟩ ∈ xNar := List.mem_append_left _ (List.mem_of_getElem? (i := 5) rfl)
theorem xw_6 : Cond.sameMethod "ParrotSpeech$Bird" "ParrotSpeech$Voice" "silences" "()Z" ∈ xNar := List.mem_append_left _ (List.mem_of_getElem? (i := 6) rfl)
theorem xw_7 : Cond.methodLink "ParrotSpeech$Green" (14 : Nat) ⟨"ParrotSpeech$Hawk", "silences", "()Z"⟩ ∈ xNar := List.mem_append_left _ (List.mem_of_getElem? (i := 7) rfl)
theorem xw_8 : Cond.sameMethod "ParrotSpeech$Hawk" "ParrotSpeech$Voice" "silences" "()Z" ∈ xNar := List.mem_append_left _ (List.mem_of_getElem? (i := 8) rfl)
theorem xw_9 : Cond.methodLink "ParrotSpeech$State" (97 : Nat) ⟨"ParrotSpeech$Bird", "says", "()I"⟩ ∈ xNar := List.mem_append_left _ (List.mem_of_getElem? (i := 9) rfl)
theorem xw_10 : Cond.sameMethod "ParrotSpeech$Bird" "ParrotSpeech$Voice" "says" "()I" ∈ xNar := List.mem_append_left _ (List.mem_of_getElem? (i := 10) rfl)
theorem xw_11 : Cond.methodLink "ParrotSpeech$State" (94 : Nat) ⟨"ParrotSpeech$Bird", "hears", "()I"⟩ ∈ xNar := List.mem_append_left _ (List.mem_of_getElem? (i := 11) rfl)
theorem xw_12 : Cond.sameMethod "ParrotSpeech$Bird" "ParrotSpeech$Voice" "hears" "()I" ∈ xNar := List.mem_append_left _ (List.mem_of_getElem? (i := 12) rfl)
theorem xw_13 : Cond.methodLink "ParrotSpeech$State" (107 : Nat) ⟨"ParrotSpeech$Bird", "loses", "()I"⟩ ∈ xNar := List.mem_append_left _ (List.mem_of_getElem? (i := 13) rfl)
theorem xw_14 : Cond.sameMethod "ParrotSpeech$Bird" "ParrotSpeech$Voice" "loses" "()I" ∈ xNar := List.mem_append_left _ (List.mem_of_getElem? (i := 14) rfl)
theorem xw_15 : Cond.methodLink "ParrotSpeech$Grey" (14 : Nat) ⟨"ParrotSpeech$Parrot", "loses", "()I"⟩ ∈ xNar := List.mem_append_left _ (List.mem_of_getElem? (i := 15) rfl)
theorem xw_16 : Cond.sameMethod "ParrotSpeech$Parrot" "ParrotSpeech$Voice" "loses" "()I" ∈ xNar := List.mem_append_left _ (List.mem_of_getElem? (i := 16) rfl)
theorem xw_17 : Cond.methodLink "ParrotSpeech" (231 : Nat) ⟨"ParrotSpeech$Bird", "gets", "()I"⟩ ∈ xNar := List.mem_append_left _ (List.mem_of_getElem? (i := 17) rfl)
theorem xl_0 : Cond.landsInDefault "ParrotSpeech$Cockatoo" ⟨"ParrotSpeech$Bird", "gets", "()I"⟩ ⟨"ParrotSpeech$Voice", "gets", "()I"⟩ ∈ xNar := List.mem_append_right _ (List.mem_of_getElem? (i := 0) rfl)
theorem xl_1 : Cond.landsInDefault "ParrotSpeech$Parrot" ⟨"ParrotSpeech$Parrot", "gets", "()I"⟩ ⟨"ParrotSpeech$Voice", "gets", "()I"⟩ ∈ xNar := List.mem_append_right _ (List.mem_of_getElem? (i := 1) rfl)
theorem xl_2 : Cond.landsInDefault "ParrotSpeech$Cockatoo" ⟨"ParrotSpeech$Voice", "hears", "()I"⟩ ⟨"ParrotSpeech$Voice", "hears", "()I"⟩ ∈ xNar := List.mem_append_right _ (List.mem_of_getElem? (i := 2) rfl)
theorem xl_3 : Cond.landsInDefault "ParrotSpeech$Grey" ⟨"ParrotSpeech$Voice", "hears", "()I"⟩ ⟨"ParrotSpeech$Voice", "hears", "()I"⟩ ∈ xNar := List.mem_append_right _ (List.mem_of_getElem? (i := 3) rfl)
theorem xl_4 : Cond.landsInDefault "ParrotSpeech$Parrot" ⟨"ParrotSpeech$Voice", "hears", "()I"⟩ ⟨"ParrotSpeech$Voice", "hears", "()I"⟩ ∈ xNar := List.mem_append_right _ (List.mem_of_getElem? (i := 4) rfl)
theorem xl_5 : Cond.landsInDefault "ParrotSpeech$Hawk" ⟨"ParrotSpeech$Bird", "gets", "()I"⟩ ⟨"ParrotSpeech$Voice", "gets", "()I"⟩ ∈ xNar := List.mem_append_right _ (List.mem_of_getElem? (i := 5) rfl)
theorem xl_6 : Cond.landsInDefault "ParrotSpeech$Parrot" ⟨"ParrotSpeech$Bird", "gets", "()I"⟩ ⟨"ParrotSpeech$Voice", "gets", "()I"⟩ ∈ xNar := List.mem_append_right _ (List.mem_of_getElem? (i := 6) rfl)
theorem xl_7 : Cond.landsInDefault "ParrotSpeech$Cockatoo" ⟨"ParrotSpeech$Bird", "silences", "()Z"⟩ ⟨"ParrotSpeech$Voice", "silences", "()Z"⟩ ∈ xNar := List.mem_append_right _ (List.mem_of_getElem? (i := 7) rfl)
theorem xl_8 : Cond.landsInDefault "ParrotSpeech$Hawk" ⟨"ParrotSpeech$Hawk", "silences", "()Z"⟩ ⟨"ParrotSpeech$Voice", "silences", "()Z"⟩ ∈ xNar := List.mem_append_right _ (List.mem_of_getElem? (i := 8) rfl)
theorem xl_9 : Cond.landsInDefault "ParrotSpeech$Grey" ⟨"ParrotSpeech$Bird", "silences", "()Z"⟩ ⟨"ParrotSpeech$Voice", "silences", "()Z"⟩ ∈ xNar := List.mem_append_right _ (List.mem_of_getElem? (i := 9) rfl)
theorem xl_10 : Cond.landsInDefault "ParrotSpeech$Hawk" ⟨"ParrotSpeech$Bird", "silences", "()Z"⟩ ⟨"ParrotSpeech$Voice", "silences", "()Z"⟩ ∈ xNar := List.mem_append_right _ (List.mem_of_getElem? (i := 10) rfl)
theorem xl_11 : Cond.landsInDefault "ParrotSpeech$Parrot" ⟨"ParrotSpeech$Bird", "silences", "()Z"⟩ ⟨"ParrotSpeech$Voice", "silences", "()Z"⟩ ∈ xNar := List.mem_append_right _ (List.mem_of_getElem? (i := 11) rfl)
theorem xl_12 : Cond.landsInDefault "ParrotSpeech$Cockatoo" ⟨"ParrotSpeech$Bird", "hears", "()I"⟩ ⟨"ParrotSpeech$Voice", "hears", "()I"⟩ ∈ xNar := List.mem_append_right _ (List.mem_of_getElem? (i := 12) rfl)
theorem xl_13 : Cond.landsInDefault "ParrotSpeech$Grey" ⟨"ParrotSpeech$Bird", "hears", "()I"⟩ ⟨"ParrotSpeech$Voice", "hears", "()I"⟩ ∈ xNar := List.mem_append_right _ (List.mem_of_getElem? (i := 13) rfl)
theorem xl_14 : Cond.landsInDefault "ParrotSpeech$Parrot" ⟨"ParrotSpeech$Bird", "hears", "()I"⟩ ⟨"ParrotSpeech$Voice", "hears", "()I"⟩ ∈ xNar := List.mem_append_right _ (List.mem_of_getElem? (i := 14) rfl)
theorem xl_15 : Cond.landsInDefault "ParrotSpeech$Cockatoo" ⟨"ParrotSpeech$Bird", "loses", "()I"⟩ ⟨"ParrotSpeech$Voice", "loses", "()I"⟩ ∈ xNar := List.mem_append_right _ (List.mem_of_getElem? (i := 15) rfl)
theorem xl_16 : Cond.landsInDefault "ParrotSpeech$Parrot" ⟨"ParrotSpeech$Parrot", "loses", "()I"⟩ ⟨"ParrotSpeech$Voice", "loses", "()I"⟩ ∈ xNar := List.mem_append_right _ (List.mem_of_getElem? (i := 16) rfl)
theorem xl_17 : Cond.landsInDefault "ParrotSpeech$Hawk" ⟨"ParrotSpeech$Bird", "loses", "()I"⟩ ⟨"ParrotSpeech$Voice", "loses", "()I"⟩ ∈ xNar := List.mem_append_right _ (List.mem_of_getElem? (i := 17) rfl)
theorem xl_18 : Cond.landsInDefault "ParrotSpeech$Parrot" ⟨"ParrotSpeech$Bird", "loses", "()I"⟩ ⟨"ParrotSpeech$Voice", "loses", "()I"⟩ ∈ xNar := List.mem_append_right _ (List.mem_of_getElem? (i := 18) rfl)
theorem xq_0 : ("java/util/Arrays$ArrayList", (⟨"java/util/List", "indexOf", "(Ljava/lang/Object;)I"⟩ : MethodName), (⟨"java/util/Arrays$ArrayList", "indexOf", "(Ljava/lang/Object;)I"⟩ : MethodName)) ∈ xFws := List.mem_of_getElem? (i := 0) rfl
theorem xq_1 : ("java/util/ArrayList", (⟨"java/util/List", "add", "(Ljava/lang/Object;)Z"⟩ : MethodName), (⟨"java/util/ArrayList", "add", "(Ljava/lang/Object;)Z"⟩ : MethodName)) ∈ xFws := List.mem_of_getElem? (i := 1) rfl
theorem xq_2 : ("java/util/ArrayList", (⟨"java/util/List", "iterator", "()Ljava/util/Iterator;"⟩ : MethodName), (⟨"java/util/ArrayList", "iterator", "()Ljava/util/Iterator;"⟩ : MethodName)) ∈ xFws := List.mem_of_getElem? (i := 2) rfl
theorem xq_3 : ("java/util/ArrayList$Itr", (⟨"java/util/Iterator", "hasNext", "()Z"⟩ : MethodName), (⟨"java/util/ArrayList$Itr", "hasNext", "()Z"⟩ : MethodName)) ∈ xFws := List.mem_of_getElem? (i := 3) rfl
theorem xq_4 : ("java/util/ArrayList$Itr", (⟨"java/util/Iterator", "next", "()Ljava/lang/Object;"⟩ : MethodName), (⟨"java/util/ArrayList$Itr", "next", "()Ljava/lang/Object;"⟩ : MethodName)) ∈ xFws := List.mem_of_getElem? (i := 4) rfl
theorem xq_5 : ("ParrotSpeech$Hawk", (⟨"ParrotSpeech$Voice", "hears", "()I"⟩ : MethodName), (⟨"ParrotSpeech$Hawk", "hears", "()I"⟩ : MethodName)) ∈ xFws := List.mem_of_getElem? (i := 5) rfl
theorem xq_6 : ("ParrotSpeech$Green", (⟨"ParrotSpeech$Voice", "hears", "()I"⟩ : MethodName), (⟨"ParrotSpeech$Green", "hears", "()I"⟩ : MethodName)) ∈ xFws := List.mem_of_getElem? (i := 6) rfl
theorem xq_7 : ("ParrotSpeech$Parrot", (⟨"ParrotSpeech$Voice", "says", "()I"⟩ : MethodName), (⟨"ParrotSpeech$Parrot", "says", "()I"⟩ : MethodName)) ∈ xFws := List.mem_of_getElem? (i := 7) rfl
theorem xq_8 : ("ParrotSpeech$Grey", (⟨"ParrotSpeech$Voice", "says", "()I"⟩ : MethodName), (⟨"ParrotSpeech$Parrot", "says", "()I"⟩ : MethodName)) ∈ xFws := List.mem_of_getElem? (i := 8) rfl
theorem xq_9 : ("ParrotSpeech$Cockatoo", (⟨"ParrotSpeech$Voice", "says", "()I"⟩ : MethodName), (⟨"ParrotSpeech$Cockatoo", "says", "()I"⟩ : MethodName)) ∈ xFws := List.mem_of_getElem? (i := 9) rfl
theorem xq_10 : ("ParrotSpeech$Hawk", (⟨"ParrotSpeech$Voice", "says", "()I"⟩ : MethodName), (⟨"ParrotSpeech$Hawk", "says", "()I"⟩ : MethodName)) ∈ xFws := List.mem_of_getElem? (i := 10) rfl
theorem xq_11 : ("ParrotSpeech$Green", (⟨"ParrotSpeech$Voice", "says", "()I"⟩ : MethodName), (⟨"ParrotSpeech$Hawk", "says", "()I"⟩ : MethodName)) ∈ xFws := List.mem_of_getElem? (i := 11) rfl
