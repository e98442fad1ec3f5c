set_option maxRecDepth 100000
theorem exw_1 : ∀ w ∈ Bundle.throwableAtoms, w ∈ lw_mv ∨ w = Cond.laysStatic "java/lang/Throwable" "UNASSIGNED_STACK" "[Ljava/lang/StackTraceElement;" ∨ w = Cond.laysStatic "java/lang/Throwable" "SUPPRESSED_SENTINEL" "Ljava/util/List;" := List.forall_mem_cons.mpr ⟨Or.inl (lwm (lw_at lw_m1 28 rfl) rfl), List.forall_mem_cons.mpr ⟨Or.inl (lwm (lw_at lw_m6 66 rfl) rfl), List.forall_mem_cons.mpr ⟨Or.inl (lwm (lw_at lw_m6 75 rfl) rfl), List.forall_mem_cons.mpr ⟨Or.inl (lwm (lw_at lw_m6 77 rfl) rfl), List.forall_mem_cons.mpr ⟨Or.inl (lwm (lw_at lw_m6 80 rfl) rfl), List.forall_mem_cons.mpr ⟨Or.inl (lwm (lw_at lw_m6 82 rfl) rfl), List.forall_mem_cons.mpr ⟨Or.inl (lwm (lw_at lw_m6 67 rfl) rfl), List.forall_mem_cons.mpr ⟨Or.inl (lwm (lw_at lw_m6 68 rfl) rfl), List.forall_mem_cons.mpr ⟨Or.inl (lwm (lw_at lw_m1 37 rfl) rfl), List.forall_mem_cons.mpr ⟨Or.inl (lwm (lw_at lw_m1 38 rfl) rfl), List.forall_mem_cons.mpr ⟨Or.inl (lwm (lw_at lw_m6 69 rfl) rfl), List.forall_mem_cons.mpr ⟨Or.inl (lwm (lw_at lw_m6 74 rfl) rfl), List.forall_mem_cons.mpr ⟨Or.inl (lwm (lw_at lw_m6 78 rfl) rfl), List.forall_mem_cons.mpr ⟨Or.inl (lwm (lw_at lw_m6 95 rfl) rfl), List.forall_mem_cons.mpr ⟨Or.inl (lwm (lw_at lw_m6 56 rfl) rfl), List.forall_mem_cons.mpr ⟨Or.inl (lwm (lw_at lw_m6 96 rfl) rfl), List.forall_mem_cons.mpr ⟨Or.inl (lwm (lw_at lw_m6 58 rfl) rfl), List.forall_mem_cons.mpr ⟨Or.inl (lwm (lw_at lw_m6 97 rfl) rfl), List.forall_mem_cons.mpr ⟨Or.inl (lwm (lw_at lw_m6 60 rfl) rfl), List.forall_mem_cons.mpr ⟨Or.inl (lwm (lw_at lw_m6 70 rfl) rfl), List.forall_mem_cons.mpr ⟨Or.inr (Or.inl rfl), List.forall_mem_cons.mpr ⟨Or.inl (lwm (lw_at lw_m6 72 rfl) rfl), List.forall_mem_cons.mpr ⟨Or.inr (Or.inr rfl), List.forall_mem_cons.mpr ⟨Or.inl (lwm (lw_at lw_m6 62 rfl) rfl), (fun _ h => absurd h List.not_mem_nil)⟩⟩⟩⟩⟩⟩⟩⟩⟩⟩⟩⟩⟩⟩⟩⟩⟩⟩⟩⟩⟩⟩⟩⟩
theorem exw_2 : ∀ w ∈ Bundle.passAtoms "java/lang/Exception" Bundle.tN 1 Bundle.five, w ∈ lw_mv ∨ w = Cond.laysStatic "java/lang/Throwable" "UNASSIGNED_STACK" "[Ljava/lang/StackTraceElement;" ∨ w = Cond.laysStatic "java/lang/Throwable" "SUPPRESSED_SENTINEL" "Ljava/util/List;" := List.forall_mem_cons.mpr ⟨Or.inl (lwm (lw_at lw_m6 87 rfl) rfl), List.forall_mem_cons.mpr ⟨Or.inl (lwm (lw_at lw_m6 88 rfl) rfl), List.forall_mem_cons.mpr ⟨Or.inl (lwm (lw_at lw_m6 89 rfl) rfl), List.forall_mem_cons.mpr ⟨Or.inl (lwm (lw_at lw_m6 67 rfl) rfl), List.forall_mem_cons.mpr ⟨Or.inl (lwm (lw_at lw_m6 51 rfl) rfl), (fun _ h => absurd h List.not_mem_nil)⟩⟩⟩⟩⟩
theorem exw_3 : ∀ w ∈ ([.methodLink "FontHouse$Fault" 1 (Bundle.init0 "java/lang/Exception"), .selects "FontHouse$Fault" Bundle.tFill0 Bundle.tFill0, .selects "FontHouse$Fault" Bundle.tFill Bundle.tFill, .lays "FontHouse$Fault" Bundle.tN "cause" "Ljava/lang/Throwable;", .lays "FontHouse$Fault" Bundle.tN "stackTrace" Bundle.steD, .lays "FontHouse$Fault" Bundle.tN "suppressedExceptions" Bundle.listD, .fieldLink Bundle.tN 198 Bundle.tN "backtrace" "Ljava/lang/Object;", .lays Bundle.tN Bundle.tN "backtrace" "Ljava/lang/Object;", .lays "FontHouse$Fault" Bundle.tN "backtrace" "Ljava/lang/Object;"] : List Cond), w ∈ lw_mv ∨ w = Cond.laysStatic "java/lang/Throwable" "UNASSIGNED_STACK" "[Ljava/lang/StackTraceElement;" ∨ w = Cond.laysStatic "java/lang/Throwable" "SUPPRESSED_SENTINEL" "Ljava/util/List;" := List.forall_mem_cons.mpr ⟨Or.inl (lwm (lw_at lw_m6 86 rfl) rfl), List.forall_mem_cons.mpr ⟨Or.inl (lwm (lw_at lw_m6 53 rfl) rfl), List.forall_mem_cons.mpr ⟨Or.inl (lwm (lw_at lw_m6 54 rfl) rfl), List.forall_mem_cons.mpr ⟨Or.inl (lwm (lw_at lw_m6 55 rfl) rfl), List.forall_mem_cons.mpr ⟨Or.inl (lwm (lw_at lw_m6 57 rfl) rfl), List.forall_mem_cons.mpr ⟨Or.inl (lwm (lw_at lw_m6 59 rfl) rfl), List.forall_mem_cons.mpr ⟨Or.inl (lwm (lw_at lw_m6 65 rfl) rfl), List.forall_mem_cons.mpr ⟨Or.inl (lwm (lw_at lw_m6 64 rfl) rfl), List.forall_mem_cons.mpr ⟨Or.inl (lwm (lw_at lw_m6 63 rfl) rfl), (fun _ h => absurd h List.not_mem_nil)⟩⟩⟩⟩⟩⟩⟩⟩⟩
theorem exw : ∀ w ∈ excAtoms "FontHouse$Fault" 1, w ∈ lw_mv ∨ w = Cond.laysStatic "java/lang/Throwable" "UNASSIGNED_STACK" "[Ljava/lang/StackTraceElement;" ∨ w = Cond.laysStatic "java/lang/Throwable" "SUPPRESSED_SENTINEL" "Ljava/util/List;" := by
  intro w h
  unfold excAtoms at h
  rcases List.mem_append.mp h with h | h
  · rcases List.mem_append.mp h with h | h
    · exact exw_1 w h
    · exact exw_2 w h
  · exact exw_3 w h
def mof : MethodName := ⟨"FontHouse$Mode", "of", "(II)I"⟩
theorem mw_1 : (Cond.methodLink "FontHouse$Opener" 283 mof) ∈ lw_mv := lwm (lw_at lw_m6 220 rfl) rfl
theorem mw_2 : (Cond.methodLink "FontHouse$Maker" 175 mof) ∈ lw_mv := lwm (lw_at lw_m5 42 rfl) rfl
theorem mw_3 : (Cond.sameMethod mof.cls mof.cls mof.name mof.desc) ∈ lw_mv := lwm (lw_at lw_m5 44 rfl) rfl
theorem mw_4 : (Cond.declares mof) ∈ lw_mv := lwm (lw_at lw_m5 43 rfl) rfl
theorem mw_s1 : (Cond.selects (moN 30) mof (mY 471)) ∈ lw_mv := lwm (lw_at lw_m5 45 rfl) rfl
theorem mw_i1 : (Cond.instanceMethod (mY 471)) ∈ lw_mv := lwm (lw_at lw_m5 46 rfl) rfl
theorem mw_c1 : mW 471 ∈ lw_mv := lwm (lw_at lw_m5 47 rfl) rfl
theorem mw_s2 : (Cond.selects (moN 31) mof (mY 478)) ∈ lw_mv := lwm (lw_at lw_m5 48 rfl) rfl
theorem mw_i2 : (Cond.instanceMethod (mY 478)) ∈ lw_mv := lwm (lw_at lw_m5 49 rfl) rfl
theorem mw_c2 : mW 478 ∈ lw_mv := lwm (lw_at lw_m5 50 rfl) rfl
theorem mw_s3 : (Cond.selects (moN 32) mof (mY 479)) ∈ lw_mv := lwm (lw_at lw_m5 51 rfl) rfl
theorem mw_i3 : (Cond.instanceMethod (mY 479)) ∈ lw_mv := lwm (lw_at lw_m5 52 rfl) rfl
theorem mw_c3 : mW 479 ∈ lw_mv := lwm (lw_at lw_m5 53 rfl) rfl
theorem mw_s4 : (Cond.selects (moN 33) mof (mY 480)) ∈ lw_mv := lwm (lw_at lw_m5 157 rfl) rfl
theorem mw_i4 : (Cond.instanceMethod (mY 480)) ∈ lw_mv := lwm (lw_at lw_m5 158 rfl) rfl
theorem mw_c4 : mW 480 ∈ lw_mv := lwm (lw_at lw_m5 159 rfl) rfl
