set_option maxRecDepth 100000
def Bt (code : ByteArray) (p b : Nat) : Prop := (code.data.toList[p]?).map UInt8.toNat = some b
theorem u1_at {code : ByteArray} {p b : Nat} (h : Bt code p b) : (Reader.u1 : Decoder Nat) code p = .ok (b, p + 1) := by
  unfold Bt at h
  rw [Option.map_eq_some_iff] at h
  obtain ⟨c, h1, h2⟩ := h
  obtain ⟨h3, h4⟩ := List.getElem?_eq_some_iff.mp h1
  have h5 : p < code.size := h3
  have h6 : code[p].toNat = b := by rw [← h2, ← h4]; rfl
  rw [← h6]
  have e : (Reader.u1 : Decoder Nat) code p = (if hh : p < code.size then (do MonadStateOf.set (p + 1); Pure.pure code[p].toNat : Decoder Nat) else throw (HasTruncated.truncated p)) code p := rfl
  rw [e, dif_pos h5]
  rfl
theorem rb {α β : Type} {m : Decoder α} {f : α → β} {code : ByteArray} {p p' : Nat} {a : α} (h : m code p = .ok (a, p')) : (m >>= fun x => (Pure.pure (f x) : Decoder β)) code p = .ok (f a, p') := by
  simp only [bind, ReaderT.bind, StateT.bind, Except.bind, h]
  rfl
theorem rm {α β : Type} {m : Decoder α} {f : α → β} {code : ByteArray} {p p' : Nat} {a : α} (h : m code p = .ok (a, p')) : (f <$> m) code p = .ok (f a, p') := by
  simp only [Functor.map, StateT.map, bind, Except.bind, h]
  rfl
theorem rk {α β : Type} {m : Decoder α} {K : α → Decoder β} {code : ByteArray} {p p' : Nat} {a : α} {r : Except DecodeError (β × Nat)} (h : m code p = .ok (a, p')) (hr : K a code p' = r) : (m >>= K) code p = r := by
  simp only [bind, ReaderT.bind, StateT.bind, Except.bind, h]
  exact hr
theorem u2_at {code : ByteArray} {p x y : Nat} (h : Bt code p x) (h1 : Bt code (p + 1) y) : (Reader.u2 : Decoder Nat) code p = .ok (x * 256 + y, p + 2) := by
  unfold Reader.u2
  exact rk (u1_at h) (rb (f := fun lo => x * 256 + lo) (u1_at h1))
theorem dgo {code : ByteArray} {pc b : Nat} {K : Nat → Decoder Instr} (hK : Decoder.instr pc = Reader.u1 >>= K) (h : Bt code pc b) {i : Instr} {p' : Nat} (hr : K b code (pc + 1) = .ok (i, p')) : decode code pc = .ok (i, p' - pc) := by
  have e : Decoder.instr pc code pc = .ok (i, p') := by rw [hK]; exact rk (u1_at h) hr
  unfold decode Reader.runAt
  simp only [ReaderT.run, StateT.run, bind, Except.bind, e]
  rfl
theorem dpure {i : Instr} {code : ByteArray} {p : Nat} : (Pure.pure i : Decoder Instr) code p = .ok (i, p) := rfl
theorem instK (pc : Nat) : ∃ K : Nat → Decoder Instr, Decoder.instr pc = (Reader.u1 >>= K) ∧ K 1 = Pure.pure .aconst_null ∧ K 46 = Pure.pure .iaload ∧ K 47 = Pure.pure .laload ∧ K 50 = Pure.pure .aaload ∧ K 51 = Pure.pure .baload ∧ K 53 = Pure.pure .saload ∧ K 79 = Pure.pure .iastore ∧ K 80 = Pure.pure .lastore ∧ K 83 = Pure.pure .aastore ∧ K 84 = Pure.pure .bastore ∧ K 86 = Pure.pure .sastore ∧ K 87 = Pure.pure .pop ∧ K 89 = Pure.pure .dup ∧ K 90 = Pure.pure .dup_x1 ∧ K 91 = Pure.pure .dup_x2 ∧ K 92 = Pure.pure .dup2 ∧ K 96 = Pure.pure .iadd ∧ K 97 = Pure.pure .ladd ∧ K 100 = Pure.pure .isub ∧ K 101 = Pure.pure .lsub ∧ K 104 = Pure.pure .imul ∧ K 105 = Pure.pure .lmul ∧ K 108 = Pure.pure .idiv ∧ K 109 = Pure.pure .ldiv ∧ K 112 = Pure.pure .irem ∧ K 113 = Pure.pure .lrem ∧ K 116 = Pure.pure .ineg ∧ K 120 = Pure.pure .ishl ∧ K 121 = Pure.pure .lshl ∧ K 122 = Pure.pure .ishr ∧ K 123 = Pure.pure .lshr ∧ K 124 = Pure.pure .iushr ∧ K 125 = Pure.pure .lushr ∧ K 126 = Pure.pure .iand ∧ K 127 = Pure.pure .land ∧ K 128 = Pure.pure .ior ∧ K 129 = Pure.pure .lor ∧ K 133 = Pure.pure .i2l ∧ K 136 = Pure.pure .l2i ∧ K 145 = Pure.pure .i2b ∧ K 146 = Pure.pure .i2c ∧ K 147 = Pure.pure .i2s ∧ K 148 = Pure.pure .lcmp ∧ K 172 = Pure.pure .ireturn ∧ K 173 = Pure.pure .lreturn ∧ K 176 = Pure.pure .areturn ∧ K 177 = Pure.pure .return_ ∧ K 190 = Pure.pure .arraylength ∧ K 191 = Pure.pure .athrow ∧ K 2 = Pure.pure (.iconst (-1)) ∧ K 3 = Pure.pure (.iconst 0) ∧ K 4 = Pure.pure (.iconst 1) ∧ K 5 = Pure.pure (.iconst 2) ∧ K 6 = Pure.pure (.iconst 3) ∧ K 7 = Pure.pure (.iconst 4) ∧ K 8 = Pure.pure (.iconst 5) ∧ K 9 = Pure.pure (.lconst 0) ∧ K 10 = Pure.pure (.lconst 1) ∧ K 26 = Pure.pure (.iload_n 0) ∧ K 27 = Pure.pure (.iload_n 1) ∧ K 28 = Pure.pure (.iload_n 2) ∧ K 29 = Pure.pure (.iload_n 3) ∧ K 30 = Pure.pure (.lload_n 0) ∧ K 31 = Pure.pure (.lload_n 1) ∧ K 32 = Pure.pure (.lload_n 2) ∧ K 33 = Pure.pure (.lload_n 3) ∧ K 42 = Pure.pure (.aload_n 0) ∧ K 43 = Pure.pure (.aload_n 1) ∧ K 44 = Pure.pure (.aload_n 2) ∧ K 45 = Pure.pure (.aload_n 3) ∧ K 59 = Pure.pure (.istore_n 0) ∧ K 60 = Pure.pure (.istore_n 1) ∧ K 61 = Pure.pure (.istore_n 2) ∧ K 62 = Pure.pure (.istore_n 3) ∧ K 63 = Pure.pure (.lstore_n 0) ∧ K 64 = Pure.pure (.lstore_n 1) ∧ K 65 = Pure.pure (.lstore_n 2) ∧ K 66 = Pure.pure (.lstore_n 3) ∧ K 75 = Pure.pure (.astore_n 0) ∧ K 76 = Pure.pure (.astore_n 1) ∧ K 77 = Pure.pure (.astore_n 2) ∧ K 78 = Pure.pure (.astore_n 3) ∧ K 18 = (Reader.u1 >>= fun x => Pure.pure (.ldc x)) ∧ K 21 = (Reader.u1 >>= fun x => Pure.pure (.iload x)) ∧ K 22 = (Reader.u1 >>= fun x => Pure.pure (.lload x)) ∧ K 25 = (Reader.u1 >>= fun x => Pure.pure (.aload x)) ∧ K 54 = (Reader.u1 >>= fun x => Pure.pure (.istore x)) ∧ K 55 = (Reader.u1 >>= fun x => Pure.pure (.lstore x)) ∧ K 58 = (Reader.u1 >>= fun x => Pure.pure (.astore x)) ∧ K 19 = (Reader.u2 >>= fun x => Pure.pure (.ldc_w x)) ∧ K 20 = (Reader.u2 >>= fun x => Pure.pure (.ldc2_w x)) ∧ K 178 = (Reader.u2 >>= fun x => Pure.pure (.getstatic x)) ∧ K 180 = (Reader.u2 >>= fun x => Pure.pure (.getfield x)) ∧ K 181 = (Reader.u2 >>= fun x => Pure.pure (.putfield x)) ∧ K 182 = (Reader.u2 >>= fun x => Pure.pure (.invokevirtual x)) ∧ K 183 = (Reader.u2 >>= fun x => Pure.pure (.invokespecial x)) ∧ K 184 = (Reader.u2 >>= fun x => Pure.pure (.invokestatic x)) ∧ K 187 = (Reader.u2 >>= fun x => Pure.pure (.new x)) ∧ K 189 = (Reader.u2 >>= fun x => Pure.pure (.anewarray x)) ∧ K 167 = (Reader.s2 >>= fun x => Pure.pure (.goto x)) ∧ K 198 = (Reader.s2 >>= fun x => Pure.pure (.ifnull x)) ∧ K 199 = (Reader.s2 >>= fun x => Pure.pure (.ifnonnull x)) ∧ K 153 = (Reader.s2 >>= fun x => Pure.pure (.ifCond .eq x)) ∧ K 154 = (Reader.s2 >>= fun x => Pure.pure (.ifCond .ne x)) ∧ K 155 = (Reader.s2 >>= fun x => Pure.pure (.ifCond .lt x)) ∧ K 156 = (Reader.s2 >>= fun x => Pure.pure (.ifCond .ge x)) ∧ K 157 = (Reader.s2 >>= fun x => Pure.pure (.ifCond .gt x)) ∧ K 158 = (Reader.s2 >>= fun x => Pure.pure (.ifCond .le x)) ∧ K 159 = (Reader.s2 >>= fun x => Pure.pure (.if_icmp .eq x)) ∧ K 160 = (Reader.s2 >>= fun x => Pure.pure (.if_icmp .ne x)) ∧ K 161 = (Reader.s2 >>= fun x => Pure.pure (.if_icmp .lt x)) ∧ K 162 = (Reader.s2 >>= fun x => Pure.pure (.if_icmp .ge x)) ∧ K 163 = (Reader.s2 >>= fun x => Pure.pure (.if_icmp .gt x)) ∧ K 164 = (Reader.s2 >>= fun x => Pure.pure (.if_icmp .le x)) ∧ K 165 = (Reader.s2 >>= fun x => Pure.pure (.if_acmp .eq x)) ∧ K 166 = (Reader.s2 >>= fun x => Pure.pure (.if_acmp .ne x)) ∧ K 16 = (Reader.s1 >>= fun x => Pure.pure (.bipush x)) ∧ K 17 = (Reader.s2 >>= fun x => Pure.pure (.sipush x)) ∧ K 132 = (Reader.u1 >>= fun x => Reader.s1 >>= fun y => Pure.pure (.iinc x y)) ∧ K 188 = Decoder.newarray pc := ⟨_, rfl, rfl, rfl, rfl, rfl, rfl, rfl, rfl, rfl, rfl, rfl, rfl, rfl, rfl, rfl, rfl, rfl, rfl, rfl, rfl, rfl, rfl, rfl, rfl, rfl, rfl, rfl, rfl, rfl, rfl, rfl, rfl, rfl, rfl, rfl, rfl, rfl, rfl, rfl, rfl, rfl, rfl, rfl, rfl, rfl, rfl, rfl, rfl, rfl, rfl, rfl, rfl, rfl, rfl, rfl, rfl, rfl, rfl, rfl, rfl, rfl, rfl, rfl, rfl, rfl, rfl, rfl, rfl, rfl, rfl, rfl, rfl, rfl, rfl, rfl, rfl, rfl, rfl, rfl, rfl, rfl, rfl, rfl, rfl, rfl, rfl, rfl, rfl, rfl, rfl, rfl, rfl, rfl, rfl, rfl, rfl, rfl, rfl, rfl, rfl, rfl, rfl, rfl, rfl, rfl, rfl, rfl, rfl, rfl, rfl, rfl, rfl, rfl, rfl, rfl, rfl, rfl, rfl, rfl, rfl, rfl⟩
theorem arrK (pc : Nat) : ∃ K : Nat → Decoder Instr, Decoder.newarray pc = (Reader.u1 >>= K) ∧ K 4 = Pure.pure (.newarray .boolean) ∧ K 8 = Pure.pure (.newarray .byte) ∧ K 9 = Pure.pure (.newarray .short) ∧ K 10 = Pure.pure (.newarray .int) ∧ K 11 = Pure.pure (.newarray .long) := ⟨_, rfl, rfl, rfl, rfl, rfl, rfl⟩
def two (x : Nat) : List Nat := [x / 256, x % 256]
def enc : Instr → List Nat
  | .aconst_null => [1]
  | .iaload => [46]
  | .laload => [47]
  | .aaload => [50]
  | .baload => [51]
  | .saload => [53]
  | .iastore => [79]
  | .lastore => [80]
  | .aastore => [83]
  | .bastore => [84]
  | .sastore => [86]
  | .pop => [87]
  | .dup => [89]
  | .dup_x1 => [90]
  | .dup_x2 => [91]
  | .dup2 => [92]
  | .iadd => [96]
  | .ladd => [97]
  | .isub => [100]
  | .lsub => [101]
  | .imul => [104]
  | .lmul => [105]
  | .idiv => [108]
  | .ldiv => [109]
  | .irem => [112]
  | .lrem => [113]
  | .ineg => [116]
  | .ishl => [120]
  | .lshl => [121]
  | .ishr => [122]
  | .lshr => [123]
  | .iushr => [124]
  | .lushr => [125]
  | .iand => [126]
  | .land => [127]
  | .ior => [128]
  | .lor => [129]
  | .i2l => [133]
  | .l2i => [136]
  | .i2b => [145]
  | .i2c => [146]
  | .i2s => [147]
  | .lcmp => [148]
  | .ireturn => [172]
  | .lreturn => [173]
  | .areturn => [176]
  | .return_ => [177]
  | .arraylength => [190]
  | .athrow => [191]
  | .iconst c => if -1 ≤ c ∧ c ≤ 5 then [(c + 3).toNat] else []
  | .lconst c => [9 + c.val]
  | .iload_n j => [26 + j.val]
  | .lload_n j => [30 + j.val]
  | .aload_n j => [42 + j.val]
  | .istore_n j => [59 + j.val]
  | .lstore_n j => [63 + j.val]
  | .astore_n j => [75 + j.val]
  | .ldc x => [18, x]
  | .iload x => [21, x]
  | .lload x => [22, x]
  | .aload x => [25, x]
  | .istore x => [54, x]
  | .lstore x => [55, x]
  | .astore x => [58, x]
  | .ldc_w x => 19 :: two x
  | .ldc2_w x => 20 :: two x
  | .getstatic x => 178 :: two x
  | .getfield x => 180 :: two x
  | .putfield x => 181 :: two x
  | .invokevirtual x => 182 :: two x
  | .invokespecial x => 183 :: two x
  | .invokestatic x => 184 :: two x
  | .new x => 187 :: two x
  | .anewarray x => 189 :: two x
  | .goto x => if -32768 ≤ x ∧ x ≤ 32767 then 167 :: two (x % 65536).toNat else []
  | .ifnull x => if -32768 ≤ x ∧ x ≤ 32767 then 198 :: two (x % 65536).toNat else []
  | .ifnonnull x => if -32768 ≤ x ∧ x ≤ 32767 then 199 :: two (x % 65536).toNat else []
  | .ifCond .eq x => if -32768 ≤ x ∧ x ≤ 32767 then 153 :: two (x % 65536).toNat else []
  | .ifCond .ne x => if -32768 ≤ x ∧ x ≤ 32767 then 154 :: two (x % 65536).toNat else []
  | .ifCond .lt x => if -32768 ≤ x ∧ x ≤ 32767 then 155 :: two (x % 65536).toNat else []
  | .ifCond .ge x => if -32768 ≤ x ∧ x ≤ 32767 then 156 :: two (x % 65536).toNat else []
  | .ifCond .gt x => if -32768 ≤ x ∧ x ≤ 32767 then 157 :: two (x % 65536).toNat else []
  | .ifCond .le x => if -32768 ≤ x ∧ x ≤ 32767 then 158 :: two (x % 65536).toNat else []
  | .if_icmp .eq x => if -32768 ≤ x ∧ x ≤ 32767 then 159 :: two (x % 65536).toNat else []
  | .if_icmp .ne x => if -32768 ≤ x ∧ x ≤ 32767 then 160 :: two (x % 65536).toNat else []
  | .if_icmp .lt x => if -32768 ≤ x ∧ x ≤ 32767 then 161 :: two (x % 65536).toNat else []
  | .if_icmp .ge x => if -32768 ≤ x ∧ x ≤ 32767 then 162 :: two (x % 65536).toNat else []
  | .if_icmp .gt x => if -32768 ≤ x ∧ x ≤ 32767 then 163 :: two (x % 65536).toNat else []
  | .if_icmp .le x => if -32768 ≤ x ∧ x ≤ 32767 then 164 :: two (x % 65536).toNat else []
  | .if_acmp .eq x => if -32768 ≤ x ∧ x ≤ 32767 then 165 :: two (x % 65536).toNat else []
  | .if_acmp .ne x => if -32768 ≤ x ∧ x ≤ 32767 then 166 :: two (x % 65536).toNat else []
  | .sipush x => if -32768 ≤ x ∧ x ≤ 32767 then 17 :: two (x % 65536).toNat else []
  | .bipush x => if -128 ≤ x ∧ x ≤ 127 then [16, (x % 256).toNat] else []
  | .iinc x y => if -128 ≤ y ∧ y ≤ 127 then [132, x, (y % 256).toNat] else []
  | .newarray .boolean => [188, 4]
  | .newarray .byte => [188, 8]
  | .newarray .short => [188, 9]
  | .newarray .int => [188, 10]
  | .newarray .long => [188, 11]
  | _ => []
theorem fin_2 : ∀ c : Fin 2, c = 0 ∨ c = 1 := by decide
theorem fin_4 : ∀ c : Fin 4, c = 0 ∨ c = 1 ∨ c = 2 ∨ c = 3 := by decide
def Bs (code : ByteArray) (pc : Nat) : List Nat → Prop
  | [] => True
  | b :: bs => Bt code pc b ∧ Bs code (pc + 1) bs
theorem sg16 {x : Int} (h : -32768 ≤ x ∧ x ≤ 32767) : Reader.signed 16 ((x % 65536).toNat / 256 * 256 + (x % 65536).toNat % 256) = x := by
  unfold Reader.signed
  simp only [show (2 : Nat) ^ (16 - 1) = 32768 from rfl, show (2 : Nat) ^ 16 = 65536 from rfl]
  split <;> omega
theorem sg8 {x : Int} (h : -128 ≤ x ∧ x ≤ 127) : Reader.signed 8 ((x % 256).toNat) = x := by
  unfold Reader.signed
  simp only [show (2 : Nat) ^ (8 - 1) = 128 from rfl, show (2 : Nat) ^ 8 = 256 from rfl]
  split <;> omega
theorem plus3 (pc n : Nat) : pc + n - pc = n := by omega
theorem enc_ok {code : ByteArray} {pc : Nat} {i : Instr} (h : Bs code pc (enc i)) (hn : enc i ≠ []) : decode code pc = .ok (i, (enc i).length) := by
  obtain ⟨K, hK, q0, q1, q2, q3, q4, q5, q6, q7, q8, q9, q10, q11, q12, q13, q14, q15, q16, q17, q18, q19, q20, q21, q22, q23, q24, q25, q26, q27, q28, q29, q30, q31, q32, q33, q34, q35, q36, q37, q38, q39, q40, q41, q42, q43, q44, q45, q46, q47, q48, q49, q50, q51, q52, q53, q54, q55, q56, q57, q58, q59, q60, q61, q62, q63, q64, q65, q66, q67, q68, q69, q70, q71, q72, q73, q74, q75, q76, q77, q78, q79, q80, q81, q82, q83, q84, q85, q86, q87, q88, q89, q90, q91, q92, q93, q94, q95, q96, q97, q98, q99, q100, q101, q102, q103, q104, q105, q106, q107, q108, q109, q110, q111, q112, q113, q114, q115, q116, q117, q118, q119⟩ := instK pc
  cases i with
  | aconst_null => exact (dgo hK h.1 (by rw [q0]; exact dpure)).trans (by rw [plus3]; rfl)
  | iaload => exact (dgo hK h.1 (by rw [q1]; exact dpure)).trans (by rw [plus3]; rfl)
  | laload => exact (dgo hK h.1 (by rw [q2]; exact dpure)).trans (by rw [plus3]; rfl)
  | aaload => exact (dgo hK h.1 (by rw [q3]; exact dpure)).trans (by rw [plus3]; rfl)
  | baload => exact (dgo hK h.1 (by rw [q4]; exact dpure)).trans (by rw [plus3]; rfl)
  | saload => exact (dgo hK h.1 (by rw [q5]; exact dpure)).trans (by rw [plus3]; rfl)
  | iastore => exact (dgo hK h.1 (by rw [q6]; exact dpure)).trans (by rw [plus3]; rfl)
  | lastore => exact (dgo hK h.1 (by rw [q7]; exact dpure)).trans (by rw [plus3]; rfl)
  | aastore => exact (dgo hK h.1 (by rw [q8]; exact dpure)).trans (by rw [plus3]; rfl)
  | bastore => exact (dgo hK h.1 (by rw [q9]; exact dpure)).trans (by rw [plus3]; rfl)
  | sastore => exact (dgo hK h.1 (by rw [q10]; exact dpure)).trans (by rw [plus3]; rfl)
  | pop => exact (dgo hK h.1 (by rw [q11]; exact dpure)).trans (by rw [plus3]; rfl)
  | dup => exact (dgo hK h.1 (by rw [q12]; exact dpure)).trans (by rw [plus3]; rfl)
  | dup_x1 => exact (dgo hK h.1 (by rw [q13]; exact dpure)).trans (by rw [plus3]; rfl)
  | dup_x2 => exact (dgo hK h.1 (by rw [q14]; exact dpure)).trans (by rw [plus3]; rfl)
  | dup2 => exact (dgo hK h.1 (by rw [q15]; exact dpure)).trans (by rw [plus3]; rfl)
  | iadd => exact (dgo hK h.1 (by rw [q16]; exact dpure)).trans (by rw [plus3]; rfl)
  | ladd => exact (dgo hK h.1 (by rw [q17]; exact dpure)).trans (by rw [plus3]; rfl)
  | isub => exact (dgo hK h.1 (by rw [q18]; exact dpure)).trans (by rw [plus3]; rfl)
  | lsub => exact (dgo hK h.1 (by rw [q19]; exact dpure)).trans (by rw [plus3]; rfl)
  | imul => exact (dgo hK h.1 (by rw [q20]; exact dpure)).trans (by rw [plus3]; rfl)
  | lmul => exact (dgo hK h.1 (by rw [q21]; exact dpure)).trans (by rw [plus3]; rfl)
  | idiv => exact (dgo hK h.1 (by rw [q22]; exact dpure)).trans (by rw [plus3]; rfl)
  | ldiv => exact (dgo hK h.1 (by rw [q23]; exact dpure)).trans (by rw [plus3]; rfl)
  | irem => exact (dgo hK h.1 (by rw [q24]; exact dpure)).trans (by rw [plus3]; rfl)
  | lrem => exact (dgo hK h.1 (by rw [q25]; exact dpure)).trans (by rw [plus3]; rfl)
  | ineg => exact (dgo hK h.1 (by rw [q26]; exact dpure)).trans (by rw [plus3]; rfl)
  | ishl => exact (dgo hK h.1 (by rw [q27]; exact dpure)).trans (by rw [plus3]; rfl)
  | lshl => exact (dgo hK h.1 (by rw [q28]; exact dpure)).trans (by rw [plus3]; rfl)
  | ishr => exact (dgo hK h.1 (by rw [q29]; exact dpure)).trans (by rw [plus3]; rfl)
  | lshr => exact (dgo hK h.1 (by rw [q30]; exact dpure)).trans (by rw [plus3]; rfl)
  | iushr => exact (dgo hK h.1 (by rw [q31]; exact dpure)).trans (by rw [plus3]; rfl)
  | lushr => exact (dgo hK h.1 (by rw [q32]; exact dpure)).trans (by rw [plus3]; rfl)
  | iand => exact (dgo hK h.1 (by rw [q33]; exact dpure)).trans (by rw [plus3]; rfl)
  | land => exact (dgo hK h.1 (by rw [q34]; exact dpure)).trans (by rw [plus3]; rfl)
  | ior => exact (dgo hK h.1 (by rw [q35]; exact dpure)).trans (by rw [plus3]; rfl)
  | lor => exact (dgo hK h.1 (by rw [q36]; exact dpure)).trans (by rw [plus3]; rfl)
  | i2l => exact (dgo hK h.1 (by rw [q37]; exact dpure)).trans (by rw [plus3]; rfl)
  | l2i => exact (dgo hK h.1 (by rw [q38]; exact dpure)).trans (by rw [plus3]; rfl)
  | i2b => exact (dgo hK h.1 (by rw [q39]; exact dpure)).trans (by rw [plus3]; rfl)
  | i2c => exact (dgo hK h.1 (by rw [q40]; exact dpure)).trans (by rw [plus3]; rfl)
  | i2s => exact (dgo hK h.1 (by rw [q41]; exact dpure)).trans (by rw [plus3]; rfl)
  | lcmp => exact (dgo hK h.1 (by rw [q42]; exact dpure)).trans (by rw [plus3]; rfl)
  | ireturn => exact (dgo hK h.1 (by rw [q43]; exact dpure)).trans (by rw [plus3]; rfl)
  | lreturn => exact (dgo hK h.1 (by rw [q44]; exact dpure)).trans (by rw [plus3]; rfl)
  | areturn => exact (dgo hK h.1 (by rw [q45]; exact dpure)).trans (by rw [plus3]; rfl)
  | return_ => exact (dgo hK h.1 (by rw [q46]; exact dpure)).trans (by rw [plus3]; rfl)
  | arraylength => exact (dgo hK h.1 (by rw [q47]; exact dpure)).trans (by rw [plus3]; rfl)
  | athrow => exact (dgo hK h.1 (by rw [q48]; exact dpure)).trans (by rw [plus3]; rfl)
  | iconst c =>
    by_cases hc : -1 ≤ c ∧ c ≤ 5
    · simp only [enc, if_pos hc] at h ⊢
      have hcs : c = -1 ∨ c = 0 ∨ c = 1 ∨ c = 2 ∨ c = 3 ∨ c = 4 ∨ c = 5 := by omega
      rcases hcs with rfl | rfl | rfl | rfl | rfl | rfl | rfl
      · exact (dgo hK h.1 (by show K 2 code (pc + 1) = _; rw [q49]; exact dpure)).trans (by rw [plus3]; rfl)
      · exact (dgo hK h.1 (by show K 3 code (pc + 1) = _; rw [q50]; exact dpure)).trans (by rw [plus3]; rfl)
      · exact (dgo hK h.1 (by show K 4 code (pc + 1) = _; rw [q51]; exact dpure)).trans (by rw [plus3]; rfl)
      · exact (dgo hK h.1 (by show K 5 code (pc + 1) = _; rw [q52]; exact dpure)).trans (by rw [plus3]; rfl)
      · exact (dgo hK h.1 (by show K 6 code (pc + 1) = _; rw [q53]; exact dpure)).trans (by rw [plus3]; rfl)
      · exact (dgo hK h.1 (by show K 7 code (pc + 1) = _; rw [q54]; exact dpure)).trans (by rw [plus3]; rfl)
      · exact (dgo hK h.1 (by show K 8 code (pc + 1) = _; rw [q55]; exact dpure)).trans (by rw [plus3]; rfl)
    · exact absurd (if_neg hc) hn
  | lconst c =>
    have hcs : c = 0 ∨ c = 1 := fin_2 c
    rcases hcs with rfl | rfl
    · exact (dgo hK h.1 (by show K 9 code (pc + 1) = _; rw [q56]; exact dpure)).trans (by rw [plus3]; rfl)
    · exact (dgo hK h.1 (by show K 10 code (pc + 1) = _; rw [q57]; exact dpure)).trans (by rw [plus3]; rfl)
  | iload_n c =>
    rcases fin_4 c with rfl | rfl | rfl | rfl
    · exact (dgo hK h.1 (by show K 26 code (pc + 1) = _; rw [q58]; exact dpure)).trans (by rw [plus3]; rfl)
    · exact (dgo hK h.1 (by show K 27 code (pc + 1) = _; rw [q59]; exact dpure)).trans (by rw [plus3]; rfl)
    · exact (dgo hK h.1 (by show K 28 code (pc + 1) = _; rw [q60]; exact dpure)).trans (by rw [plus3]; rfl)
    · exact (dgo hK h.1 (by show K 29 code (pc + 1) = _; rw [q61]; exact dpure)).trans (by rw [plus3]; rfl)
  | lload_n c =>
    rcases fin_4 c with rfl | rfl | rfl | rfl
    · exact (dgo hK h.1 (by show K 30 code (pc + 1) = _; rw [q62]; exact dpure)).trans (by rw [plus3]; rfl)
    · exact (dgo hK h.1 (by show K 31 code (pc + 1) = _; rw [q63]; exact dpure)).trans (by rw [plus3]; rfl)
    · exact (dgo hK h.1 (by show K 32 code (pc + 1) = _; rw [q64]; exact dpure)).trans (by rw [plus3]; rfl)
    · exact (dgo hK h.1 (by show K 33 code (pc + 1) = _; rw [q65]; exact dpure)).trans (by rw [plus3]; rfl)
  | aload_n c =>
    rcases fin_4 c with rfl | rfl | rfl | rfl
    · exact (dgo hK h.1 (by show K 42 code (pc + 1) = _; rw [q66]; exact dpure)).trans (by rw [plus3]; rfl)
    · exact (dgo hK h.1 (by show K 43 code (pc + 1) = _; rw [q67]; exact dpure)).trans (by rw [plus3]; rfl)
    · exact (dgo hK h.1 (by show K 44 code (pc + 1) = _; rw [q68]; exact dpure)).trans (by rw [plus3]; rfl)
    · exact (dgo hK h.1 (by show K 45 code (pc + 1) = _; rw [q69]; exact dpure)).trans (by rw [plus3]; rfl)
  | istore_n c =>
    rcases fin_4 c with rfl | rfl | rfl | rfl
    · exact (dgo hK h.1 (by show K 59 code (pc + 1) = _; rw [q70]; exact dpure)).trans (by rw [plus3]; rfl)
    · exact (dgo hK h.1 (by show K 60 code (pc + 1) = _; rw [q71]; exact dpure)).trans (by rw [plus3]; rfl)
    · exact (dgo hK h.1 (by show K 61 code (pc + 1) = _; rw [q72]; exact dpure)).trans (by rw [plus3]; rfl)
    · exact (dgo hK h.1 (by show K 62 code (pc + 1) = _; rw [q73]; exact dpure)).trans (by rw [plus3]; rfl)
  | lstore_n c =>
    rcases fin_4 c with rfl | rfl | rfl | rfl
    · exact (dgo hK h.1 (by show K 63 code (pc + 1) = _; rw [q74]; exact dpure)).trans (by rw [plus3]; rfl)
    · exact (dgo hK h.1 (by show K 64 code (pc + 1) = _; rw [q75]; exact dpure)).trans (by rw [plus3]; rfl)
    · exact (dgo hK h.1 (by show K 65 code (pc + 1) = _; rw [q76]; exact dpure)).trans (by rw [plus3]; rfl)
    · exact (dgo hK h.1 (by show K 66 code (pc + 1) = _; rw [q77]; exact dpure)).trans (by rw [plus3]; rfl)
  | astore_n c =>
    rcases fin_4 c with rfl | rfl | rfl | rfl
    · exact (dgo hK h.1 (by show K 75 code (pc + 1) = _; rw [q78]; exact dpure)).trans (by rw [plus3]; rfl)
    · exact (dgo hK h.1 (by show K 76 code (pc + 1) = _; rw [q79]; exact dpure)).trans (by rw [plus3]; rfl)
    · exact (dgo hK h.1 (by show K 77 code (pc + 1) = _; rw [q80]; exact dpure)).trans (by rw [plus3]; rfl)
    · exact (dgo hK h.1 (by show K 78 code (pc + 1) = _; rw [q81]; exact dpure)).trans (by rw [plus3]; rfl)
  | ldc x => exact (dgo hK h.1 (by rw [q82]; exact rb (f := fun x => Instr.ldc x) (u1_at h.2.1))).trans (by rw [show pc + 1 + 1 - pc = 2 by omega]; rfl)
  | iload x => exact (dgo hK h.1 (by rw [q83]; exact rb (f := fun x => Instr.iload x) (u1_at h.2.1))).trans (by rw [show pc + 1 + 1 - pc = 2 by omega]; rfl)
  | lload x => exact (dgo hK h.1 (by rw [q84]; exact rb (f := fun x => Instr.lload x) (u1_at h.2.1))).trans (by rw [show pc + 1 + 1 - pc = 2 by omega]; rfl)
  | aload x => exact (dgo hK h.1 (by rw [q85]; exact rb (f := fun x => Instr.aload x) (u1_at h.2.1))).trans (by rw [show pc + 1 + 1 - pc = 2 by omega]; rfl)
  | istore x => exact (dgo hK h.1 (by rw [q86]; exact rb (f := fun x => Instr.istore x) (u1_at h.2.1))).trans (by rw [show pc + 1 + 1 - pc = 2 by omega]; rfl)
  | lstore x => exact (dgo hK h.1 (by rw [q87]; exact rb (f := fun x => Instr.lstore x) (u1_at h.2.1))).trans (by rw [show pc + 1 + 1 - pc = 2 by omega]; rfl)
  | astore x => exact (dgo hK h.1 (by rw [q88]; exact rb (f := fun x => Instr.astore x) (u1_at h.2.1))).trans (by rw [show pc + 1 + 1 - pc = 2 by omega]; rfl)
  | ldc_w x => exact (dgo hK h.1 (by rw [q89]; exact rb (f := fun x => Instr.ldc_w x) (u2_at h.2.1 h.2.2.1))).trans (by rw [show pc + 1 + 2 - pc = 3 by omega, show x / 256 * 256 + x % 256 = x by omega]; rfl)
  | ldc2_w x => exact (dgo hK h.1 (by rw [q90]; exact rb (f := fun x => Instr.ldc2_w x) (u2_at h.2.1 h.2.2.1))).trans (by rw [show pc + 1 + 2 - pc = 3 by omega, show x / 256 * 256 + x % 256 = x by omega]; rfl)
  | getstatic x => exact (dgo hK h.1 (by rw [q91]; exact rb (f := fun x => Instr.getstatic x) (u2_at h.2.1 h.2.2.1))).trans (by rw [show pc + 1 + 2 - pc = 3 by omega, show x / 256 * 256 + x % 256 = x by omega]; rfl)
  | getfield x => exact (dgo hK h.1 (by rw [q92]; exact rb (f := fun x => Instr.getfield x) (u2_at h.2.1 h.2.2.1))).trans (by rw [show pc + 1 + 2 - pc = 3 by omega, show x / 256 * 256 + x % 256 = x by omega]; rfl)
  | putfield x => exact (dgo hK h.1 (by rw [q93]; exact rb (f := fun x => Instr.putfield x) (u2_at h.2.1 h.2.2.1))).trans (by rw [show pc + 1 + 2 - pc = 3 by omega, show x / 256 * 256 + x % 256 = x by omega]; rfl)
  | invokevirtual x => exact (dgo hK h.1 (by rw [q94]; exact rb (f := fun x => Instr.invokevirtual x) (u2_at h.2.1 h.2.2.1))).trans (by rw [show pc + 1 + 2 - pc = 3 by omega, show x / 256 * 256 + x % 256 = x by omega]; rfl)
  | invokespecial x => exact (dgo hK h.1 (by rw [q95]; exact rb (f := fun x => Instr.invokespecial x) (u2_at h.2.1 h.2.2.1))).trans (by rw [show pc + 1 + 2 - pc = 3 by omega, show x / 256 * 256 + x % 256 = x by omega]; rfl)
  | invokestatic x => exact (dgo hK h.1 (by rw [q96]; exact rb (f := fun x => Instr.invokestatic x) (u2_at h.2.1 h.2.2.1))).trans (by rw [show pc + 1 + 2 - pc = 3 by omega, show x / 256 * 256 + x % 256 = x by omega]; rfl)
  | new x => exact (dgo hK h.1 (by rw [q97]; exact rb (f := fun x => Instr.new x) (u2_at h.2.1 h.2.2.1))).trans (by rw [show pc + 1 + 2 - pc = 3 by omega, show x / 256 * 256 + x % 256 = x by omega]; rfl)
  | anewarray x => exact (dgo hK h.1 (by rw [q98]; exact rb (f := fun x => Instr.anewarray x) (u2_at h.2.1 h.2.2.1))).trans (by rw [show pc + 1 + 2 - pc = 3 by omega, show x / 256 * 256 + x % 256 = x by omega]; rfl)
  | goto x =>
    by_cases hc : -32768 ≤ x ∧ x ≤ 32767
    · simp only [enc, if_pos hc] at h ⊢
      exact (dgo hK h.1 (by rw [q99]; exact rb (f := fun x => Instr.goto x) (rm (f := Reader.signed 16) (u2_at h.2.1 h.2.2.1)))).trans (by rw [show pc + 1 + 2 - pc = 3 by omega, sg16 hc]; rfl)
    · exact absurd (if_neg hc) hn
  | ifnull x =>
    by_cases hc : -32768 ≤ x ∧ x ≤ 32767
    · simp only [enc, if_pos hc] at h ⊢
      exact (dgo hK h.1 (by rw [q100]; exact rb (f := fun x => Instr.ifnull x) (rm (f := Reader.signed 16) (u2_at h.2.1 h.2.2.1)))).trans (by rw [show pc + 1 + 2 - pc = 3 by omega, sg16 hc]; rfl)
    · exact absurd (if_neg hc) hn
  | ifnonnull x =>
    by_cases hc : -32768 ≤ x ∧ x ≤ 32767
    · simp only [enc, if_pos hc] at h ⊢
      exact (dgo hK h.1 (by rw [q101]; exact rb (f := fun x => Instr.ifnonnull x) (rm (f := Reader.signed 16) (u2_at h.2.1 h.2.2.1)))).trans (by rw [show pc + 1 + 2 - pc = 3 by omega, sg16 hc]; rfl)
    · exact absurd (if_neg hc) hn
  | sipush x =>
    by_cases hc : -32768 ≤ x ∧ x ≤ 32767
    · simp only [enc, if_pos hc] at h ⊢
      exact (dgo hK h.1 (by rw [q117]; exact rb (f := fun x => Instr.sipush x) (rm (f := Reader.signed 16) (u2_at h.2.1 h.2.2.1)))).trans (by rw [show pc + 1 + 2 - pc = 3 by omega, sg16 hc]; rfl)
    · exact absurd (if_neg hc) hn
  | if_icmp c x => cases c with
    | eq =>
      by_cases hc : -32768 ≤ x ∧ x ≤ 32767
      · simp only [enc, if_pos hc] at h ⊢
        exact (dgo hK h.1 (by rw [q108]; exact rb (f := fun x => Instr.if_icmp .eq x) (rm (f := Reader.signed 16) (u2_at h.2.1 h.2.2.1)))).trans (by rw [show pc + 1 + 2 - pc = 3 by omega, sg16 hc]; rfl)
      · exact absurd (if_neg hc) hn
    | ne =>
      by_cases hc : -32768 ≤ x ∧ x ≤ 32767
      · simp only [enc, if_pos hc] at h ⊢
        exact (dgo hK h.1 (by rw [q109]; exact rb (f := fun x => Instr.if_icmp .ne x) (rm (f := Reader.signed 16) (u2_at h.2.1 h.2.2.1)))).trans (by rw [show pc + 1 + 2 - pc = 3 by omega, sg16 hc]; rfl)
      · exact absurd (if_neg hc) hn
    | lt =>
      by_cases hc : -32768 ≤ x ∧ x ≤ 32767
      · simp only [enc, if_pos hc] at h ⊢
        exact (dgo hK h.1 (by rw [q110]; exact rb (f := fun x => Instr.if_icmp .lt x) (rm (f := Reader.signed 16) (u2_at h.2.1 h.2.2.1)))).trans (by rw [show pc + 1 + 2 - pc = 3 by omega, sg16 hc]; rfl)
      · exact absurd (if_neg hc) hn
    | ge =>
      by_cases hc : -32768 ≤ x ∧ x ≤ 32767
      · simp only [enc, if_pos hc] at h ⊢
        exact (dgo hK h.1 (by rw [q111]; exact rb (f := fun x => Instr.if_icmp .ge x) (rm (f := Reader.signed 16) (u2_at h.2.1 h.2.2.1)))).trans (by rw [show pc + 1 + 2 - pc = 3 by omega, sg16 hc]; rfl)
      · exact absurd (if_neg hc) hn
    | gt =>
      by_cases hc : -32768 ≤ x ∧ x ≤ 32767
      · simp only [enc, if_pos hc] at h ⊢
        exact (dgo hK h.1 (by rw [q112]; exact rb (f := fun x => Instr.if_icmp .gt x) (rm (f := Reader.signed 16) (u2_at h.2.1 h.2.2.1)))).trans (by rw [show pc + 1 + 2 - pc = 3 by omega, sg16 hc]; rfl)
      · exact absurd (if_neg hc) hn
    | le =>
      by_cases hc : -32768 ≤ x ∧ x ≤ 32767
      · simp only [enc, if_pos hc] at h ⊢
        exact (dgo hK h.1 (by rw [q113]; exact rb (f := fun x => Instr.if_icmp .le x) (rm (f := Reader.signed 16) (u2_at h.2.1 h.2.2.1)))).trans (by rw [show pc + 1 + 2 - pc = 3 by omega, sg16 hc]; rfl)
      · exact absurd (if_neg hc) hn
  | ifCond c x => cases c with
    | eq =>
      by_cases hc : -32768 ≤ x ∧ x ≤ 32767
      · simp only [enc, if_pos hc] at h ⊢
        exact (dgo hK h.1 (by rw [q102]; exact rb (f := fun x => Instr.ifCond .eq x) (rm (f := Reader.signed 16) (u2_at h.2.1 h.2.2.1)))).trans (by rw [show pc + 1 + 2 - pc = 3 by omega, sg16 hc]; rfl)
      · exact absurd (if_neg hc) hn
    | ne =>
      by_cases hc : -32768 ≤ x ∧ x ≤ 32767
      · simp only [enc, if_pos hc] at h ⊢
        exact (dgo hK h.1 (by rw [q103]; exact rb (f := fun x => Instr.ifCond .ne x) (rm (f := Reader.signed 16) (u2_at h.2.1 h.2.2.1)))).trans (by rw [show pc + 1 + 2 - pc = 3 by omega, sg16 hc]; rfl)
      · exact absurd (if_neg hc) hn
    | lt =>
      by_cases hc : -32768 ≤ x ∧ x ≤ 32767
      · simp only [enc, if_pos hc] at h ⊢
        exact (dgo hK h.1 (by rw [q104]; exact rb (f := fun x => Instr.ifCond .lt x) (rm (f := Reader.signed 16) (u2_at h.2.1 h.2.2.1)))).trans (by rw [show pc + 1 + 2 - pc = 3 by omega, sg16 hc]; rfl)
      · exact absurd (if_neg hc) hn
    | ge =>
      by_cases hc : -32768 ≤ x ∧ x ≤ 32767
      · simp only [enc, if_pos hc] at h ⊢
        exact (dgo hK h.1 (by rw [q105]; exact rb (f := fun x => Instr.ifCond .ge x) (rm (f := Reader.signed 16) (u2_at h.2.1 h.2.2.1)))).trans (by rw [show pc + 1 + 2 - pc = 3 by omega, sg16 hc]; rfl)
      · exact absurd (if_neg hc) hn
    | gt =>
      by_cases hc : -32768 ≤ x ∧ x ≤ 32767
      · simp only [enc, if_pos hc] at h ⊢
        exact (dgo hK h.1 (by rw [q106]; exact rb (f := fun x => Instr.ifCond .gt x) (rm (f := Reader.signed 16) (u2_at h.2.1 h.2.2.1)))).trans (by rw [show pc + 1 + 2 - pc = 3 by omega, sg16 hc]; rfl)
      · exact absurd (if_neg hc) hn
    | le =>
      by_cases hc : -32768 ≤ x ∧ x ≤ 32767
      · simp only [enc, if_pos hc] at h ⊢
        exact (dgo hK h.1 (by rw [q107]; exact rb (f := fun x => Instr.ifCond .le x) (rm (f := Reader.signed 16) (u2_at h.2.1 h.2.2.1)))).trans (by rw [show pc + 1 + 2 - pc = 3 by omega, sg16 hc]; rfl)
      · exact absurd (if_neg hc) hn
  | if_acmp c x => cases c with
    | eq =>
      by_cases hc : -32768 ≤ x ∧ x ≤ 32767
      · simp only [enc, if_pos hc] at h ⊢
        exact (dgo hK h.1 (by rw [q114]; exact rb (f := fun x => Instr.if_acmp .eq x) (rm (f := Reader.signed 16) (u2_at h.2.1 h.2.2.1)))).trans (by rw [show pc + 1 + 2 - pc = 3 by omega, sg16 hc]; rfl)
      · exact absurd (if_neg hc) hn
    | ne =>
      by_cases hc : -32768 ≤ x ∧ x ≤ 32767
      · simp only [enc, if_pos hc] at h ⊢
        exact (dgo hK h.1 (by rw [q115]; exact rb (f := fun x => Instr.if_acmp .ne x) (rm (f := Reader.signed 16) (u2_at h.2.1 h.2.2.1)))).trans (by rw [show pc + 1 + 2 - pc = 3 by omega, sg16 hc]; rfl)
      · exact absurd (if_neg hc) hn
  | bipush x =>
    by_cases hc : -128 ≤ x ∧ x ≤ 127
    · simp only [enc, if_pos hc] at h ⊢
      exact (dgo hK h.1 (by rw [q116]; exact rb (f := fun x => Instr.bipush x) (rm (f := Reader.signed 8) (u1_at h.2.1)))).trans (by rw [show pc + 1 + 1 - pc = 2 by omega, sg8 hc]; rfl)
    · exact absurd (if_neg hc) hn
  | iinc x y =>
    by_cases hc : -128 ≤ y ∧ y ≤ 127
    · simp only [enc, if_pos hc] at h ⊢
      exact (dgo hK h.1 (by rw [q118]; exact rk (u1_at h.2.1) (rb (f := fun y => Instr.iinc x y) (rm (f := Reader.signed 8) (u1_at h.2.2.1))))).trans (by rw [show pc + 1 + 1 + 1 - pc = 3 by omega, sg8 hc]; rfl)
    · exact absurd (if_neg hc) hn
  | newarray t =>
    obtain ⟨K2, hK2, r4, r8, r9, r10, r11⟩ := arrK pc
    cases t with
    | boolean => exact (dgo hK h.1 (by rw [q119, hK2]; exact rk (u1_at h.2.1) (by rw [r4]; exact dpure))).trans (by rw [show pc + 1 + 1 - pc = 2 by omega]; rfl)
    | byte => exact (dgo hK h.1 (by rw [q119, hK2]; exact rk (u1_at h.2.1) (by rw [r8]; exact dpure))).trans (by rw [show pc + 1 + 1 - pc = 2 by omega]; rfl)
    | short => exact (dgo hK h.1 (by rw [q119, hK2]; exact rk (u1_at h.2.1) (by rw [r9]; exact dpure))).trans (by rw [show pc + 1 + 1 - pc = 2 by omega]; rfl)
    | int => exact (dgo hK h.1 (by rw [q119, hK2]; exact rk (u1_at h.2.1) (by rw [r10]; exact dpure))).trans (by rw [show pc + 1 + 1 - pc = 2 by omega]; rfl)
    | long => exact (dgo hK h.1 (by rw [q119, hK2]; exact rk (u1_at h.2.1) (by rw [r11]; exact dpure))).trans (by rw [show pc + 1 + 1 - pc = 2 by omega]; rfl)
    | _ => exact absurd rfl hn
  | _ => exact absurd rfl hn
