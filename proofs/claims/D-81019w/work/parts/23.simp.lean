set_option maxRecDepth 100000
def thr (Q : Qt) : Int → Int → Mem → Prop := fun a n h => Q (.inr a) n h
section
variable {g : G} {Q : Qt} {J : Nat → Kt} {es : List E} {ls : Lcs} {s : List V} {n : Int} {h : Mem} {m : Int}
theorem r_iconst {c : Int} {x : List Nat} : run g Q J ((.iconst c, m, x) :: es) ls s n h = (run g Q J es ls (vI m :: s) n h) := rfl
theorem r_bipush {c : Int} {x : List Nat} : run g Q J ((.bipush c, m, x) :: es) ls s n h = (run g Q J es ls (vI m :: s) n h) := rfl
theorem r_sipush {c : Int} {x : List Nat} : run g Q J ((.sipush c, m, x) :: es) ls s n h = (run g Q J es ls (vI m :: s) n h) := rfl
theorem r_ldc {c : Nat} {x : List Nat} : run g Q J ((.ldc c, m, x) :: es) ls s n h = (run g Q J es ls (vI m :: s) n h) := rfl
theorem r_ldc_w {c : Nat} {x : List Nat} : run g Q J ((.ldc_w c, m, x) :: es) ls s n h = (run g Q J es ls (vI m :: s) n h) := rfl
theorem r_lconst {c : Fin 2} {x : List Nat} : run g Q J ((.lconst c, m, x) :: es) ls s n h = (run g Q J es ls (vL m :: s) n h) := rfl
theorem r_ldc2_w {c : Nat} {x : List Nat} : run g Q J ((.ldc2_w c, m, x) :: es) ls s n h = (run g Q J es ls (vL m :: s) n h) := rfl
theorem r_aconst_null {d : Nat} : run g Q J ((.aconst_null, m, [d]) :: es) ls s n h = (run g Q J es ls (vR d 0 :: s) n h) := rfl
theorem r_iload {i : Nat} {j : Nat} : run g Q J ((.iload i, m, [j]) :: es) ls s n h = (lga ls j (fun v => pI [v] (fun a _ => run g Q J es ls (vI a :: s) n h))) := rfl
theorem r_iload_n {i : Fin 4} {j : Nat} : run g Q J ((.iload_n i, m, [j]) :: es) ls s n h = (lga ls j (fun v => pI [v] (fun a _ => run g Q J es ls (vI a :: s) n h))) := rfl
theorem r_lload {i : Nat} {j : Nat} : run g Q J ((.lload i, m, [j]) :: es) ls s n h = (lga ls j (fun v => pL [v] (fun a _ => run g Q J es ls (vL a :: s) n h))) := rfl
theorem r_lload_n {i : Fin 4} {j : Nat} : run g Q J ((.lload_n i, m, [j]) :: es) ls s n h = (lga ls j (fun v => pL [v] (fun a _ => run g Q J es ls (vL a :: s) n h))) := rfl
theorem r_aload {i : Nat} {j : Nat} : run g Q J ((.aload i, m, [j]) :: es) ls s n h = (lga ls j (fun v => pR [v] (fun d a _ => run g Q J es ls (vR d a :: s) n h))) := rfl
theorem r_aload_n {i : Fin 4} {j : Nat} : run g Q J ((.aload_n i, m, [j]) :: es) ls s n h = (lga ls j (fun v => pR [v] (fun d a _ => run g Q J es ls (vR d a :: s) n h))) := rfl
theorem r_istore {i : Nat} {j : Nat} {a : Int} : run g Q J ((.istore i, m, [j]) :: es) ls (vI a :: s) n h = (run g Q J es (stq ls j (vI a)) s n h) := rfl
theorem r_istore_n {i : Fin 4} {j : Nat} {a : Int} : run g Q J ((.istore_n i, m, [j]) :: es) ls (vI a :: s) n h = (run g Q J es (stq ls j (vI a)) s n h) := rfl
theorem r_lstore {i : Nat} {j : Nat} {a : Int} : run g Q J ((.lstore i, m, [j]) :: es) ls (vL a :: s) n h = (run g Q J es (stq ls j (vL a)) s n h) := rfl
theorem r_lstore_n {i : Fin 4} {j : Nat} {a : Int} : run g Q J ((.lstore_n i, m, [j]) :: es) ls (vL a :: s) n h = (run g Q J es (stq ls j (vL a)) s n h) := rfl
theorem r_astore {i : Nat} {j : Nat} {d : Nat} {a : Int} : run g Q J ((.astore i, m, [j]) :: es) ls (vR d a :: s) n h = (run g Q J es (stq ls j (vR d a)) s n h) := rfl
theorem r_astore_n {i : Fin 4} {j : Nat} {d : Nat} {a : Int} : run g Q J ((.astore_n i, m, [j]) :: es) ls (vR d a :: s) n h = (run g Q J es (stq ls j (vR d a)) s n h) := rfl
theorem r_iinc {i j : Nat} {c : Int} : run g Q J ((.iinc i c, m, [j]) :: es) ls s n h = (lga ls j (fun v => pI [v] (fun a _ => i32 (a + m) ∧ run g Q J es (stq ls j (vI (a + m))) s n h))) := rfl
theorem r_iadd {a b : Int} : run g Q J ((.iadd, m, []) :: es) ls (vI b :: vI a :: s) n h = (i32 (a + b) ∧ run g Q J es ls (vI (a + b) :: s) n h) := rfl
theorem r_iaddW {a b : Int} {u : Nat} : run g Q J ((.iadd, m, [u]) :: es) ls (vI b :: vI a :: s) n h = (run g Q J es ls (vI (wr (a + b)) :: s) n h) := rfl
theorem r_isub {a b : Int} : run g Q J ((.isub, m, []) :: es) ls (vI b :: vI a :: s) n h = (i32 (a - b) ∧ run g Q J es ls (vI (a - b) :: s) n h) := rfl
theorem r_isubW {a b : Int} {u : Nat} : run g Q J ((.isub, m, [u]) :: es) ls (vI b :: vI a :: s) n h = (run g Q J es ls (vI (wr (a - b)) :: s) n h) := rfl
theorem r_imul {a b : Int} : run g Q J ((.imul, m, []) :: es) ls (vI b :: vI a :: s) n h = (i32 (a * b) ∧ run g Q J es ls (vI (a * b) :: s) n h) := rfl
theorem r_imulW {a b : Int} {u : Nat} : run g Q J ((.imul, m, [u]) :: es) ls (vI b :: vI a :: s) n h = (run g Q J es ls (vI (wr (a * b)) :: s) n h) := rfl
theorem r_ladd {a b : Int} : run g Q J ((.ladd, m, []) :: es) ls (vL b :: vL a :: s) n h = (i64 (a + b) ∧ run g Q J es ls (vL (a + b) :: s) n h) := rfl
theorem r_laddW {a b : Int} {u : Nat} : run g Q J ((.ladd, m, [u]) :: es) ls (vL b :: vL a :: s) n h = (run g Q J es ls (vL (wl (a + b)) :: s) n h) := rfl
theorem r_lsub {a b : Int} : run g Q J ((.lsub, m, []) :: es) ls (vL b :: vL a :: s) n h = (i64 (a - b) ∧ run g Q J es ls (vL (a - b) :: s) n h) := rfl
theorem r_lsubW {a b : Int} {u : Nat} : run g Q J ((.lsub, m, [u]) :: es) ls (vL b :: vL a :: s) n h = (run g Q J es ls (vL (wl (a - b)) :: s) n h) := rfl
theorem r_lmul {a b : Int} : run g Q J ((.lmul, m, []) :: es) ls (vL b :: vL a :: s) n h = (i64 (a * b) ∧ run g Q J es ls (vL (a * b) :: s) n h) := rfl
theorem r_lmulW {a b : Int} {u : Nat} : run g Q J ((.lmul, m, [u]) :: es) ls (vL b :: vL a :: s) n h = (run g Q J es ls (vL (wl (a * b)) :: s) n h) := rfl
theorem r_iand {a b : Int} {x : List Nat} : run g Q J ((.iand, m, x) :: es) ls (vI b :: vI a :: s) n h = (run g Q J es ls (vI (ian a b) :: s) n h) := rfl
theorem r_ior {a b : Int} {x : List Nat} : run g Q J ((.ior, m, x) :: es) ls (vI b :: vI a :: s) n h = (run g Q J es ls (vI (ior a b) :: s) n h) := rfl
theorem r_ishl {a b : Int} {x : List Nat} : run g Q J ((.ishl, m, x) :: es) ls (vI b :: vI a :: s) n h = (run g Q J es ls (vI (isl a b) :: s) n h) := rfl
theorem r_ishr {a b : Int} {x : List Nat} : run g Q J ((.ishr, m, x) :: es) ls (vI b :: vI a :: s) n h = (run g Q J es ls (vI (isr a b) :: s) n h) := rfl
theorem r_iushr {a b : Int} {x : List Nat} : run g Q J ((.iushr, m, x) :: es) ls (vI b :: vI a :: s) n h = (run g Q J es ls (vI (isu a b) :: s) n h) := rfl
theorem r_land {a b : Int} {x : List Nat} : run g Q J ((.land, m, x) :: es) ls (vL b :: vL a :: s) n h = (run g Q J es ls (vL (lan a b) :: s) n h) := rfl
theorem r_lor {a b : Int} {x : List Nat} : run g Q J ((.lor, m, x) :: es) ls (vL b :: vL a :: s) n h = (run g Q J es ls (vL (lor a b) :: s) n h) := rfl
theorem r_lshl {a b : Int} {x : List Nat} : run g Q J ((.lshl, m, x) :: es) ls (vI b :: vL a :: s) n h = (run g Q J es ls (vL (lsl a b) :: s) n h) := rfl
theorem r_lshr {a b : Int} {x : List Nat} : run g Q J ((.lshr, m, x) :: es) ls (vI b :: vL a :: s) n h = (run g Q J es ls (vL (lsr a b) :: s) n h) := rfl
theorem r_lushr {a b : Int} {x : List Nat} : run g Q J ((.lushr, m, x) :: es) ls (vI b :: vL a :: s) n h = (run g Q J es ls (vL (lsu a b) :: s) n h) := rfl
theorem r_idiv {a b : Int} {x : List Nat} : run g Q J ((.idiv, m, x) :: es) ls (vI b :: vI a :: s) n h = (b ≠ 0 ∧ i32 (a.tdiv b) ∧ run g Q J es ls (vI (a.tdiv b) :: s) n h) := rfl
theorem r_irem {a b : Int} {x : List Nat} : run g Q J ((.irem, m, x) :: es) ls (vI b :: vI a :: s) n h = (b ≠ 0 ∧ run g Q J es ls (vI (a.tmod b) :: s) n h) := rfl
theorem r_ldiv {a b : Int} {x : List Nat} : run g Q J ((.ldiv, m, x) :: es) ls (vL b :: vL a :: s) n h = (b ≠ 0 ∧ i64 (a.tdiv b) ∧ run g Q J es ls (vL (a.tdiv b) :: s) n h) := rfl
theorem r_lrem {a b : Int} {x : List Nat} : run g Q J ((.lrem, m, x) :: es) ls (vL b :: vL a :: s) n h = (b ≠ 0 ∧ run g Q J es ls (vL (a.tmod b) :: s) n h) := rfl
theorem r_lcmp {a b : Int} {x : List Nat} : run g Q J ((.lcmp, m, x) :: es) ls (vL b :: vL a :: s) n h = (run g Q J es ls (vI (lcm a b) :: s) n h) := rfl
theorem r_ineg {a : Int} {x : List Nat} : run g Q J ((.ineg, m, x) :: es) ls (vI a :: s) n h = (i32 (-a) ∧ run g Q J es ls (vI (-a) :: s) n h) := rfl
theorem r_i2l {a : Int} {x : List Nat} : run g Q J ((.i2l, m, x) :: es) ls (vI a :: s) n h = (run g Q J es ls (vL a :: s) n h) := rfl
theorem r_l2i {a : Int} {x : List Nat} : run g Q J ((.l2i, m, x) :: es) ls (vL a :: s) n h = (run g Q J es ls (vI (wr a) :: s) n h) := rfl
theorem r_i2b {a : Int} {x : List Nat} : run g Q J ((.i2b, m, x) :: es) ls (vI a :: s) n h = (run g Q J es ls (vI (i2b a) :: s) n h) := rfl
theorem r_i2s {a : Int} {x : List Nat} : run g Q J ((.i2s, m, x) :: es) ls (vI a :: s) n h = (run g Q J es ls (vI (i2s a) :: s) n h) := rfl
theorem r_i2c {a : Int} {x : List Nat} : run g Q J ((.i2c, m, x) :: es) ls (vI a :: s) n h = (run g Q J es ls (vI (i2c a) :: s) n h) := rfl
theorem r_dup {x : List Nat} {v : V} : run g Q J ((.dup, m, x) :: es) ls (v :: s) n h = (c1 v ∧ run g Q J es ls (v :: v :: s) n h) := rfl
theorem r_pop {x : List Nat} {v : V} : run g Q J ((.pop, m, x) :: es) ls (v :: s) n h = (c1 v ∧ run g Q J es ls s n h) := rfl
theorem r_dup_x1 {x : List Nat} {v w : V} : run g Q J ((.dup_x1, m, x) :: es) ls (v :: w :: s) n h = (c1 v ∧ c1 w ∧ run g Q J es ls (v :: w :: v :: s) n h) := rfl
theorem r_dup_x2 {x : List Nat} {v w u : V} : run g Q J ((.dup_x2, m, x) :: es) ls (v :: w :: u :: s) n h = (c1 v ∧ c1 w ∧ c1 u ∧ run g Q J es ls (v :: w :: u :: v :: s) n h) := rfl
theorem r_dup2 {v w : V} : run g Q J ((.dup2, m, []) :: es) ls (v :: w :: s) n h = (c1 v ∧ c1 w ∧ run g Q J es ls (v :: w :: v :: w :: s) n h) := rfl
theorem r_dup2L {a : Int} {u : Nat} : run g Q J ((.dup2, m, [u]) :: es) ls (vL a :: s) n h = (run g Q J es ls (vL a :: vL a :: s) n h) := rfl
theorem r_icmp_eq {a b : Int} {t : Nat} {f : Int} : run g Q J ((.if_icmp .eq f, m, [t]) :: es) ls (vI b :: vI a :: s) n h = (if a = b then J t ls s n h else run g Q J es ls s n h) := rfl
theorem r_icmp_ne {a b : Int} {t : Nat} {f : Int} : run g Q J ((.if_icmp .ne f, m, [t]) :: es) ls (vI b :: vI a :: s) n h = (if a = b then run g Q J es ls s n h else J t ls s n h) := rfl
theorem r_icmp_lt {a b : Int} {t : Nat} {f : Int} : run g Q J ((.if_icmp .lt f, m, [t]) :: es) ls (vI b :: vI a :: s) n h = (if a < b then J t ls s n h else run g Q J es ls s n h) := rfl
theorem r_icmp_ge {a b : Int} {t : Nat} {f : Int} : run g Q J ((.if_icmp .ge f, m, [t]) :: es) ls (vI b :: vI a :: s) n h = (if a < b then run g Q J es ls s n h else J t ls s n h) := rfl
theorem r_icmp_gt {a b : Int} {t : Nat} {f : Int} : run g Q J ((.if_icmp .gt f, m, [t]) :: es) ls (vI b :: vI a :: s) n h = (if b < a then J t ls s n h else run g Q J es ls s n h) := rfl
theorem r_icmp_le {a b : Int} {t : Nat} {f : Int} : run g Q J ((.if_icmp .le f, m, [t]) :: es) ls (vI b :: vI a :: s) n h = (if b < a then run g Q J es ls s n h else J t ls s n h) := rfl
theorem r_if_eq {a : Int} {t : Nat} {f : Int} : run g Q J ((.ifCond .eq f, m, [t]) :: es) ls (vI a :: s) n h = (if a = 0 then J t ls s n h else run g Q J es ls s n h) := rfl
theorem r_if_ne {a : Int} {t : Nat} {f : Int} : run g Q J ((.ifCond .ne f, m, [t]) :: es) ls (vI a :: s) n h = (if a = 0 then run g Q J es ls s n h else J t ls s n h) := rfl
theorem r_if_lt {a : Int} {t : Nat} {f : Int} : run g Q J ((.ifCond .lt f, m, [t]) :: es) ls (vI a :: s) n h = (if a < 0 then J t ls s n h else run g Q J es ls s n h) := rfl
theorem r_if_ge {a : Int} {t : Nat} {f : Int} : run g Q J ((.ifCond .ge f, m, [t]) :: es) ls (vI a :: s) n h = (if a < 0 then run g Q J es ls s n h else J t ls s n h) := rfl
theorem r_if_gt {a : Int} {t : Nat} {f : Int} : run g Q J ((.ifCond .gt f, m, [t]) :: es) ls (vI a :: s) n h = (if 0 < a then J t ls s n h else run g Q J es ls s n h) := rfl
theorem r_if_le {a : Int} {t : Nat} {f : Int} : run g Q J ((.ifCond .le f, m, [t]) :: es) ls (vI a :: s) n h = (if 0 < a then run g Q J es ls s n h else J t ls s n h) := rfl
theorem r_acmp_eq {a b : Int} {t : Nat} {f : Int} {d d' : Nat} : run g Q J ((.if_acmp .eq f, m, [t]) :: es) ls (vR d b :: vR d' a :: s) n h = (d / 2 = 1 ∧ d' / 2 = 1 ∧ if a = b then J t ls s n h else run g Q J es ls s n h) := rfl
theorem r_acmp_ne {a b : Int} {t : Nat} {f : Int} {d d' : Nat} : run g Q J ((.if_acmp .ne f, m, [t]) :: es) ls (vR d b :: vR d' a :: s) n h = (d / 2 = 1 ∧ d' / 2 = 1 ∧ if a = b then run g Q J es ls s n h else J t ls s n h) := rfl
theorem r_ifnull {a : Int} {d : Nat} {t : Nat} {f : Int} : run g Q J ((.ifnull f, m, [t]) :: es) ls (vR d a :: s) n h = (if a = 0 then J t ls s n h else run g Q J es ls s n h) := rfl
theorem r_ifnonnull {a : Int} {d : Nat} {t : Nat} {f : Int} : run g Q J ((.ifnonnull f, m, [t]) :: es) ls (vR d a :: s) n h = (if a = 0 then run g Q J es ls s n h else J t ls s n h) := rfl
theorem r_goto {t : Nat} {f : Int} : run g Q J ((.goto f, m, [t]) :: es) ls s n h = (J t ls s n h) := rfl
theorem r_nop {t : Nat} : run g Q J ((.nop, m, [t]) :: es) ls s n h = (J t ls s n h) := rfl
theorem r_tsw {a df lo hi : Int} {offs : Array Int} {dt : Nat} {ts : List Nat} : run g Q J ((.tableswitch df lo hi offs, m, dt :: ts) :: es) ls (vI a :: s) n h = (tsw (fun t => J t ls s n h) a lo ts dt) := rfl
theorem r_lsw {a df : Int} {ps : Array (Int × Int)} {dt : Nat} {ts : List Nat} : run g Q J ((.lookupswitch df ps, m, dt :: ts) :: es) ls (vI a :: s) n h = (lsw (fun t => J t ls s n h) a ps.toList ts dt) := rfl
theorem r_getfield {i c j t d : Nat} {a : Int} : run g Q J ((.getfield i, m, [c, j, t]) :: es) ls (vR d a :: s) n h = (d / 2 = c ∧ nn d a ∧ run g Q J es ls (gv t (h a j) :: s) n h) := rfl
theorem r_getfinal {i c j t d u : Nat} {a : Int} : run g Q J ((.getfield i, m, [c, j, t, u]) :: es) ls (vR d a :: s) n h = (d / 2 = c ∧ nn d a ∧ (0 ≤ m ∨ a + m ≠ 0) ∧ run g Q J es ls (vR t (a + m) :: s) n h) := rfl
theorem r_putfield {i c j t d : Nat} {a : Int} {v : V} : run g Q J ((.putfield i, m, [c, j, t]) :: es) ls (v :: vR d a :: s) n h = (d / 2 = c ∧ nn d a ∧ pvq t v (fun y => run g Q J es ls s n (st h a j y))) := rfl
theorem r_getstaticL {i z : Nat} : run g Q J ((.getstatic i, m, [z]) :: es) ls s n h = (run g Q J es ls (vL m :: s) n h) := rfl
theorem r_getstaticR {i z d : Nat} : run g Q J ((.getstatic i, m, [z, d]) :: es) ls s n h = (run g Q J es ls (vR d m :: s) n h) := rfl
theorem r_iaload {a i : Int} {d : Nat} {x : List Nat} : run g Q J ((.iaload, m, x) :: es) ls (vI i :: vR d a :: s) n h = (d / 2 = 40 ∧ nn d a ∧ 0 ≤ i ∧ i < ((g.1 a).2 : Int) ∧ run g Q J es ls (vI (rd h a i) :: s) n h) := rfl
theorem r_baload {a i : Int} {d : Nat} {ak : Nat} : run g Q J ((.baload, m, [ak]) :: es) ls (vI i :: vR d a :: s) n h = (d / 2 = ak ∧ nn d a ∧ 0 ≤ i ∧ i < ((g.1 a).2 : Int) ∧ run g Q J es ls (vI (h a i) :: s) n h) := rfl
theorem r_saload {a i : Int} {d : Nat} {x : List Nat} : run g Q J ((.saload, m, x) :: es) ls (vI i :: vR d a :: s) n h = (d / 2 = 42 ∧ nn d a ∧ 0 ≤ i ∧ i < ((g.1 a).2 : Int) ∧ run g Q J es ls (vI (h a i) :: s) n h) := rfl
theorem r_laload {a i : Int} {d : Nat} {x : List Nat} : run g Q J ((.laload, m, x) :: es) ls (vI i :: vR d a :: s) n h = (d / 2 = 43 ∧ nn d a ∧ 0 ≤ i ∧ i < ((g.1 a).2 : Int) ∧ run g Q J es ls (vL (h a i) :: s) n h) := rfl
theorem r_aaload {a i : Int} {d : Nat} {ak d' : Nat} : run g Q J ((.aaload, m, [ak, d']) :: es) ls (vI i :: vR d a :: s) n h = (d / 2 = ak ∧ nn d a ∧ 0 ≤ i ∧ i < ((g.1 a).2 : Int) ∧ run g Q J es ls (vR d' (h a i) :: s) n h) := rfl
theorem r_aaloadM {a i : Int} {d : Nat} {ak d' u : Nat} : run g Q J ((.aaload, m, [ak, d', u]) :: es) ls (vI i :: vR d a :: s) n h = (d / 2 = 48 ∧ nn d a ∧ 0 ≤ i ∧ i < ((g.1 a).2 : Int) ∧ run g Q J es ls (vR d' (rd h a i) :: s) n h) := rfl
theorem r_iastore {a i : Int} {d : Nat} {x : List Nat} {y : Int} : run g Q J ((.iastore, m, x) :: es) ls (vI y :: vI i :: vR d a :: s) n h = (d / 2 = 40 ∧ nn d a ∧ 0 ≤ i ∧ i < ((g.1 a).2 : Int) ∧ SB ≤ a ∧ run g Q J es ls s n (st h a i y)) := rfl
theorem r_bastore {a i : Int} {d : Nat} {y : Int} {u : Nat} : run g Q J ((.bastore, m, [u]) :: es) ls (vI y :: vI i :: vR d a :: s) n h = (d / 2 = 41 ∧ nn d a ∧ 0 ≤ i ∧ i < ((g.1 a).2 : Int) ∧ run g Q J es ls s n (st h a i (i2b y))) := rfl
theorem r_zastore {a i : Int} {d : Nat} {y : Int} : run g Q J ((.bastore, m, []) :: es) ls (vI y :: vI i :: vR d a :: s) n h = (d / 2 = 44 ∧ nn d a ∧ 0 ≤ i ∧ i < ((g.1 a).2 : Int) ∧ (0 ≤ y ∧ y ≤ 1) ∧ run g Q J es ls s n (st h a i y)) := rfl
theorem r_sastore {a i : Int} {d : Nat} {x : List Nat} {y : Int} : run g Q J ((.sastore, m, x) :: es) ls (vI y :: vI i :: vR d a :: s) n h = (d / 2 = 42 ∧ nn d a ∧ 0 ≤ i ∧ i < ((g.1 a).2 : Int) ∧ run g Q J es ls s n (st h a i (i2s y))) := rfl
theorem r_lastore {a i : Int} {d : Nat} {x : List Nat} {y : Int} : run g Q J ((.lastore, m, x) :: es) ls (vL y :: vI i :: vR d a :: s) n h = (d / 2 = 43 ∧ nn d a ∧ 0 ≤ i ∧ i < ((g.1 a).2 : Int) ∧ run g Q J es ls s n (st h a i y)) := rfl
theorem r_aastore {a i : Int} {d : Nat} {y : Int} {ak c d' : Nat} : run g Q J ((.aastore, m, [ak, c]) :: es) ls (vR d' y :: vI i :: vR d a :: s) n h = (d / 2 = ak ∧ nn d a ∧ 0 ≤ i ∧ i < ((g.1 a).2 : Int) ∧ d' / 2 = c ∧ nn d' y ∧ run g Q J es ls s n (st h a i y)) := rfl
theorem r_alen {a : Int} {ak d : Nat} : run g Q J ((.arraylength, m, [ak]) :: es) ls (vR d a :: s) n h = (d / 2 = ak ∧ nn d a ∧ ((g.1 a).2 : Int) ≤ 2147483647 ∧ run g Q J es ls (vI ((g.1 a).2 : Int) :: s) n h) := rfl
theorem r_new {i c d N : Nat} : run g Q J ((.new i, m, [c, d, N]) :: es) ls s n h = (n < g.2.1 ∧ g.1 n = (c, N) ∧ run g Q J es ls (vR d n :: s) (n + 1) (clr h n)) := rfl
theorem r_newarray {i : ArrayType} {ak d : Nat} {a : Int} : run g Q J ((.newarray i, m, [ak, d]) :: es) ls (vI a :: s) n h = (0 ≤ a ∧ a ≤ 60000000 ∧ n < g.2.1 ∧ g.1 n = (ak, a.toNat) ∧ run g Q J es ls (vR d n :: s) (n + 1) (clr h n)) := rfl
theorem r_anewarray {i ak d : Nat} {a : Int} : run g Q J ((.anewarray i, m, [ak, d]) :: es) ls (vI a :: s) n h = (0 ≤ a ∧ a ≤ 60000000 ∧ n < g.2.1 ∧ g.1 n = (ak, a.toNat) ∧ run g Q J es ls (vR d n :: s) (n + 1) (clr h n)) := rfl
theorem r_invV {i k' c d' W hc rt : Nat} {ts : List Nat} : run g Q J ((.invokevirtual i, m, k' :: c :: d' :: W :: hc :: rt :: ts) :: es) ls s n h = (tkA ts s [] (fun as r => pR r (fun d a r => d / 2 = c ∧ nn d a ∧ wds r ≤ W ∧ T g k' (vR d' a :: as) n h (kq Q J (run g Q J es) ls hc rt r)))) := rfl
theorem r_invI {i k' c d' W hc rt : Nat} {ts : List Nat} : run g Q J ((.invokespecial i, m, k' :: c :: d' :: W :: hc :: rt :: ts) :: es) ls s n h = (tkA ts s [] (fun as r => pR r (fun d a r => d / 2 = c ∧ nn d a ∧ wds r ≤ W ∧ T g k' (vR d' a :: as) n h (kq Q J (run g Q J es) ls hc rt r)))) := rfl
theorem r_objI {i W d : Nat} {a : Int} : run g Q J ((.invokespecial i, m, [W]) :: es) ls (vR d a :: s) n h = (nn d a ∧ wds s ≤ W ∧ run g Q J es ls s n h) := rfl
theorem r_invS {i k' W hc rt : Nat} {ts : List Nat} : run g Q J ((.invokestatic i, m, k' :: W :: hc :: rt :: ts) :: es) ls s n h = (tkA ts s [] (fun as r => wds r ≤ W ∧ T g k' as n h (kq Q J (run g Q J es) ls hc rt r))) := rfl
theorem r_acp {i ak W d d' : Nat} {a b c sp dp : Int} : run g Q J ((.invokestatic i, m, [ak, W]) :: es) ls (vI c :: vI dp :: vR d' b :: vI sp :: vR d a :: s) n h = (d / 2 = ak ∧ d' / 2 = ak ∧ nn d a ∧ nn d' b ∧ SB ≤ b ∧ 0 ≤ sp ∧ 0 ≤ dp ∧ 0 ≤ c ∧ sp + c ≤ ((g.1 a).2 : Int) ∧ dp + c ≤ ((g.1 b).2 : Int) ∧ wds s ≤ W ∧ run g Q J es ls s n (cpy h a sp b dp c)) := rfl
theorem r_ireturn {a : Int} : run g Q J ((.ireturn, m, []) :: es) ls (vI a :: s) n h = (s = [] ∧ Q (.inl (some (vI a))) n h) := rfl
theorem r_zreturn {a : Int} {u : Nat} : run g Q J ((.ireturn, m, [u]) :: es) ls (vI a :: s) n h = ((0 ≤ a ∧ a ≤ 1) ∧ s = [] ∧ Q (.inl (some (vI a))) n h) := rfl
theorem r_lreturn {a : Int} {x : List Nat} : run g Q J ((.lreturn, m, x) :: es) ls (vL a :: s) n h = (s = [] ∧ Q (.inl (some (vL a))) n h) := rfl
theorem r_return {x : List Nat} : run g Q J ((.return_, m, x) :: es) ls s n h = (s = [] ∧ Q (.inl none) n h) := rfl
theorem r_areturn {a : Int} {kd d' d : Nat} : run g Q J ((.areturn, m, [kd, d']) :: es) ls (vR d a :: s) n h = (d / 2 = kd ∧ s = [] ∧ Q (.inl (some (vR d' a))) n h) := rfl
theorem r_athrow {a : Int} {d : Nat} {x : List Nat} : run g Q J ((.athrow, m, x) :: es) ls (vR d a :: s) n h = (d / 2 = 17 ∧ nn d a ∧ Q (.inr a) n h) := rfl
end
theorem e_pI {x : Int} {r : List V} {f : Int → List V → Prop} : pI (vI x :: r) f = f x r := rfl
theorem e_pL {x : Int} {r : List V} {f : Int → List V → Prop} : pL (vL x :: r) f = f x r := rfl
theorem e_pR {x : Int} {d : Nat} {r : List V} {f : Nat → Int → List V → Prop} : pR (vR d x :: r) f = f d x r := rfl
theorem e_lg0 {v : V} {r : Lcs} {f : V → Prop} : lga (some v :: r) 0 f = f v := rfl
theorem e_lg1 {v : Option V} {r : Lcs} {i : Nat} {f : V → Prop} : lga (v :: r) (i + 1) f = lga r i f := by cases v <;> rfl
theorem e_tk0 {s acc : List V} {f : List V → List V → Prop} : tkA [] s acc f = f acc s := rfl
theorem e_tkI0 {x : Int} {s acc : List V} {ts : List Nat} {f : List V → List V → Prop} : tkA (0 :: ts) (vI x :: s) acc f = tkA ts s (vI x :: acc) f := rfl
theorem e_tkI1 {x : Int} {s acc : List V} {ts : List Nat} {f : List V → List V → Prop} : tkA (1 :: ts) (vI x :: s) acc f = tkA ts s (vI x :: acc) f := rfl
theorem e_tkI2 {x : Int} {s acc : List V} {ts : List Nat} {f : List V → List V → Prop} : tkA (2 :: ts) (vI x :: s) acc f = tkA ts s (vI x :: acc) f := rfl
theorem e_tkI3 {x : Int} {s acc : List V} {ts : List Nat} {f : List V → List V → Prop} : tkA (3 :: ts) (vI x :: s) acc f = tkA ts s (vI x :: acc) f := rfl
theorem e_tkI4 {x : Int} {s acc : List V} {ts : List Nat} {f : List V → List V → Prop} : tkA (4 :: ts) (vI x :: s) acc f = tkA ts s (vI x :: acc) f := rfl
theorem e_tkL {x : Int} {s acc : List V} {ts : List Nat} {f : List V → List V → Prop} : tkA (5 :: ts) (vL x :: s) acc f = tkA ts s (vL x :: acc) f := rfl
theorem e_tkR0_0 {x : Int} {s acc : List V} {ts : List Nat} {f : List V → List V → Prop} : tkA (6 :: ts) (vR 0 x :: s) acc f = tkA ts s (vR 0 x :: acc) f := rfl
theorem e_tkR0_1 {x : Int} {s acc : List V} {ts : List Nat} {f : List V → List V → Prop} : tkA (6 :: ts) (vR 1 x :: s) acc f = tkA ts s (vR 0 x :: acc) f := rfl
theorem e_tkR1_0 {x : Int} {s acc : List V} {ts : List Nat} {f : List V → List V → Prop} : tkA (7 :: ts) (vR 2 x :: s) acc f = tkA ts s (vR 2 x :: acc) f := rfl
theorem e_tkR1_1 {x : Int} {s acc : List V} {ts : List Nat} {f : List V → List V → Prop} : tkA (7 :: ts) (vR 3 x :: s) acc f = tkA ts s (vR 2 x :: acc) f := rfl
theorem e_tkR2_0 {x : Int} {s acc : List V} {ts : List Nat} {f : List V → List V → Prop} : tkA (8 :: ts) (vR 4 x :: s) acc f = tkA ts s (vR 4 x :: acc) f := rfl
theorem e_tkR2_1 {x : Int} {s acc : List V} {ts : List Nat} {f : List V → List V → Prop} : tkA (8 :: ts) (vR 5 x :: s) acc f = tkA ts s (vR 4 x :: acc) f := rfl
theorem e_tkR3_0 {x : Int} {s acc : List V} {ts : List Nat} {f : List V → List V → Prop} : tkA (9 :: ts) (vR 6 x :: s) acc f = tkA ts s (vR 6 x :: acc) f := rfl
theorem e_tkR3_1 {x : Int} {s acc : List V} {ts : List Nat} {f : List V → List V → Prop} : tkA (9 :: ts) (vR 7 x :: s) acc f = tkA ts s (vR 6 x :: acc) f := rfl
theorem e_tkR4_0 {x : Int} {s acc : List V} {ts : List Nat} {f : List V → List V → Prop} : tkA (10 :: ts) (vR 8 x :: s) acc f = tkA ts s (vR 8 x :: acc) f := rfl
theorem e_tkR4_1 {x : Int} {s acc : List V} {ts : List Nat} {f : List V → List V → Prop} : tkA (10 :: ts) (vR 9 x :: s) acc f = tkA ts s (vR 8 x :: acc) f := rfl
theorem e_tkR5_0 {x : Int} {s acc : List V} {ts : List Nat} {f : List V → List V → Prop} : tkA (11 :: ts) (vR 10 x :: s) acc f = tkA ts s (vR 10 x :: acc) f := rfl
theorem e_tkR5_1 {x : Int} {s acc : List V} {ts : List Nat} {f : List V → List V → Prop} : tkA (11 :: ts) (vR 11 x :: s) acc f = tkA ts s (vR 10 x :: acc) f := rfl
theorem e_tkR6_0 {x : Int} {s acc : List V} {ts : List Nat} {f : List V → List V → Prop} : tkA (12 :: ts) (vR 12 x :: s) acc f = tkA ts s (vR 12 x :: acc) f := rfl
theorem e_tkR6_1 {x : Int} {s acc : List V} {ts : List Nat} {f : List V → List V → Prop} : tkA (12 :: ts) (vR 13 x :: s) acc f = tkA ts s (vR 12 x :: acc) f := rfl
theorem e_tkR7_0 {x : Int} {s acc : List V} {ts : List Nat} {f : List V → List V → Prop} : tkA (13 :: ts) (vR 14 x :: s) acc f = tkA ts s (vR 14 x :: acc) f := rfl
theorem e_tkR7_1 {x : Int} {s acc : List V} {ts : List Nat} {f : List V → List V → Prop} : tkA (13 :: ts) (vR 15 x :: s) acc f = tkA ts s (vR 14 x :: acc) f := rfl
theorem e_tkR8_0 {x : Int} {s acc : List V} {ts : List Nat} {f : List V → List V → Prop} : tkA (14 :: ts) (vR 16 x :: s) acc f = tkA ts s (vR 16 x :: acc) f := rfl
theorem e_tkR8_1 {x : Int} {s acc : List V} {ts : List Nat} {f : List V → List V → Prop} : tkA (14 :: ts) (vR 17 x :: s) acc f = tkA ts s (vR 16 x :: acc) f := rfl
theorem e_tkR9_0 {x : Int} {s acc : List V} {ts : List Nat} {f : List V → List V → Prop} : tkA (15 :: ts) (vR 18 x :: s) acc f = tkA ts s (vR 18 x :: acc) f := rfl
theorem e_tkR9_1 {x : Int} {s acc : List V} {ts : List Nat} {f : List V → List V → Prop} : tkA (15 :: ts) (vR 19 x :: s) acc f = tkA ts s (vR 18 x :: acc) f := rfl
theorem e_tkR10_0 {x : Int} {s acc : List V} {ts : List Nat} {f : List V → List V → Prop} : tkA (16 :: ts) (vR 20 x :: s) acc f = tkA ts s (vR 20 x :: acc) f := rfl
theorem e_tkR10_1 {x : Int} {s acc : List V} {ts : List Nat} {f : List V → List V → Prop} : tkA (16 :: ts) (vR 21 x :: s) acc f = tkA ts s (vR 20 x :: acc) f := rfl
theorem e_tkR11_0 {x : Int} {s acc : List V} {ts : List Nat} {f : List V → List V → Prop} : tkA (17 :: ts) (vR 22 x :: s) acc f = tkA ts s (vR 22 x :: acc) f := rfl
theorem e_tkR11_1 {x : Int} {s acc : List V} {ts : List Nat} {f : List V → List V → Prop} : tkA (17 :: ts) (vR 23 x :: s) acc f = tkA ts s (vR 22 x :: acc) f := rfl
theorem e_tkR12_0 {x : Int} {s acc : List V} {ts : List Nat} {f : List V → List V → Prop} : tkA (18 :: ts) (vR 24 x :: s) acc f = tkA ts s (vR 24 x :: acc) f := rfl
theorem e_tkR12_1 {x : Int} {s acc : List V} {ts : List Nat} {f : List V → List V → Prop} : tkA (18 :: ts) (vR 25 x :: s) acc f = tkA ts s (vR 24 x :: acc) f := rfl
theorem e_tkR13_0 {x : Int} {s acc : List V} {ts : List Nat} {f : List V → List V → Prop} : tkA (19 :: ts) (vR 26 x :: s) acc f = tkA ts s (vR 26 x :: acc) f := rfl
theorem e_tkR13_1 {x : Int} {s acc : List V} {ts : List Nat} {f : List V → List V → Prop} : tkA (19 :: ts) (vR 27 x :: s) acc f = tkA ts s (vR 26 x :: acc) f := rfl
theorem e_tkR14_0 {x : Int} {s acc : List V} {ts : List Nat} {f : List V → List V → Prop} : tkA (20 :: ts) (vR 28 x :: s) acc f = tkA ts s (vR 28 x :: acc) f := rfl
theorem e_tkR14_1 {x : Int} {s acc : List V} {ts : List Nat} {f : List V → List V → Prop} : tkA (20 :: ts) (vR 29 x :: s) acc f = tkA ts s (vR 28 x :: acc) f := rfl
theorem e_tkR15_0 {x : Int} {s acc : List V} {ts : List Nat} {f : List V → List V → Prop} : tkA (21 :: ts) (vR 30 x :: s) acc f = tkA ts s (vR 30 x :: acc) f := rfl
theorem e_tkR15_1 {x : Int} {s acc : List V} {ts : List Nat} {f : List V → List V → Prop} : tkA (21 :: ts) (vR 31 x :: s) acc f = tkA ts s (vR 30 x :: acc) f := rfl
theorem e_tkR16_0 {x : Int} {s acc : List V} {ts : List Nat} {f : List V → List V → Prop} : tkA (22 :: ts) (vR 32 x :: s) acc f = tkA ts s (vR 32 x :: acc) f := rfl
theorem e_tkR16_1 {x : Int} {s acc : List V} {ts : List Nat} {f : List V → List V → Prop} : tkA (22 :: ts) (vR 33 x :: s) acc f = tkA ts s (vR 32 x :: acc) f := rfl
theorem e_tkR17_0 {x : Int} {s acc : List V} {ts : List Nat} {f : List V → List V → Prop} : tkA (23 :: ts) (vR 34 x :: s) acc f = tkA ts s (vR 34 x :: acc) f := rfl
theorem e_tkR17_1 {x : Int} {s acc : List V} {ts : List Nat} {f : List V → List V → Prop} : tkA (23 :: ts) (vR 35 x :: s) acc f = tkA ts s (vR 34 x :: acc) f := rfl
theorem e_tkR39_0 {x : Int} {s acc : List V} {ts : List Nat} {f : List V → List V → Prop} : tkA (45 :: ts) (vR 78 x :: s) acc f = tkA ts s (vR 78 x :: acc) f := rfl
theorem e_tkR39_1 {x : Int} {s acc : List V} {ts : List Nat} {f : List V → List V → Prop} : tkA (45 :: ts) (vR 79 x :: s) acc f = tkA ts s (vR 78 x :: acc) f := rfl
theorem e_tkR40_0 {x : Int} {s acc : List V} {ts : List Nat} {f : List V → List V → Prop} : tkA (46 :: ts) (vR 80 x :: s) acc f = tkA ts s (vR 80 x :: acc) f := rfl
theorem e_tkR40_1 {x : Int} {s acc : List V} {ts : List Nat} {f : List V → List V → Prop} : tkA (46 :: ts) (vR 81 x :: s) acc f = tkA ts s (vR 80 x :: acc) f := rfl
theorem e_tkR41_0 {x : Int} {s acc : List V} {ts : List Nat} {f : List V → List V → Prop} : tkA (47 :: ts) (vR 82 x :: s) acc f = tkA ts s (vR 82 x :: acc) f := rfl
theorem e_tkR41_1 {x : Int} {s acc : List V} {ts : List Nat} {f : List V → List V → Prop} : tkA (47 :: ts) (vR 83 x :: s) acc f = tkA ts s (vR 82 x :: acc) f := rfl
theorem e_tkR42_0 {x : Int} {s acc : List V} {ts : List Nat} {f : List V → List V → Prop} : tkA (48 :: ts) (vR 84 x :: s) acc f = tkA ts s (vR 84 x :: acc) f := rfl
theorem e_tkR42_1 {x : Int} {s acc : List V} {ts : List Nat} {f : List V → List V → Prop} : tkA (48 :: ts) (vR 85 x :: s) acc f = tkA ts s (vR 84 x :: acc) f := rfl
theorem e_tkR43_0 {x : Int} {s acc : List V} {ts : List Nat} {f : List V → List V → Prop} : tkA (49 :: ts) (vR 86 x :: s) acc f = tkA ts s (vR 86 x :: acc) f := rfl
theorem e_tkR43_1 {x : Int} {s acc : List V} {ts : List Nat} {f : List V → List V → Prop} : tkA (49 :: ts) (vR 87 x :: s) acc f = tkA ts s (vR 86 x :: acc) f := rfl
theorem e_tkR44_0 {x : Int} {s acc : List V} {ts : List Nat} {f : List V → List V → Prop} : tkA (50 :: ts) (vR 88 x :: s) acc f = tkA ts s (vR 88 x :: acc) f := rfl
theorem e_tkR44_1 {x : Int} {s acc : List V} {ts : List Nat} {f : List V → List V → Prop} : tkA (50 :: ts) (vR 89 x :: s) acc f = tkA ts s (vR 88 x :: acc) f := rfl
theorem e_tkR45_0 {x : Int} {s acc : List V} {ts : List Nat} {f : List V → List V → Prop} : tkA (51 :: ts) (vR 90 x :: s) acc f = tkA ts s (vR 90 x :: acc) f := rfl
theorem e_tkR45_1 {x : Int} {s acc : List V} {ts : List Nat} {f : List V → List V → Prop} : tkA (51 :: ts) (vR 91 x :: s) acc f = tkA ts s (vR 90 x :: acc) f := rfl
theorem e_tkR46_0 {x : Int} {s acc : List V} {ts : List Nat} {f : List V → List V → Prop} : tkA (52 :: ts) (vR 92 x :: s) acc f = tkA ts s (vR 92 x :: acc) f := rfl
theorem e_tkR46_1 {x : Int} {s acc : List V} {ts : List Nat} {f : List V → List V → Prop} : tkA (52 :: ts) (vR 93 x :: s) acc f = tkA ts s (vR 92 x :: acc) f := rfl
theorem e_tkR47_0 {x : Int} {s acc : List V} {ts : List Nat} {f : List V → List V → Prop} : tkA (53 :: ts) (vR 94 x :: s) acc f = tkA ts s (vR 94 x :: acc) f := rfl
theorem e_tkR47_1 {x : Int} {s acc : List V} {ts : List Nat} {f : List V → List V → Prop} : tkA (53 :: ts) (vR 95 x :: s) acc f = tkA ts s (vR 94 x :: acc) f := rfl
theorem e_tkR48_0 {x : Int} {s acc : List V} {ts : List Nat} {f : List V → List V → Prop} : tkA (54 :: ts) (vR 96 x :: s) acc f = tkA ts s (vR 96 x :: acc) f := rfl
theorem e_tkR48_1 {x : Int} {s acc : List V} {ts : List Nat} {f : List V → List V → Prop} : tkA (54 :: ts) (vR 97 x :: s) acc f = tkA ts s (vR 96 x :: acc) f := rfl
theorem e_pv0 {x : Int} {f : Int → Prop} : pvq 0 (vI x) f = f x := rfl
theorem e_pv1 {x : Int} {f : Int → Prop} : pvq 1 (vI x) f = ((-128 ≤ x ∧ x ≤ 127) ∧ f x) := rfl
theorem e_pv2 {x : Int} {f : Int → Prop} : pvq 2 (vI x) f = ((-32768 ≤ x ∧ x ≤ 32767) ∧ f x) := rfl
theorem e_pv3 {x : Int} {f : Int → Prop} : pvq 3 (vI x) f = ((0 ≤ x ∧ x ≤ 1) ∧ f x) := rfl
theorem e_pv5 {x : Int} {f : Int → Prop} : pvq 5 (vL x) f = f x := by simp [pvq]
theorem e_pvR {x : Int} {t d : Nat} {f : Int → Prop} : pvq t (vR d x) f = (t = 6 + d / 2 ∧ f x) := rfl
theorem e_tsw0 {F : Nat → Prop} {v lo : Int} {d : Nat} : tsw F v lo [] d = F d := rfl
theorem e_tsw1 {F : Nat → Prop} {v lo : Int} {t d : Nat} {ts : List Nat} : tsw F v lo (t :: ts) d = if v = lo then F t else tsw F v (lo + 1) ts d := rfl
theorem e_lsw0 {F : Nat → Prop} {v : Int} {d : Nat} : lsw F v [] [] d = F d := rfl
theorem e_lsw1 {F : Nat → Prop} {v a b : Int} {ps : List (Int × Int)} {t d : Nat} {ts : List Nat} : lsw F v ((a, b) :: ps) (t :: ts) d = if v = a then F t else lsw F v ps ts d := rfl
theorem e_kq100 {Q : Qt} {J : Nat → Kt} {K : Kt} {ls : Lcs} {hc : Nat} {r : List V} : kq Q J K ls hc 100 r = kV (kX Q J ls hc) (fun n h => K ls r n h) := rfl
theorem e_kq0 {Q : Qt} {J : Nat → Kt} {K : Kt} {ls : Lcs} {hc : Nat} {r : List V} : kq Q J K ls hc 0 r = kI (kX Q J ls hc) (fun a n h => K ls (vI a :: r) n h) := rfl
theorem e_kq3 {Q : Qt} {J : Nat → Kt} {K : Kt} {ls : Lcs} {hc : Nat} {r : List V} : kq Q J K ls hc 3 r = kI (kX Q J ls hc) (fun a n h => K ls (vI a :: r) n h) := rfl
theorem e_kq5 {Q : Qt} {J : Nat → Kt} {K : Kt} {ls : Lcs} {hc : Nat} {r : List V} : kq Q J K ls hc 5 r = kL (kX Q J ls hc) (fun a n h => K ls (vL a :: r) n h) := rfl
theorem e_kqR0 {Q : Qt} {J : Nat → Kt} {K : Kt} {ls : Lcs} {hc : Nat} {r : List V} : kq Q J K ls hc 6 r = kR 0 (kX Q J ls hc) (fun a n h => K ls (vR 0 a :: r) n h) := rfl
theorem e_kqR1 {Q : Qt} {J : Nat → Kt} {K : Kt} {ls : Lcs} {hc : Nat} {r : List V} : kq Q J K ls hc 7 r = kR 2 (kX Q J ls hc) (fun a n h => K ls (vR 2 a :: r) n h) := rfl
theorem e_kqR2 {Q : Qt} {J : Nat → Kt} {K : Kt} {ls : Lcs} {hc : Nat} {r : List V} : kq Q J K ls hc 8 r = kR 4 (kX Q J ls hc) (fun a n h => K ls (vR 4 a :: r) n h) := rfl
theorem e_kqR3 {Q : Qt} {J : Nat → Kt} {K : Kt} {ls : Lcs} {hc : Nat} {r : List V} : kq Q J K ls hc 9 r = kR 6 (kX Q J ls hc) (fun a n h => K ls (vR 6 a :: r) n h) := rfl
theorem e_kqR4 {Q : Qt} {J : Nat → Kt} {K : Kt} {ls : Lcs} {hc : Nat} {r : List V} : kq Q J K ls hc 10 r = kR 8 (kX Q J ls hc) (fun a n h => K ls (vR 8 a :: r) n h) := rfl
theorem e_kqR5 {Q : Qt} {J : Nat → Kt} {K : Kt} {ls : Lcs} {hc : Nat} {r : List V} : kq Q J K ls hc 11 r = kR 10 (kX Q J ls hc) (fun a n h => K ls (vR 10 a :: r) n h) := rfl
theorem e_kqR6 {Q : Qt} {J : Nat → Kt} {K : Kt} {ls : Lcs} {hc : Nat} {r : List V} : kq Q J K ls hc 12 r = kR 12 (kX Q J ls hc) (fun a n h => K ls (vR 12 a :: r) n h) := rfl
theorem e_kqR7 {Q : Qt} {J : Nat → Kt} {K : Kt} {ls : Lcs} {hc : Nat} {r : List V} : kq Q J K ls hc 13 r = kR 14 (kX Q J ls hc) (fun a n h => K ls (vR 14 a :: r) n h) := rfl
theorem e_kqR8 {Q : Qt} {J : Nat → Kt} {K : Kt} {ls : Lcs} {hc : Nat} {r : List V} : kq Q J K ls hc 14 r = kR 16 (kX Q J ls hc) (fun a n h => K ls (vR 16 a :: r) n h) := rfl
theorem e_kqR9 {Q : Qt} {J : Nat → Kt} {K : Kt} {ls : Lcs} {hc : Nat} {r : List V} : kq Q J K ls hc 15 r = kR 18 (kX Q J ls hc) (fun a n h => K ls (vR 18 a :: r) n h) := rfl
theorem e_kqR10 {Q : Qt} {J : Nat → Kt} {K : Kt} {ls : Lcs} {hc : Nat} {r : List V} : kq Q J K ls hc 16 r = kR 20 (kX Q J ls hc) (fun a n h => K ls (vR 20 a :: r) n h) := rfl
theorem e_kqR11 {Q : Qt} {J : Nat → Kt} {K : Kt} {ls : Lcs} {hc : Nat} {r : List V} : kq Q J K ls hc 17 r = kR 22 (kX Q J ls hc) (fun a n h => K ls (vR 22 a :: r) n h) := rfl
theorem e_kqR12 {Q : Qt} {J : Nat → Kt} {K : Kt} {ls : Lcs} {hc : Nat} {r : List V} : kq Q J K ls hc 18 r = kR 24 (kX Q J ls hc) (fun a n h => K ls (vR 24 a :: r) n h) := rfl
theorem e_kqR13 {Q : Qt} {J : Nat → Kt} {K : Kt} {ls : Lcs} {hc : Nat} {r : List V} : kq Q J K ls hc 19 r = kR 26 (kX Q J ls hc) (fun a n h => K ls (vR 26 a :: r) n h) := rfl
theorem e_kqR14 {Q : Qt} {J : Nat → Kt} {K : Kt} {ls : Lcs} {hc : Nat} {r : List V} : kq Q J K ls hc 20 r = kR 28 (kX Q J ls hc) (fun a n h => K ls (vR 28 a :: r) n h) := rfl
theorem e_kqR15 {Q : Qt} {J : Nat → Kt} {K : Kt} {ls : Lcs} {hc : Nat} {r : List V} : kq Q J K ls hc 21 r = kR 30 (kX Q J ls hc) (fun a n h => K ls (vR 30 a :: r) n h) := rfl
theorem e_kqR16 {Q : Qt} {J : Nat → Kt} {K : Kt} {ls : Lcs} {hc : Nat} {r : List V} : kq Q J K ls hc 22 r = kR 32 (kX Q J ls hc) (fun a n h => K ls (vR 32 a :: r) n h) := rfl
theorem e_kqR17 {Q : Qt} {J : Nat → Kt} {K : Kt} {ls : Lcs} {hc : Nat} {r : List V} : kq Q J K ls hc 23 r = kR 34 (kX Q J ls hc) (fun a n h => K ls (vR 34 a :: r) n h) := rfl
theorem e_kqR39 {Q : Qt} {J : Nat → Kt} {K : Kt} {ls : Lcs} {hc : Nat} {r : List V} : kq Q J K ls hc 45 r = kR 78 (kX Q J ls hc) (fun a n h => K ls (vR 78 a :: r) n h) := rfl
theorem e_kqR40 {Q : Qt} {J : Nat → Kt} {K : Kt} {ls : Lcs} {hc : Nat} {r : List V} : kq Q J K ls hc 46 r = kR 80 (kX Q J ls hc) (fun a n h => K ls (vR 80 a :: r) n h) := rfl
theorem e_kqR41 {Q : Qt} {J : Nat → Kt} {K : Kt} {ls : Lcs} {hc : Nat} {r : List V} : kq Q J K ls hc 47 r = kR 82 (kX Q J ls hc) (fun a n h => K ls (vR 82 a :: r) n h) := rfl
theorem e_kqR42 {Q : Qt} {J : Nat → Kt} {K : Kt} {ls : Lcs} {hc : Nat} {r : List V} : kq Q J K ls hc 48 r = kR 84 (kX Q J ls hc) (fun a n h => K ls (vR 84 a :: r) n h) := rfl
theorem e_kqR43 {Q : Qt} {J : Nat → Kt} {K : Kt} {ls : Lcs} {hc : Nat} {r : List V} : kq Q J K ls hc 49 r = kR 86 (kX Q J ls hc) (fun a n h => K ls (vR 86 a :: r) n h) := rfl
theorem e_kqR44 {Q : Qt} {J : Nat → Kt} {K : Kt} {ls : Lcs} {hc : Nat} {r : List V} : kq Q J K ls hc 50 r = kR 88 (kX Q J ls hc) (fun a n h => K ls (vR 88 a :: r) n h) := rfl
theorem e_kqR45 {Q : Qt} {J : Nat → Kt} {K : Kt} {ls : Lcs} {hc : Nat} {r : List V} : kq Q J K ls hc 51 r = kR 90 (kX Q J ls hc) (fun a n h => K ls (vR 90 a :: r) n h) := rfl
theorem e_kqR46 {Q : Qt} {J : Nat → Kt} {K : Kt} {ls : Lcs} {hc : Nat} {r : List V} : kq Q J K ls hc 52 r = kR 92 (kX Q J ls hc) (fun a n h => K ls (vR 92 a :: r) n h) := rfl
theorem e_kqR47 {Q : Qt} {J : Nat → Kt} {K : Kt} {ls : Lcs} {hc : Nat} {r : List V} : kq Q J K ls hc 53 r = kR 94 (kX Q J ls hc) (fun a n h => K ls (vR 94 a :: r) n h) := rfl
theorem e_kqR48 {Q : Qt} {J : Nat → Kt} {K : Kt} {ls : Lcs} {hc : Nat} {r : List V} : kq Q J K ls hc 54 r = kR 96 (kX Q J ls hc) (fun a n h => K ls (vR 96 a :: r) n h) := rfl
theorem e_st0I {a : Option V} {ls : Lcs} {x : Int} : stq (a :: ls) 0 (vI x) = some (vI x) :: ls := rfl
theorem e_st0R {a : Option V} {ls : Lcs} {d : Nat} {x : Int} : stq (a :: ls) 0 (vR d x) = some (vR d x) :: ls := rfl
theorem e_st0L {a b : Option V} {ls : Lcs} {x : Int} : stq (a :: b :: ls) 0 (vL x) = some (vL x) :: none :: ls := rfl
theorem e_st1N {ls : Lcs} {v : V} : stq (none :: ls) 1 v = none :: stq ls 0 v := rfl
theorem e_st1I {ls : Lcs} {x : Int} {v : V} : stq (some (vI x) :: ls) 1 v = some (vI x) :: stq ls 0 v := rfl
theorem e_st1L {ls : Lcs} {x : Int} {v : V} : stq (some (vL x) :: ls) 1 v = none :: stq ls 0 v := rfl
theorem e_st1R {ls : Lcs} {d : Nat} {x : Int} {v : V} : stq (some (vR d x) :: ls) 1 v = some (vR d x) :: stq ls 0 v := rfl
theorem e_st2 {a : Option V} {ls : Lcs} {i : Nat} {v : V} : stq (a :: ls) (i + 2) v = a :: stq ls (i + 1) v := rfl
theorem e_wd0 : wds [] = 0 := rfl
theorem e_wdI {x : Int} {r : List V} : wds (vI x :: r) = 1 + wds r := rfl
theorem e_wdL {x : Int} {r : List V} : wds (vL x :: r) = 2 + wds r := rfl
theorem e_wdR {x : Int} {d : Nat} {r : List V} : wds (vR d x :: r) = 1 + wds r := rfl
theorem e_c1I {x : Int} : c1 (vI x) = True := rfl
theorem e_c1R {d : Nat} {x : Int} : c1 (vR d x) = True := rfl
theorem e_gv0 {x : Int} : gv 0 x = vI x := rfl
theorem e_gv1 {x : Int} : gv 1 x = vI x := rfl
theorem e_gv2 {x : Int} : gv 2 x = vI x := rfl
theorem e_gv3 {x : Int} : gv 3 x = vI x := rfl
theorem e_gv4 {x : Int} : gv 4 x = vI x := rfl
theorem e_gv5 {x : Int} : gv 5 x = vL x := rfl
theorem e_gvR0 {x : Int} : gv 6 x = vR 0 x := rfl
theorem e_gvR1 {x : Int} : gv 7 x = vR 2 x := rfl
theorem e_gvR2 {x : Int} : gv 8 x = vR 4 x := rfl
theorem e_gvR3 {x : Int} : gv 9 x = vR 6 x := rfl
theorem e_gvR4 {x : Int} : gv 10 x = vR 8 x := rfl
theorem e_gvR5 {x : Int} : gv 11 x = vR 10 x := rfl
theorem e_gvR6 {x : Int} : gv 12 x = vR 12 x := rfl
theorem e_gvR7 {x : Int} : gv 13 x = vR 14 x := rfl
theorem e_gvR8 {x : Int} : gv 14 x = vR 16 x := rfl
theorem e_gvR9 {x : Int} : gv 15 x = vR 18 x := rfl
theorem e_gvR10 {x : Int} : gv 16 x = vR 20 x := rfl
theorem e_gvR11 {x : Int} : gv 17 x = vR 22 x := rfl
theorem e_gvR12 {x : Int} : gv 18 x = vR 24 x := rfl
theorem e_gvR13 {x : Int} : gv 19 x = vR 26 x := rfl
theorem e_gvR14 {x : Int} : gv 20 x = vR 28 x := rfl
theorem e_gvR15 {x : Int} : gv 21 x = vR 30 x := rfl
theorem e_gvR16 {x : Int} : gv 22 x = vR 32 x := rfl
theorem e_gvR17 {x : Int} : gv 23 x = vR 34 x := rfl
theorem e_gvR39 {x : Int} : gv 45 x = vR 78 x := rfl
theorem e_gvR40 {x : Int} : gv 46 x = vR 80 x := rfl
theorem e_gvR41 {x : Int} : gv 47 x = vR 82 x := rfl
theorem e_gvR42 {x : Int} : gv 48 x = vR 84 x := rfl
theorem e_gvR43 {x : Int} : gv 49 x = vR 86 x := rfl
theorem e_gvR44 {x : Int} : gv 50 x = vR 88 x := rfl
theorem e_gvR45 {x : Int} : gv 51 x = vR 90 x := rfl
theorem e_gvR46 {x : Int} : gv 52 x = vR 92 x := rfl
theorem e_gvR47 {x : Int} : gv 53 x = vR 94 x := rfl
theorem e_gvR48 {x : Int} : gv 54 x = vR 96 x := rfl
theorem e_kX0 {Q : Qt} {J : Nat → Kt} {ls : Lcs} : kX Q J ls 0 = thr Q := rfl
theorem e_kX1 {Q : Qt} {J : Nat → Kt} {ls : Lcs} {t : Nat} : kX Q J ls (t + 1) = fun a n h => J t ls [vR 35 a] n h := rfl
theorem e_kVv {X : Int → Int → Mem → Prop} {K : Int → Mem → Prop} {n : Int} {h : Mem} : kV X K (.inl none) n h = K n h := rfl
theorem e_kVx {X : Int → Int → Mem → Prop} {K : Int → Mem → Prop} {n a : Int} {h : Mem} : kV X K (.inr a) n h = X a n h := rfl
theorem e_kIv {X : Int → Int → Mem → Prop} {K : Int → Int → Mem → Prop} {n a : Int} {h : Mem} : kI X K (.inl (some (vI a))) n h = K a n h := rfl
theorem e_kIx {X : Int → Int → Mem → Prop} {K : Int → Int → Mem → Prop} {n a : Int} {h : Mem} : kI X K (.inr a) n h = X a n h := rfl
theorem e_kLv {X : Int → Int → Mem → Prop} {K : Int → Int → Mem → Prop} {n a : Int} {h : Mem} : kL X K (.inl (some (vL a))) n h = K a n h := rfl
theorem e_kLx {X : Int → Int → Mem → Prop} {K : Int → Int → Mem → Prop} {n a : Int} {h : Mem} : kL X K (.inr a) n h = X a n h := rfl
theorem e_kRv {X : Int → Int → Mem → Prop} {K : Int → Int → Mem → Prop} {n a : Int} {h : Mem} {d d' : Nat} : kR d X K (.inl (some (vR d' a))) n h = (d' = d ∧ K a n h) := rfl
theorem e_kRx {X : Int → Int → Mem → Prop} {K : Int → Int → Mem → Prop} {n a : Int} {h : Mem} {d : Nat} : kR d X K (.inr a) n h = X a n h := rfl
theorem e_thr {Q : Qt} {n a : Int} {h : Mem} : thr Q a n h = Q (.inr a) n h := rfl
theorem e_lk1 {p t : Nat} {es : List E} {r : List (Nat × List E)} : lkc ((p, es) :: r) t = if p = t then es else lkc r t := rfl
theorem e_ic0 {t : Nat} : isC [] t = false := rfl
theorem e_ic1 {a t : Nat} {r : List Nat} : isC (a :: r) t = if a = t then true else isC r t := rfl
theorem e_jm {g : G} {k : Nat} {Q : Qt} {c : List (Nat × List E)} {cuts : List Nat} {f t : Nat} {ls : Lcs} {s : List V} {n : Int} {h : Mem} : jm g k Q c cuts (f + 1) t ls s n h = if isC cuts t = true then T_at g k t ls s n h Q else run g Q (jm g k Q c cuts f) (lkc c t) ls s n h := rfl
theorem st_ap {h : Mem} {a j v x y : Int} : st h a j v x y = if x = a ∧ y = j then v else h x y := rfl
theorem clr_ap {h : Mem} {a x y : Int} : clr h a x y = if x = a then 0 else h x y := rfl
theorem e_lceq {x y : Int} : (lcm x y = 0) = (x = y) := by unfold lcm; apply propext; split <;> (try split) <;> omega
theorem e_lclt {x y : Int} : (lcm x y < 0) = (x < y) := by unfold lcm; apply propext; split <;> (try split) <;> omega
theorem e_lcgt {x y : Int} : (0 < lcm x y) = (y < x) := by unfold lcm; apply propext; split <;> (try split) <;> omega
