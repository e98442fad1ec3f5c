set_option maxRecDepth 100000
/-- an instruction, a number, and what is known of it -/
abbrev E : Type := Instr × Int × List Nat
abbrev Kt : Type := Lcs → List V → Int → Mem → Prop
abbrev Qt : Type := Out → Int → Mem → Prop
def pI (s : List V) (f : Int → List V → Prop) : Prop := match s with | .inl x :: r => f x r | _ => False
def pL (s : List V) (f : Int → List V → Prop) : Prop := match s with | .inr (.inl x) :: r => f x r | _ => False
def pR (s : List V) (f : Nat → Int → List V → Prop) : Prop := match s with | .inr (.inr (d, x)) :: r => f d x r | _ => False
def pV (s : List V) (f : V → List V → Prop) : Prop := match s with | v :: r => f v r | [] => False
def c1 (v : V) : Prop := match v with | .inr (.inl _) => False | _ => True
def nn (d : Nat) (x : Int) : Prop := if d % 2 = 1 then True else x ≠ 0
def lga : Lcs → Nat → (V → Prop) → Prop
  | [], _, _ => False
  | none :: _, 0, _ => False
  | some v :: _, 0, f => f v
  | _ :: ls, i + 1, f => lga ls i f
def wds : List V → Nat
  | [] => 0
  | .inr (.inl _) :: r => 2 + wds r
  | .inl _ :: r => 1 + wds r
  | .inr (.inr _) :: r => 1 + wds r
/-- a store -/
def kl1 : Lcs → Lcs
  | [] => []
  | _ :: r => none :: r
def stq : Lcs → Nat → V → Lcs
  | [], _, _ => []
  | _ :: ls, 0, .inr (.inl x) => some (vL x) :: kl1 ls
  | _ :: ls, 0, .inl x => some (vI x) :: ls
  | _ :: ls, 0, .inr (.inr x) => some (.inr (.inr x)) :: ls
  | a :: ls, 1, v => (match a with | some (.inr (.inl _)) => none | _ => a) :: stq ls 0 v
  | a :: ls, i + 2, v => a :: stq ls (i + 1) v
def tkA : List Nat → List V → List V → (List V → List V → Prop) → Prop
  | [], s, acc, f => f acc s
  | t :: ts, v :: s, acc, f => match rt1 t v with
    | some w => tkA ts s (w :: acc) f
    | none => False
  | _ :: _, [], _, _ => False
def kV (X : Int → Int → Mem → Prop) (K : Int → Mem → Prop) : Qt := fun o n h => match o with
  | .inl none => K n h
  | .inr a => X a n h
  | _ => False
def kI (X : Int → Int → Mem → Prop) (K : Int → Int → Mem → Prop) : Qt := fun o n h => match o with
  | .inl (some (.inl x)) => K x n h
  | .inr a => X a n h
  | _ => False
def kL (X : Int → Int → Mem → Prop) (K : Int → Int → Mem → Prop) : Qt := fun o n h => match o with
  | .inl (some (.inr (.inl x))) => K x n h
  | .inr a => X a n h
  | _ => False
def kR (d : Nat) (X : Int → Int → Mem → Prop) (K : Int → Int → Mem → Prop) : Qt := fun o n h => match o with
  | .inl (some (.inr (.inr (d', x)))) => d' = d ∧ K x n h
  | .inr a => X a n h
  | _ => False
/-- thrown: out of the method, or to the handler at hc - 1 -/
def kX (Q : Qt) (J : Nat → Kt) (ls : Lcs) (hc : Nat) : Int → Int → Mem → Prop := match hc with
  | 0 => fun a n h => Q (.inr a) n h
  | t + 1 => fun a n h => J t ls [vR 35 a] n h
def kq (Q : Qt) (J : Nat → Kt) (K : Kt) (ls : Lcs) (hc rt : Nat) (r : List V) : Qt := match rt with
  | 100 => kV (kX Q J ls hc) (fun n h => K ls r n h)
  | 0 => kI (kX Q J ls hc) (fun a n h => K ls (vI a :: r) n h)
  | 3 => kI (kX Q J ls hc) (fun a n h => K ls (vI a :: r) n h)
  | 5 => kL (kX Q J ls hc) (fun a n h => K ls (vL a :: r) n h)
  | t => kR (2 * (t - 6)) (kX Q J ls hc) (fun a n h => K ls (vR (2 * (t - 6)) a :: r) n h)
def pvq (t : Nat) (v : V) (f : Int → Prop) : Prop := match v with
  | .inl x => (match t with
    | 0 => f x
    | 1 => (-128 ≤ x ∧ x ≤ 127) ∧ f x
    | 2 => (-32768 ≤ x ∧ x ≤ 32767) ∧ f x
    | 3 => (0 ≤ x ∧ x ≤ 1) ∧ f x
    | _ => False)
  | .inr (.inl x) => t = 5 ∧ f x
  | .inr (.inr (d, x)) => t = 6 + d / 2 ∧ f x
def tsw (F : Nat → Prop) (v : Int) : Int → List Nat → Nat → Prop
  | _, [], d => F d
  | lo, t :: ts, d => if v = lo then F t else tsw F v (lo + 1) ts d
def lsw (F : Nat → Prop) (v : Int) : List (Int × Int) → List Nat → Nat → Prop
  | (a, _) :: ps, t :: ts, d => if v = a then F t else lsw F v ps ts d
  | _, _, d => F d
def bI (s : List V) (f : Int → Int → List V → Prop) : Prop := pI s (fun b r => pI r (fun a r => f a b r))
def bL (s : List V) (f : Int → Int → List V → Prop) : Prop := pL s (fun b r => pL r (fun a r => f a b r))
def bS (s : List V) (f : Int → Int → List V → Prop) : Prop := pI s (fun b r => pL r (fun a r => f a b r))
/-- an element of an array -/
def aE (g : G) (ak : Nat) (s : List V) (f : Int → Int → List V → Prop) : Prop := pI s (fun i r => pR r (fun d a r => d / 2 = ak ∧ nn d a ∧ 0 ≤ i ∧ i < ((g.1 a).2 : Int) ∧ f a i r))
def stp (g : G) (Q : Qt) (J : Nat → Kt) (K : Kt) (i : Instr) (m : Int) (x : List Nat) (ls : Lcs) (s : List V) (n : Int) (h : Mem) : Prop := match i with
  | .iconst _ => K ls (vI m :: s) n h
  | .bipush _ => K ls (vI m :: s) n h
  | .sipush _ => K ls (vI m :: s) n h
  | .ldc _ => K ls (vI m :: s) n h
  | .ldc_w _ => K ls (vI m :: s) n h
  | .lconst _ => K ls (vL m :: s) n h
  | .ldc2_w _ => K ls (vL m :: s) n h
  | .aconst_null => (match x with | [d] => K ls (vR d 0 :: s) n h | _ => False)
  | .iload _ => (match x with | [j] => lga ls j (fun v => pI [v] (fun a _ => K ls (vI a :: s) n h)) | _ => False)
  | .iload_n _ => (match x with | [j] => lga ls j (fun v => pI [v] (fun a _ => K ls (vI a :: s) n h)) | _ => False)
  | .lload _ => (match x with | [j] => lga ls j (fun v => pL [v] (fun a _ => K ls (vL a :: s) n h)) | _ => False)
  | .lload_n _ => (match x with | [j] => lga ls j (fun v => pL [v] (fun a _ => K ls (vL a :: s) n h)) | _ => False)
  | .aload _ => (match x with | [j] => lga ls j (fun v => pR [v] (fun d a _ => K ls (vR d a :: s) n h)) | _ => False)
  | .aload_n _ => (match x with | [j] => lga ls j (fun v => pR [v] (fun d a _ => K ls (vR d a :: s) n h)) | _ => False)
  | .istore _ => (match x with | [j] => pI s (fun a r => K (stq ls j (vI a)) r n h) | _ => False)
  | .istore_n _ => (match x with | [j] => pI s (fun a r => K (stq ls j (vI a)) r n h) | _ => False)
  | .lstore _ => (match x with | [j] => pL s (fun a r => K (stq ls j (vL a)) r n h) | _ => False)
  | .lstore_n _ => (match x with | [j] => pL s (fun a r => K (stq ls j (vL a)) r n h) | _ => False)
  | .astore _ => (match x with | [j] => pR s (fun d a r => K (stq ls j (vR d a)) r n h) | _ => False)
  | .astore_n _ => (match x with | [j] => pR s (fun d a r => K (stq ls j (vR d a)) r n h) | _ => False)
  | .iinc _ _ => (match x with | [j] => lga ls j (fun v => pI [v] (fun a _ => i32 (a + m) ∧ K (stq ls j (vI (a + m))) s n h)) | _ => False)
  | .iadd => (match x with | [] => bI s (fun a b r => i32 (a + b) ∧ K ls (vI (a + b) :: r) n h) | _ => bI s (fun a b r => K ls (vI (wr (a + b)) :: r) n h))
  | .isub => (match x with | [] => bI s (fun a b r => i32 (a - b) ∧ K ls (vI (a - b) :: r) n h) | _ => bI s (fun a b r => K ls (vI (wr (a - b)) :: r) n h))
  | .imul => (match x with | [] => bI s (fun a b r => i32 (a * b) ∧ K ls (vI (a * b) :: r) n h) | _ => bI s (fun a b r => K ls (vI (wr (a * b)) :: r) n h))
  | .ladd => (match x with | [] => bL s (fun a b r => i64 (a + b) ∧ K ls (vL (a + b) :: r) n h) | _ => bL s (fun a b r => K ls (vL (wl (a + b)) :: r) n h))
  | .lsub => (match x with | [] => bL s (fun a b r => i64 (a - b) ∧ K ls (vL (a - b) :: r) n h) | _ => bL s (fun a b r => K ls (vL (wl (a - b)) :: r) n h))
  | .lmul => (match x with | [] => bL s (fun a b r => i64 (a * b) ∧ K ls (vL (a * b) :: r) n h) | _ => bL s (fun a b r => K ls (vL (wl (a * b)) :: r) n h))
  | .iand => bI s (fun a b r => K ls (vI (ian a b) :: r) n h)
  | .ior => bI s (fun a b r => K ls (vI (ior a b) :: r) n h)
  | .ishl => bI s (fun a b r => K ls (vI (isl a b) :: r) n h)
  | .ishr => bI s (fun a b r => K ls (vI (isr a b) :: r) n h)
  | .iushr => bI s (fun a b r => K ls (vI (isu a b) :: r) n h)
  | .idiv => bI s (fun a b r => b ≠ 0 ∧ i32 (a.tdiv b) ∧ K ls (vI (a.tdiv b) :: r) n h)
  | .irem => bI s (fun a b r => b ≠ 0 ∧ K ls (vI (a.tmod b) :: r) n h)
  | .land => bL s (fun a b r => K ls (vL (lan a b) :: r) n h)
  | .lor => bL s (fun a b r => K ls (vL (lor a b) :: r) n h)
  | .ldiv => bL s (fun a b r => b ≠ 0 ∧ i64 (a.tdiv b) ∧ K ls (vL (a.tdiv b) :: r) n h)
  | .lrem => bL s (fun a b r => b ≠ 0 ∧ K ls (vL (a.tmod b) :: r) n h)
  | .lshl => bS s (fun a b r => K ls (vL (lsl a b) :: r) n h)
  | .lshr => bS s (fun a b r => K ls (vL (lsr a b) :: r) n h)
  | .lushr => bS s (fun a b r => K ls (vL (lsu a b) :: r) n h)
  | .lcmp => bL s (fun a b r => K ls (vI (lcm a b) :: r) n h)
  | .ineg => pI s (fun a r => i32 (-a) ∧ K ls (vI (-a) :: r) n h)
  | .i2l => pI s (fun a r => K ls (vL a :: r) n h)
  | .l2i => pL s (fun a r => K ls (vI (wr a) :: r) n h)
  | .i2b => pI s (fun a r => K ls (vI (i2b a) :: r) n h)
  | .i2s => pI s (fun a r => K ls (vI (i2s a) :: r) n h)
  | .i2c => pI s (fun a r => K ls (vI (i2c a) :: r) n h)
  | .dup => pV s (fun v r => c1 v ∧ K ls (v :: v :: r) n h)
  | .pop => pV s (fun v r => c1 v ∧ K ls r n h)
  | .dup_x1 => pV s (fun v r => pV r (fun w r => c1 v ∧ c1 w ∧ K ls (v :: w :: v :: r) n h))
  | .dup_x2 => pV s (fun v r => pV r (fun w r => pV r (fun u r => c1 v ∧ c1 w ∧ c1 u ∧ K ls (v :: w :: u :: v :: r) n h)))
  | .dup2 => (match x with | [] => pV s (fun v r => pV r (fun w r => c1 v ∧ c1 w ∧ K ls (v :: w :: v :: w :: r) n h)) | _ => pL s (fun a r => K ls (vL a :: vL a :: r) n h))
  | .if_icmp .eq _ => (match x with | [t] => bI s (fun a b r => if a = b then J t ls r n h else K ls r n h) | _ => False)
  | .if_icmp .ne _ => (match x with | [t] => bI s (fun a b r => if a = b then K ls r n h else J t ls r n h) | _ => False)
  | .if_icmp .lt _ => (match x with | [t] => bI s (fun a b r => if a < b then J t ls r n h else K ls r n h) | _ => False)
  | .if_icmp .ge _ => (match x with | [t] => bI s (fun a b r => if a < b then K ls r n h else J t ls r n h) | _ => False)
  | .if_icmp .gt _ => (match x with | [t] => bI s (fun a b r => if b < a then J t ls r n h else K ls r n h) | _ => False)
  | .if_icmp .le _ => (match x with | [t] => bI s (fun a b r => if b < a then K ls r n h else J t ls r n h) | _ => False)
  | .ifCond .eq _ => (match x with | [t] => pI s (fun a r => if a = 0 then J t ls r n h else K ls r n h) | _ => False)
  | .ifCond .ne _ => (match x with | [t] => pI s (fun a r => if a = 0 then K ls r n h else J t ls r n h) | _ => False)
  | .ifCond .lt _ => (match x with | [t] => pI s (fun a r => if a < 0 then J t ls r n h else K ls r n h) | _ => False)
  | .ifCond .ge _ => (match x with | [t] => pI s (fun a r => if a < 0 then K ls r n h else J t ls r n h) | _ => False)
  | .ifCond .gt _ => (match x with | [t] => pI s (fun a r => if 0 < a then J t ls r n h else K ls r n h) | _ => False)
  | .ifCond .le _ => (match x with | [t] => pI s (fun a r => if 0 < a then K ls r n h else J t ls r n h) | _ => False)
  | .if_acmp .eq _ => (match x with | [t] => pR s (fun d b r => pR r (fun d' a r => d / 2 = 1 ∧ d' / 2 = 1 ∧ if a = b then J t ls r n h else K ls r n h)) | _ => False)
  | .if_acmp .ne _ => (match x with | [t] => pR s (fun d b r => pR r (fun d' a r => d / 2 = 1 ∧ d' / 2 = 1 ∧ if a = b then K ls r n h else J t ls r n h)) | _ => False)
  | .ifnull _ => (match x with | [t] => pR s (fun _ a r => if a = 0 then J t ls r n h else K ls r n h) | _ => False)
  | .ifnonnull _ => (match x with | [t] => pR s (fun _ a r => if a = 0 then K ls r n h else J t ls r n h) | _ => False)
  | .goto _ => (match x with | [t] => J t ls s n h | _ => False)
  | .nop => (match x with | [t] => J t ls s n h | _ => False)
  | .tableswitch _ lo _ _ => (match x with | dt :: ts => pI s (fun a r => tsw (fun t => J t ls r n h) a lo ts dt) | _ => False)
  | .lookupswitch _ ps => (match x with | dt :: ts => pI s (fun a r => lsw (fun t => J t ls r n h) a ps.toList ts dt) | _ => False)
  | .getfield _ => (match x with
    | [c, j, t] => pR s (fun d o r => d / 2 = c ∧ nn d o ∧ K ls (gv t (h o j) :: r) n h)
    | [c, _, t, _] => pR s (fun d o r => d / 2 = c ∧ nn d o ∧ (0 ≤ m ∨ o + m ≠ 0) ∧ K ls (vR t (o + m) :: r) n h)
    | _ => False)
  | .putfield _ => (match x with | [c, j, t] => pV s (fun v r => pR r (fun d o r => d / 2 = c ∧ nn d o ∧ pvq t v (fun y => K ls r n (st h o j y)))) | _ => False)
  | .getstatic _ => (match x with | [_] => K ls (vL m :: s) n h | [_, d] => K ls (vR d m :: s) n h | _ => False)
  | .iaload => aE g 40 s (fun a i r => K ls (vI (rd h a i) :: r) n h)
  | .baload => (match x with | [ak] => aE g ak s (fun a i r => K ls (vI (h a i) :: r) n h) | _ => False)
  | .saload => aE g 42 s (fun a i r => K ls (vI (h a i) :: r) n h)
  | .laload => aE g 43 s (fun a i r => K ls (vL (h a i) :: r) n h)
  | .aaload => (match x with
    | [ak, d] => aE g ak s (fun a i r => K ls (vR d (h a i) :: r) n h)
    | [_, d, _] => aE g 48 s (fun a i r => K ls (vR d (rd h a i) :: r) n h)
    | _ => False)
  | .iastore => pI s (fun y r => aE g 40 r (fun a i r => SB ≤ a ∧ K ls r n (st h a i y)))
  | .bastore => (match x with
    | [_] => pI s (fun y r => aE g 41 r (fun a i r => K ls r n (st h a i (i2b y))))
    | _ => pI s (fun y r => aE g 44 r (fun a i r => (0 ≤ y ∧ y ≤ 1) ∧ K ls r n (st h a i y))))
  | .sastore => pI s (fun y r => aE g 42 r (fun a i r => K ls r n (st h a i (i2s y))))
  | .lastore => pL s (fun y r => aE g 43 r (fun a i r => K ls r n (st h a i y)))
  | .aastore => (match x with | [ak, c] => pR s (fun d y r => aE g ak r (fun a i r => d / 2 = c ∧ nn d y ∧ K ls r n (st h a i y))) | _ => False)
  | .arraylength => (match x with | [ak] => pR s (fun d a r => d / 2 = ak ∧ nn d a ∧ ((g.1 a).2 : Int) ≤ 2147483647 ∧ K ls (vI ((g.1 a).2 : Int) :: r) n h) | _ => False)
  | .new _ => (match x with | [c, d, N] => n < g.2.1 ∧ g.1 n = (c, N) ∧ K ls (vR d n :: s) (n + 1) (clr h n) | _ => False)
  | .newarray _ => (match x with | [ak, d] => pI s (fun a r => 0 ≤ a ∧ a ≤ 60000000 ∧ n < g.2.1 ∧ g.1 n = (ak, a.toNat) ∧ K ls (vR d n :: r) (n + 1) (clr h n)) | _ => False)
  | .anewarray _ => (match x with | [ak, d] => pI s (fun a r => 0 ≤ a ∧ a ≤ 60000000 ∧ n < g.2.1 ∧ g.1 n = (ak, a.toNat) ∧ K ls (vR d n :: r) (n + 1) (clr h n)) | _ => False)
  | .invokevirtual _ => (match x with
    | k' :: c :: d' :: W :: hc :: rt :: ts => tkA ts s [] (fun as r => pR r (fun d o r => d / 2 = c ∧ nn d o ∧ wds r ≤ W ∧ T g k' (vR d' o :: as) n h (kq Q J K ls hc rt r)))
    | _ => False)
  | .invokespecial _ => (match x with
    | k' :: c :: d' :: W :: hc :: rt :: ts => tkA ts s [] (fun as r => pR r (fun d o r => d / 2 = c ∧ nn d o ∧ wds r ≤ W ∧ T g k' (vR d' o :: as) n h (kq Q J K ls hc rt r)))
    | [W] => pR s (fun d o r => nn d o ∧ wds r ≤ W ∧ K ls r n h)
    | _ => False)
  | .invokestatic _ => (match x with
    | k' :: W :: hc :: rt :: ts => tkA ts s [] (fun as r => wds r ≤ W ∧ T g k' as n h (kq Q J K ls hc rt r))
    | [ak, W] => pI s (fun c r => pI r (fun dp r => pR r (fun d' b r => pI r (fun sp r => pR r (fun d a r => d / 2 = ak ∧ d' / 2 = ak ∧ nn d a ∧ nn d' b ∧ SB ≤ b ∧ 0 ≤ sp ∧ 0 ≤ dp ∧ 0 ≤ c ∧ sp + c ≤ ((g.1 a).2 : Int) ∧ dp + c ≤ ((g.1 b).2 : Int) ∧ wds r ≤ W ∧ K ls r n (cpy h a sp b dp c))))))
    | _ => False)
  | .ireturn => (match x with
    | [_] => pI s (fun a r => (0 ≤ a ∧ a ≤ 1) ∧ r = [] ∧ Q (.inl (some (vI a))) n h)
    | _ => pI s (fun a r => r = [] ∧ Q (.inl (some (vI a))) n h))
  | .lreturn => pL s (fun a r => r = [] ∧ Q (.inl (some (vL a))) n h)
  | .return_ => s = [] ∧ Q (.inl none) n h
  | .areturn => (match x with | [kd, d'] => pR s (fun d a r => d / 2 = kd ∧ r = [] ∧ Q (.inl (some (vR d' a))) n h) | _ => False)
  | .athrow => pR s (fun d a _ => d / 2 = 17 ∧ nn d a ∧ Q (.inr a) n h)
  | _ => False
def run (g : G) (Q : Qt) (J : Nat → Kt) : List E → Kt
  | [] => fun _ _ _ _ => False
  | (i, m, x) :: es => stp g Q J (run g Q J es) i m x
def lkc : List (Nat × List E) → Nat → List E
  | [], _ => []
  | (p, es) :: r, t => if p = t then es else lkc r t
def isC : List Nat → Nat → Bool
  | [], _ => false
  | a :: r, t => if a = t then true else isC r t
/-- a jump: to a cut, or on -/
def jm (g : G) (k : Nat) (Q : Qt) (c : List (Nat × List E)) (cuts : List Nat) : Nat → Nat → Kt
  | 0 => fun t ls s n h => T_at g k t ls s n h Q
  | f + 1 => fun t ls s n h => if isC cuts t = true then T_at g k t ls s n h Q else run g Q (jm g k Q c cuts f) (lkc c t) ls s n h
