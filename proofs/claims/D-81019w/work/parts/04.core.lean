set_option maxRecDepth 100000
abbrev Mem : Type := Int → Int → Int
abbrev V : Type := Int ⊕ (Int ⊕ (Nat × Int))
abbrev vI (x : Int) : V := .inl x
abbrev vL (x : Int) : V := .inr (.inl x)
abbrev vR (d : Nat) (x : Int) : V := .inr (.inr (d, x))
abbrev Out : Type := Option V ⊕ Int
abbrev Shp : Type := Int → Nat × Nat
abbrev Lcs : Type := List (Option V)
/-- one slot is written -/
def st (h : Mem) (a j v : Int) : Mem := fun a' j' => if a' = a ∧ j' = j then v else h a' j'
/-- a new cell: all 0 -/
def clr (h : Mem) (a : Int) : Mem := fun a' j' => if a' = a then 0 else h a' j'
def i32 (x : Int) : Prop := -2147483648 ≤ x ∧ x ≤ 2147483647
def i64 (x : Int) : Prop := -9223372036854775808 ≤ x ∧ x ≤ 9223372036854775807
/-- the kinds of slots: 0 int, 1 byte, 2 short, 3 boolean, 4 char, 5 long, 6 + k a reference to kind k, 99 none of ours -/
def sk (k j : Nat) : Nat := if k < 40 then (skT.getD k []).getD j 99 else match k with
  | 40 => 0 | 41 => 1 | 42 => 2 | 43 => 5 | 44 => 3 | 45 => 7 | 46 => 9 | 47 => 14 | 48 => 45 | _ => 99
/-- a reference x fits kind k (39: a constant of Mode, kinds 30 to 33) -/
def rfit (S : Shp) (n : Int) (k : Nat) (x : Int) : Prop := (1 ≤ x ∨ ((k = 35 ∨ k = 36) ∧ -3 ≤ x ∧ x < 0)) ∧ x < n ∧ (if k = 39 then 30 ≤ (S x).1 ∧ (S x).1 ≤ 33 else (S x).1 = k)
def wtv (S : Shp) (n : Int) (c : Nat) (x : Int) : Prop := match c with
  | 0 => i32 x
  | 1 => -128 ≤ x ∧ x ≤ 127
  | 2 => -32768 ≤ x ∧ x ≤ 32767
  | 3 => 0 ≤ x ∧ x ≤ 1
  | 4 => 0 ≤ x ∧ x ≤ 65535
  | 5 => i64 x
  | c + 6 => x = 0 ∨ rfit S n c x
/-- a value on the stack or in a local: the tag of a reference is 2 * kind, and 1 more if it isn't null -/
def wtV (S : Shp) (n : Int) : V → Prop
  | .inl x => i32 x
  | .inr (.inl x) => i64 x
  | .inr (.inr (d, x)) => (x = 0 ∧ d % 2 = 0) ∨ rfit S n (d / 2) x
def cR (γ : Int → Nat) (x : Int) : Value := if x = 0 then .null else .ref (γ x)
def cV (γ : Int → Nat) : V → Value
  | .inl x => .int (Int32.ofInt x)
  | .inr (.inl x) => .long (Int64.ofInt x)
  | .inr (.inr (_, x)) => cR γ x
def cS (γ : Int → Nat) (c : Nat) (x : Int) : Value := if c = 5 then .long (Int64.ofInt x) else if c < 5 then .int (Int32.ofInt x) else cR γ x
/-- the real cell of an abstract one -/
def Cl (D : va_G) (dA : Nat → ClassId) (S : Shp) (γ : Int → Nat) (h : Mem) (H : Heap) (a : Int) : Prop :=
  if (S a).1 < 40 then ∃ cell : Cell, H[γ a]? = some cell ∧ cell.cls = D.1 (S a).1 ∧ cell.vm = .none ∧ (cell.monitor.owner = none ∧ cell.monitor.count = 0 ∧ ∀ j : Nat, j < (S a).2 → D.2 (S a).1 j < cell.slots.size) ∧ ∀ j : Nat, j < (S a).2 → sk (S a).1 j ≠ 99 → cell.slots[D.2 (S a).1 j]? = some (cS γ (sk (S a).1 j) (h a j))
  else H[γ a]? = some (arrV (dA (S a).1) (S a).2 (fun j => cS γ (sk (S a).1 0) (h a j)))
def Hd (D : va_G) (dA : Nat → ClassId) (S : Shp) (γ : Int → Nat) (n : Int) (h : Mem) (H : Heap) : Prop := ∀ a : Int, (a ≠ 0 ∧ -2 ≤ a) → a < n → Cl D dA S γ h H a
def wt (S : Shp) (n : Int) (h : Mem) : Prop := ∀ a : Int, 1 ≤ a → a < n → ∀ j : Nat, j < (S a).2 → sk (S a).1 j ≠ 99 → wtv S n (sk (S a).1 j) (h a j)
def inj (γ : Int → Nat) (n : Int) : Prop := ∀ a b : Int, 1 ≤ a → a < n → 1 ≤ b → b < n → γ a = γ b → a = b
/-- the first address that isn't a static's object -/
abbrev SB : Int := 17
/-- words that stay under warmer tables -/
def mvW : Cond → Bool
  | .fieldLinkNest .. => true
  | .methodLinkNest .. => true
  | .declares _ => true
  | .castable _ _ => true
  | .arrayOver (.object _) => true
  | w => goodWord w
theorem mvW_moved {w : Cond} (hw : mvW w = true) (ho : w.onTables = true ∨ ∃ C, w = .arrayOver (.object C)) {s U : State} (hW : s.WarmedH U.vm) (h : va_Nw w s) : va_Nw w U := by
  cases w with
  | fieldLinkNest a i b n d x => exact va_Nw.warmF hW h
  | methodLinkNest a i x y => exact va_Nw.warmM hW h
  | declares x => exact va_Nw.warmD hW h
  | castable a b => exact va_Nw.warmC hW h
  | arrayOver t =>
    cases t with
    | object C => exact va_AO.moved hW.alike h
    | _ => exact word_at hW (good_of_word hw) h
  | _ => exact word_at hW (good_of_word hw) h
def mvT (w : Cond) : Bool := mvW w && (w.onTables || match w with | .arrayOver (.object _) => true | .arrayClass _ => true | _ => false)
def lw_mv : List Cond := lw_tbl.filter mvT
theorem lwm {w : Cond} (h : w ∈ lw_tbl) (g : mvT w = true) : w ∈ lw_mv := List.mem_filter.mpr ⟨h, g⟩
/-- the tables' words, at a state -/
def Tx (U : State) : Prop := ∀ w ∈ lw_mv, va_Nw w U
theorem nw_args {w : Cond} (hw : mvT w = true) {A B : Array Value} {U : State} (h : w.before A U = true) : w.before B U = true := by
  cases w with
  | arrayOver t => cases t with
    | object C => exact h
    | _ => first | exact h | exact va_Nw.use (by simpa [mvT] using hw) (va_Nw.of (by simpa [mvT] using hw) h)
  | arrayClass t => exact h
  | _ => exact va_Nw.use (by simp [mvT] at hw; first | exact hw.2 | rfl) (va_Nw.of (by simp [mvT] at hw; first | exact hw.2 | rfl) h)
theorem Tx.use {U : State} (h : Tx U) {w : Cond} (hw : w ∈ lw_mv) (A : Array Value) : w.before A U = true := nw_args (List.mem_filter.mp hw).2 (h w hw)
theorem Tx.moved {s U : State} (h : Tx s) (hW : s.WarmedH U.vm) : Tx U := by
  intro w hw
  have hg := (List.mem_filter.mp hw).2
  have h1 := h w hw
  have hg' : mvW w = true := by simp only [mvT, Bool.and_eq_true] at hg; exact hg.1
  cases w with
  | fieldLinkNest a i b n d x => exact va_Nw.warmF hW h1
  | methodLinkNest a i x y => exact va_Nw.warmM hW h1
  | declares x => exact va_Nw.warmD hW h1
  | castable a b => exact va_Nw.warmC hW h1
  | arrayOver t =>
    cases t with
    | object C => exact va_AO.moved hW.alike h1
    | _ => exact word_at hW (good_of_word hg') h1
  | _ => exact word_at hW (good_of_word hg') h1
def aty : Nat → FieldType
  | 40 => .int | 41 => .byte | 42 => .short | 43 => .long | 44 => .boolean | 45 => .object "FontHouse$Bytes" | 46 => .object "FontHouse$Font" | 47 => .object "FontHouse$Made" | _ => .object "FontHouse$Mode"
def moN : Nat → String
  | 38 => "java/lang/String" | 30 => "FontHouse$Mode$1" | 31 => "FontHouse$Mode$2" | 32 => "FontHouse$Mode$3" | _ => "FontHouse$Mode$4"
/-- classes and array classes as the tables have them -/
def Kx (D : va_G) (dA : Nat → ClassId) (U : State) : Prop := va_K D vwCl [] U ∧ (∀ k : Nat, 40 ≤ k → k < 49 → ArrOfT U (dA k) (aty k) ∧ va_RA U (dA k) (aty k)) ∧ ∀ k : Nat, (30 ≤ k ∧ k < 34) ∨ k = 38 → U.vm.findClass (moN k) = some (D.1 k)
theorem Kx.moved {D : va_G} {dA : Nat → ClassId} {u U : State} (hvm : u.vm.Alike U.vm) (h : Kx D dA u) : Kx D dA U :=
  ⟨va_K.moved hvm h.1, fun k h1 h2 => ⟨arrOfT_moved hvm (h.2.1 k h1 h2).1, (h.2.1 k h1 h2).2.moved hvm⟩, fun k h1 => by rw [hvm.findClass]; exact h.2.2 k h1⟩
/-- statics: their values -/
def stTab : List (String × String × String × V) := [("FontHouse", "HEAD", "J", vL 1751474532), ("FontHouse", "MAXP", "J", vL 1835104368), ("FontHouse", "HHEA", "J", vL 1751672161), ("FontHouse", "HMTX", "J", vL 1752003704), ("FontHouse", "LOCA", "J", vL 1819239265), ("FontHouse", "GLYF", "J", vL 1735162214), ("FontHouse", "DSIG", "J", vL 1146308935),
  ("FontHouse", "ORDER", "[I", vR 81 1), ("FontHouse", "INSERTS", "[I", vR 81 2), ("FontHouse", "INSERT_BITS", "[I", vR 81 3), ("FontHouse", "COPIES", "[I", vR 81 4), ("FontHouse", "COPY_BITS", "[I", vR 81 5), ("FontHouse", "COUNTS", "[I", vR 81 6), ("FontHouse", "COUNT_BITS", "[I", vR 81 7), ("FontHouse", "INSERT_GROUPS", "[I", vR 81 8), ("FontHouse", "COPY_GROUPS", "[I", vR 81 9), ("FontHouse$Mode", "$VALUES", "[LFontHouse$Mode;", vR 97 10)]
/-- a static that holds a reference or null, and lies as the tables say -/
def Yz (C nm ds : String) (A : Nat → Prop) (U : State) (H : Heap) : Prop := ∃ (c : ClassId) (k : Class) (i : Nat) (f : Field) (a : Nat) (cell : Cell) (v : Value), U.vm.findClass C = some c ∧ U.fieldFound? C nm ds = some (c, k, i, f) ∧ f.isStatic = true ∧ k.statics = some a ∧ H[a]? = some cell ∧ cell.vm.isStatics = true ∧ cell.cls = c ∧ f.slot < cell.slots.size ∧ k.staticTypes[f.slot]? = some f.type ∧ cell.slots[f.slot]? = some v ∧ v.isRef = true ∧ ¬ A a
theorem Yz.moved {C nm ds : String} {A : Nat → Prop} {u U : State} {H : Heap} (hvm : u.vm.Alike U.vm) (h : Yz C nm ds A u H) : Yz C nm ds A U H := by
  obtain ⟨c, k, i, f, a, cell, v, h0, h1, h2, h3, h4, h5, h6, h7, h8, h9⟩ := h
  obtain ⟨k', hi', he⟩ := State.fieldFound?_setVm hvm h1
  exact ⟨c, k', i, f, a, cell, v, by rw [hvm.findClass]; exact h0, hi', h2, by rw [he]; exact h3, h4, h5, h6, h7, by rw [he]; exact h8, h9⟩
theorem Yz.kept {C nm ds : String} {A : Nat → Prop} {U : State} {H H1 : Heap} (h : Yz C nm ds A U H) (hq : ∀ a : Nat, a < H.size → ¬ A a → H1[a]? = H[a]?) : Yz C nm ds A U H1 := by
  obtain ⟨c, k, i, f, a, cell, v, h0, h1, h2, h3, h4, h5, h6, h7, h8, h9, h10, h11⟩ := h
  exact ⟨c, k, i, f, a, cell, v, h0, h1, h2, h3, by rw [hq a (Array.getElem?_eq_some_iff.mp h4).1 h11]; exact h4, h5, h6, h7, h8, h9, h10, h11⟩
theorem Yz.lays {C nm ds : String} {A : Nat → Prop} {U : State} (h : Yz C nm ds A U U.heap) (args : Array Value) : (Cond.laysStatic C nm ds).holds args U none U [] = true := by
  obtain ⟨c, k, i, f, a, cell, v, h0, h1, h2, h3, h4, h5, h6, h7, h8, -⟩ := h
  simp [Cond.holds, Cond.value, h0, h1, h2, h3, h4, h5, h6, h7, h8]
/-- the strings: how long, and their bytes -/
def slen : List Nat := [252, 5]
def sbyI : List (List Int) := [[99, 109, 97, 112, 104, 101, 97, 100, 104, 104, 101, 97, 104, 109, 116, 120, 109, 97, 120, 112, 110, 97, 109, 101, 79, 83, 47, 50, 112, 111, 115, 116, 99, 118, 116, 32, 102, 112, 103, 109, 103, 108, 121, 102, 108, 111, 99, 97, 112, 114, 101, 112, 67, 70, 70, 32, 86, 79, 82, 71, 69, 66, 68, 84, 69, 66, 76, 67, 103, 97, 115, 112, 104, 100, 109, 120, 107, 101, 114, 110, 76, 84, 83, 72, 80, 67, 76, 84, 86, 68, 77, 88, 118, 104, 101, 97, 118, 109, 116, 120, 66, 65, 83, 69, 71, 68, 69, 70, 71, 80, 79, 83, 71, 83, 85, 66, 69, 66, 83, 67, 74, 83, 84, 70, 77, 65, 84, 72, 67, 66, 68, 84, 67, 66, 76, 67, 67, 79, 76, 82, 67, 80, 65, 76, 83, 86, 71, 32, 115, 98, 105, 120, 97, 99, 110, 116, 97, 118, 97, 114, 98, 100, 97, 116, 98, 108, 111, 99, 98, 115, 108, 110, 99, 118, 97, 114, 102, 100, 115, 99, 102, 101, 97, 116, 102, 109, 116, 120, 102, 118, 97, 114, 103, 118, 97, 114, 104, 115, 116, 121, 106, 117, 115, 116, 108, 99, 97, 114, 109, 111, 114, 116, 109, 111, 114, 120, 111, 112, 98, 100, 112, 114, 111, 112, 116, 114, 97, 107, 90, 97, 112, 102, 83, 105, 108, 102, 71, 108, 97, 116, 71, 108, 111, 99, 70, 101, 97, 116, 83, 105, 108, 108], [97, 101, 105, 111, 117]]
def sbyt : List (List Int32) := sbyI.map (fun l => l.map Int32.ofInt)
/-- the two strings at 15 and 16, and what their methods ask of statics -/
def Sx (γ : Int → Nat) (A : Nat → Prop) (U : State) (H : Heap) : Prop := vk_S 2 slen sbyt (fun i => γ (15 + (i : Int))) (fun i => γ (-1 - (i : Int))) A U H ∧ va_Z "java/lang/String" "COMPACT_STRINGS" "Z" (.int 1) A U H ∧ (∃ z : Int, (z = 0 ∨ z = -3) ∧ va_Z "jdk/internal/util/Preconditions" "SIOOBE_FORMATTER" "Ljava/util/function/BiFunction;" (cR γ z) A U H) ∧ vk_R "FontHouse" 122 "cmapheadhheahmtxmaxpnameOS/2postcvt fpgmglyflocaprepCFF VORGEBDTEBLCgasphdmxkernLTSHPCLTVDMXvheavmtxBASEGDEFGPOSGSUBEBSCJSTFMATHCBDTCBLCCOLRCPALSVG sbixacntavarbdatblocbslncvarfdscfeatfmtxfvargvarhstyjustlcarmortmorxopbdproptrakZapfSilfGlatGlocFeatSill" (γ 15) U ∧ vk_R "FontHouse$Mode" 35 "aeiou" (γ 16) U
theorem vk_S.eqv {N : Nat} {len : List Nat} {byt : List (List Int32)} {adK adK' adV adV' : Nat → Nat} {A : Nat → Prop} {U : State} {H : Heap} (h : vk_S N len byt adK adV A U H) (e : ∀ i, i < N → adK' i = adK i) (e' : ∀ i, i < N → adV' i = adV i) : vk_S N len byt adK' adV' A U H :=
  ⟨fun i hi => by rw [e i hi, e' i hi]; exact h.1 i hi, fun i j hi hj q => h.2 i j hi hj (by rw [← e i hi, ← e j hj]; exact q)⟩
theorem Sx.moved {γ γ' : Int → Nat} {A : Nat → Prop} {s U : State} (h : Sx γ A s s.heap) (hW : s.WarmedH U.vm) (hk : ∀ q : Nat, q < s.heap.size → ¬ A q → U.heap[q]? = s.heap[q]?) (e : ∀ a, a < SB → γ' a = γ a) : Sx γ' A U U.heap := by
  obtain ⟨h1, h2, ⟨z, hz, h3⟩, h4, h5⟩ := h
  refine ⟨((h1.moved hW.alike).kept hk).eqv (fun i hi => e _ (show (15 : Int) + i < 17 by omega)) (fun i hi => e _ (show (-1 : Int) - i < 17 by omega)), (h2.moved hW.alike).kept hk, ⟨z, hz, ?_⟩, by rw [e 15 (by decide)]; exact h4.warm hW, by rw [e 16 (by decide)]; exact h5.warm hW⟩
  have ez : cR γ' z = cR γ z := by unfold cR; rw [e z (show z < 17 by omega)]
  rw [ez]
  exact (h3.moved hW.alike).kept hk
def Zx (γ : Int → Nat) (A : Nat → Prop) (U : State) (H : Heap) : Prop := (∀ z ∈ stTab, va_Z z.1 z.2.1 z.2.2.1 (cV γ z.2.2.2) A U H) ∧ Yz "java/lang/Throwable" "UNASSIGNED_STACK" "[Ljava/lang/StackTraceElement;" A U H ∧ Yz "java/lang/Throwable" "SUPPRESSED_SENTINEL" "Ljava/util/List;" A U H ∧ Sx γ A U H
/-- what statics' arrays hold -/
def scT : List (List Int) := [[], [1, 2, 3, 4, 0, 5, 17, 6, 16, 7, 8, 9, 10, 11, 12, 13, 14, 15], [0, 1, 2, 3, 4, 5, 6, 8, 10, 14, 18, 26, 34, 50, 66, 98, 130, 194, 322, 578, 1090, 2114, 6210, 22594], [0, 0, 0, 0, 0, 0, 1, 1, 2, 2, 3, 3, 4, 4, 5, 5, 6, 7, 8, 9, 10, 12, 14, 24], [2, 3, 4, 5, 6, 7, 8, 9, 10, 12, 14, 18, 22, 30, 38, 54, 70, 102, 134, 198, 326, 582, 1094, 2118], [0, 0, 0, 0, 0, 0, 0, 0, 1, 1, 2, 2, 3, 3, 4, 4, 5, 5, 6, 7, 8, 9, 10, 24], [1, 5, 9, 13, 17, 25, 33, 41, 49, 65, 81, 97, 113, 145, 177, 209, 241, 305, 369, 497, 753, 1265, 2289, 4337, 8433, 16625], [2, 2, 2, 2, 3, 3, 3, 3, 4, 4, 4, 4, 5, 5, 5, 5, 6, 6, 7, 8, 9, 10, 11, 12, 13, 24], [0, 0, 0, 0, 1, 1, 0, 2, 1, 2, 2], [0, 1, 0, 1, 0, 1, 2, 0, 2, 1, 2], [11, 12, 13, 14]]
def sc (a j : Int) : Int := (scT.getD a.toNat []).getD j.toNat 0
/-- a read of a cell that may be a static's -/
def rd (h : Mem) (a j : Int) : Int := if a < SB then sc a j else h a j
def stS (a : Int) : Nat × Nat := if a = -1 ∨ a = -2 then (36, 0) else if a = -3 then (35, 0) else ([(37, 0), (40, 18), (40, 24), (40, 24), (40, 24), (40, 24), (40, 26), (40, 26), (40, 11), (40, 11), (48, 4), (30, 0), (31, 0), (32, 0), (33, 0), (38, 0), (38, 0)] : List (Nat × Nat)).getD a.toNat (37, 0)
/-- what the tables and statics give, at a state U: all of it stays while nothing outside A is written -/
def Cx (D : va_G) (dA : Nat → ClassId) (γ : Int → Nat) (A : Nat → Prop) (U : State) : Prop := Tx U ∧ Kx D dA U ∧ Zx γ A U U.heap ∧ (∀ a : Int, (a ≠ 0 ∧ -2 ≤ a) → a < SB → ¬ A (γ a) ∧ γ a < U.heap.size) ∧ Hd D dA stS γ SB sc U.heap
/-- the shape of a memory; how large it may become; what final slots hold, by class and slot: how far behind the object -/
abbrev G : Type := Shp × Int × (Nat → Nat → Option Int)
/-- slots of the cells from a on -/
def slN (S : Shp) (a b : Int) : Nat := ((List.range (b - a).toNat).map (fun i : Nat => (S (a + (i : Int))).2)).sum
/-- the memory h of n cells lies in the heap H at γ -/
def Mx (g : G) (D : va_G) (dA : Nat → ClassId) (γ : Int → Nat) (A : Nat → Prop) (n : Int) (h : Mem) (H : Heap) : Prop :=
  SB ≤ n ∧ n ≤ g.2.1 ∧ (∀ a : Int, a < SB → g.1 a = stS a) ∧ (∀ a : Int, SB ≤ a → a < n → Cl D dA g.1 γ h H a ∧ A (γ a) ∧ γ a < H.size) ∧ (∀ a b : Int, SB ≤ a → a < n → SB ≤ b → b < n → γ a = γ b → a = b) ∧
  (∀ a : Int, SB ≤ a → a < n → ∀ j : Nat, j < (g.1 a).2 → sk (g.1 a).1 j ≠ 99 → wtv g.1 n (sk (g.1 a).1 j) (h a j)) ∧ (∀ (a : Int) (j : Nat) (d : Int), SB ≤ a → a < n → g.2.2 (g.1 a).1 j = some d → h a j = a + d)
def wtO (g : G) (n : Int) : Out → Prop
  | .inl none => True
  | .inl (some v) => wtV g.1 n v
  | .inr a => rfit g.1 n 17 a
def oc (γ : Int → Nat) : Out → Outcome
  | .inl none => .returned none
  | .inl (some v) => .returned (some (cV γ v))
  | .inr a => .threw (γ a)
/-- the end of a method that began at U with room R -/
def Rend (g : G) (D : va_G) (dA : Nat → ClassId) (γ : Int → Nat) (A : Nat → Prop) (n : Int) (Q : Out → Int → Mem → Prop) (RC RS : Nat) (U : State) (o : Outcome) (t : State) : Prop :=
  ∃ (o' : Out) (n' : Int) (h' : Mem) (γ' : Int → Nat) (L : List Loc) (kc ks : Nat), Q o' n' h' ∧ o = oc γ' o' ∧ wtO g n' o' ∧ n ≤ n' ∧ (∀ a, a < n → γ' a = γ a) ∧ Mx g D dA γ' A n' h' t.heap ∧ U.WarmedH t.vm ∧ U.sameButNew ({ t with vm := U.vm } : State) L kc ks ∧
    kc + (g.2.1 - n').toNat ≤ RC ∧ ks + slN g.1 n' g.2.1 ≤ RS ∧ (∀ q ∈ L, A q.base) ∧ va_F A U t
/-- launches without stack traces -/
abbrev Lch : Type := { l : Launch // ∀ e : Env, l.admits e → e.platform.stackTraces = false }
/-- THE CONTRACT of method k: from arguments av and memory h it ends, with Q -/
def T (g : G) (k : Nat) (av : List V) (n : Int) (h : Mem) (Q : Out → Int → Mem → Prop) : Prop :=
  ∀ (l : Lch) (D : va_G) (dA : Nat → ClassId) (γ : Int → Nat) (A : Nat → Prop), MetFree l.1 (mY k) (headSpec [mW k] { frames := mFR k, cells := (g.2.1 - n).toNat, slots := slN g.1 n g.2.1, locals := mLO k })
    (fun a U => a = (av.map (cV γ)).toArray ∧ Cx D dA γ A U ∧ Mx g D dA γ A n h U.heap ∧ (∀ q : Nat, U.heap.size ≤ q → A q) ∧ ∀ v ∈ av, wtV g.1 n v) (fun _ _ _ _ _ => True)
    (fun _ U o t => Rend g D dA γ A n Q (g.2.1 - n).toNat (slN g.1 n g.2.1) U o t)
/-- the locals -/
def Lx (γ : Int → Nat) (nL : Nat) (ls : Lcs) (la : Array Slot) : Prop := la.size = nL ∧ lv_wf la ∧ ∀ (i : Nat) (v : V), ls[i]? = some (some v) → la[i]? = some (.val (cV γ v))
/-- where a walk of method k stands -/
def Bx (g : G) (k : Nat) (p : Program) (R : Room) (s : State) (m : MethodId) (meth : Method) (c : Code) (D : va_G) (dA : Nat → ClassId) (A : Nat → Prop) (γ0 : Int → Nat) (n0 : Int) (γ : Int → Nat) (n : Int) (h : Mem) (H : Heap) (locs : List Loc) (cells slots : Nat) : Prop :=
  (p.tables.exec = Jvm.exec ∧ c.code = mC k ∧ c.maxLocals = mL k ∧ meth.sig.returnType = mRet k ∧ meth.locks = false ∧ s.vm.findClass (mY k).cls = some m.cls ∧ meth.name = (mY k).name ∧ c.exceptionTable.toList.map (fun h => (h.startPc, h.endPc, h.handlerPc, h.catchType)) = mHd k) ∧
  (mFR k ≤ R.frames ∧ mLO k ≤ R.locals ∧ cells + (g.2.1 - n).toNat ≤ R.cells ∧ slots + slN g.1 n g.2.1 ≤ R.slots) ∧
  (Cx D dA γ0 A s ∧ va_S A s.heap H locs ∧ (∀ q : Nat, s.heap.size ≤ q → A q)) ∧ (SB ≤ n0 ∧ n0 ≤ n ∧ (∀ a, a < n0 → γ a = γ0 a) ∧ Mx g D dA γ A n h H)
def Zq (g : G) (D : va_G) (dA : Nat → ClassId) (γ0 : Int → Nat) (A : Nat → Prop) (n0 : Int) (Q : Out → Int → Mem → Prop) (R : Room) (below : List Frame) (s : State) : State → Prop := fun t => ∃ o, t.status = .running ∧ Ended t below o ∧ Rend g D dA γ0 A n0 Q R.cells R.slots s o t
/-- THE BODY of method k at pc -/
def T_at (g : G) (k pc : Nat) (ls : Lcs) (stk : List V) (n : Int) (h : Mem) (Q : Out → Int → Mem → Prop) : Prop :=
  ∀ (p : Program) (l : Lch) (e : Env) (R : Room) (s : State) (m : MethodId) (args : Array Value) (below : List Frame) (meth : Method) (c : Code) (D : va_G) (dA : Nat → ClassId) (A : Nat → Prop) (γ0 : Int → Nat) (n0 : Int) (γ : Int → Nat) (H : Heap) (locs : List Loc) (cells slots : Nat) (la : Array Slot),
    Bx g k p R s m meth c D dA A γ0 n0 γ n h H locs cells slots → Lx γ (mL k) ls la → (∀ (i : Nat) (v : V), ls[i]? = some (some v) → wtV g.1 n v) → (∀ v ∈ stk, wtV g.1 n v) →
    W p l.1 e R s m args below meth c H locs cells slots (Zq g D dA γ0 A n0 Q R below s) (F0 m pc la (stk.map (cV γ)))
