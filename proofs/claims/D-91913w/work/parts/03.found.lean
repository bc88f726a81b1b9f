/-! THE ABSTRACT MEMORY. Ints are Int, references are relative addresses (64: the first cell that the law makes), a cell has a tag, a length, ints J and references. -/
set_option maxRecDepth 100000
abbrev AV : Type := Int ⊕ (Option Nat ⊕ Int)
abbrev vI (z : Int) : AV := Sum.inl z
abbrev vO (r : Option Nat) : AV := Sum.inr (Sum.inl r)
abbrev vR (a : Nat) : AV := Sum.inr (Sum.inl (some a))
abbrev vN : AV := Sum.inr (Sum.inl none)
abbrev vL (z : Int) : AV := Sum.inr (Sum.inr z)
abbrev Jm : Type := Nat → Nat → Int
abbrev Sh : Type := Nat × Nat × (Nat → Nat) × (Nat → Nat) × (Nat → Nat → Option Nat)
abbrev Sh.n (S : Sh) : Nat := S.1
abbrev Sh.sl (S : Sh) : Nat := S.2.1
abbrev Sh.tg (S : Sh) : Nat → Nat := S.2.2.1
abbrev Sh.ln (S : Sh) : Nat → Nat := S.2.2.2.1
abbrev Sh.rf (S : Sh) : Nat → Nat → Option Nat := S.2.2.2.2
abbrev Wd : Type := (Nat → Nat) × (Nat → ClassId) × (Nat → Nat → Nat) × State × Nat
abbrev Wd.old (w : Wd) : Nat → Nat := w.1
abbrev Wd.dC (w : Wd) : Nat → ClassId := w.2.1
abbrev Wd.dI (w : Wd) : Nat → Nat → Nat := w.2.2.1
abbrev Wd.s0 (w : Wd) : State := w.2.2.2.1
abbrev Wd.B (w : Wd) : Nat := w.2.2.2.2
abbrev Out : Type := Option AV ⊕ Nat
abbrev MI : Type := MethodName × ByteArray × Nat × Option FieldType × List (Nat × Nat × Nat × Nat)
abbrev MI.cls (f : MI) : String := f.1.cls
abbrev MI.code (f : MI) : ByteArray := f.2.1
abbrev MI.maxL (f : MI) : Nat := f.2.2.1
abbrev MI.ret (f : MI) : Option FieldType := f.2.2.2.1
abbrev MI.hh (f : MI) : List (Nat × Nat × Nat × Nat) := f.2.2.2.2
def rho (w : Wd) (a : Nat) : Nat := if a < 64 then w.old a else w.B + (a - 64)
def cv (w : Wd) (v : AV) : Value := match v with
  | .inl z => .int (Int32.ofInt z)
  | .inr (.inl none) => .null
  | .inr (.inl (some a)) => .ref (rho w a)
  | .inr (.inr z) => .long (Int64.ofInt z)
def in32 (z : Int) : Prop := -2147483648 ≤ z ∧ z ≤ 2147483647
/-- an int or a long of an int's size, or a reference -/
def okV (v : AV) : Prop := match v with
  | .inl z => in32 z
  | .inr (.inr z) => in32 z
  | _ => True
/-- one slot wide -/
def oneV (v : AV) : Prop := match v with
  | .inr (.inr _) => False
  | _ => True
def clF : Nat → Option vw_C := fun t => match t with
  | 1 => some (RX1, TX1, 28)
  | 2 => some (RX2, TX2, 2)
  | 3 => some (RX3, TX3, 23)
  | 4 => some (RX4, TX4, 6)
  | 5 => some (RX5, TX5, 76)
  | 7 => some (RX7, TX7, 3)
  | 9 => some (RX9, TX9, 7)
  | 10 => some (RX10, TX10, 8)
  | 11 => some (RX11, TX11, 7)
  | 13 => some (RX13, TX13, 2)
  | 14 => some (RX14, TX14, 1)
  | 15 => some (RX15, TX15, 4)
  | 16 => some (RX16, TX16, 6)
  | 17 => some (RX17, TX17, 4)
  | 19 => some (RX19, TX19, 5)
  | 20 => some (RX20, TX20, 9)
  | 21 => some (RX21, TX21, 5)
  | 22 => some (RX22, TX22, 8)
  | 23 => some (RX23, TX23, 5)
  | 24 => some (RJ2, TJ2, 3)
  | 25 => some (RJ15, TJ15, 6)
  | _ => none
def arF : Nat → Option FieldType := fun t => match t with
  | 32 => some .int
  | 33 => some .byte
  | 34 => some .boolean
  | 35 => some .long
  | 36 => some (.array .int)
  | 37 => some (.object "java/lang/Object")
  | 38 => some (.object "GridRoom$Setting")
  | 48 => some .int
  | 49 => some .byte
  | _ => none
def tyF : Nat → Nat → FieldType := fun t k => match t with
  | 1 => tyX1 k
  | 2 => tyX2 k
  | 3 => tyX3 k
  | 4 => tyX4 k
  | 5 => tyX5 k
  | 7 => tyX7 k
  | 9 => tyX9 k
  | 10 => tyX10 k
  | 11 => tyX11 k
  | 13 => tyX13 k
  | 14 => tyX14 k
  | 15 => tyX15 k
  | 16 => tyX16 k
  | 17 => tyX17 k
  | 19 => tyX19 k
  | 20 => tyX20 k
  | 21 => tyX21 k
  | 22 => tyX22 k
  | 23 => tyX23 k
  | 24 => tyJ2 k
  | 25 => tyJ15 k
  | 32 => .int
  | 33 => .byte
  | 34 => .boolean
  | 35 => .long
  | 36 => (.array .int)
  | 37 => (.object "java/lang/Object")
  | 38 => (.object "GridRoom$Setting")
  | 48 => .int
  | 49 => .byte
  | _ => .int
def weakF (t k : Nat) : Bool := match t, k with
  | 19, 2 => true
  | 19, 4 => true
  | 20, 2 => true
  | 20, 8 => true
  | 21, 2 => true
  | 21, 4 => true
  | 22, 2 => true
  | 22, 7 => true
  | 23, 2 => true
  | 23, 4 => true
  | _, _ => false
def kdT (ty : FieldType) : Nat := match ty with
  | .long => 2
  | .double => 4
  | .float => 4
  | .object _ => 1
  | .array _ => 1
  | _ => 0
/-- the kind of a slot: 0 int, 1 reference, 2 long -/
def fk (t k : Nat) : Nat := kdT (tyF t k)
def av (S : Sh) (J : Jm) (a k : Nat) : AV := if fk (S.tg a) k = 0 then vI (J a k) else if fk (S.tg a) k = 2 then vL (J a k) else vO (S.rf a k)
def CellO (w : Wd) (S : Sh) (J : Jm) (H : Heap) (a : Nat) : Prop := ∀ (C : String) (T : u_T) (N : Nat), clF (S.tg a) = some (C, T, N) → ∃ cell : Cell, H[rho w a]? = some cell ∧ cell.cls = w.dC (S.tg a) ∧ cell.vm = .none ∧
  ∀ k, k < N → ∃ v, cell.slots[w.dI (S.tg a) k]? = some v ∧ ((weakF (S.tg a) k = true ∧ S.rf a k = none) ∨ v = cv w (av S J a k))
def CellA (w : Wd) (S : Sh) (J : Jm) (H : Heap) (a : Nat) : Prop := ∀ ty : FieldType, arF (S.tg a) = some ty → ∃ cell : Cell, H[rho w a]? = some cell ∧ w.s0.isArrayOf cell ty ∧ cell.vm ≠ .unknown ∧ cell.slots.size = S.ln a ∧
  (S.tg a < 40 → cell.cls = w.dC (S.tg a)) ∧ ∀ j, j < S.ln a → cell.slots[j]? = some (cv w (av S J a j))
def RelM (w : Wd) (S : Sh) (J : Jm) (H : Heap) : Prop := H.size + 64 = w.B + S.n ∧ 64 ≤ S.n ∧ (∀ a, S.tg a ≠ 0 → a < S.n) ∧ (∀ a, a < 64 → 40 ≤ S.tg a ∨ S.tg a = 0) ∧ (∀ a, S.ln a < 2147483648) ∧ (∀ a, CellO w S J H a) ∧ (∀ a, CellA w S J H a) ∧
  (∀ a k, in32 (J a k)) ∧ (∀ a k, S.n ≤ a → J a k = 0 ∧ S.rf a k = none) ∧ (∀ q, q < w.B → H[q]? = w.s0.heap[q]?)
/-- the String constants: class, pool entry, text, bytes; string i lies at 2 i, its bytes at 2 i + 1 -/
def strT : List (String × Nat × String × List Int) := [("GridRoom$TabletReader", 17, "?", [63]), ("GridRoom$TabletReader", 41, ".", [46]), ("GridRoom$RuleReader", 20, "consonant", [99, 111, 110, 115, 111, 110, 97, 110, 116]), ("GridRoom$RuleReader", 26, "vowel", [118, 111, 119, 101, 108]), ("GridRoom$RuleReader", 28, "write", [119, 114, 105, 116, 101]), ("GridRoom$RuleReader", 30, "drop", [100, 114, 111, 112]), ("GridRoom$RuleReader", 70, "as", [97, 115]), ("GridRoom", 7, "aeiou", [97, 101, 105, 111, 117]), ("GridRoom$RuleReader", 83, "first", [102, 105, 114, 115, 116]), ("GridRoom$RuleReader", 85, "last", [108, 97, 115, 116]), ("GridRoom$RuleReader", 94, "length", [108, 101, 110, 103, 116, 104]), ("GridRoom$RuleReader", 99, "count", [99, 111, 117, 110, 116]), ("GridRoom$RuleReader", 54, ";", [59]), ("GridRoomModel", 256, "consonant", [99, 111, 110, 115, 111, 110, 97, 110, 116]), ("GridRoomModel", 262, "vowel", [118, 111, 119, 101, 108]), ("GridRoomModel", 264, "write", [119, 114, 105, 116, 101]), ("GridRoomModel", 266, "drop", [100, 114, 111, 112]), ("GridRoomModel", 268, "first", [102, 105, 114, 115, 116]), ("GridRoomModel", 270, "last", [108, 97, 115, 116]), ("GridRoomModel", 272, "length", [108, 101, 110, 103, 116, 104]), ("GridRoomModel", 273, "count", [99, 111, 117, 110, 116]), ("GridRoomModel", 280, "as", [97, 115])]
/-- static references of which nothing is known but that they are null or old -/
def stcT : List (String × String × String) := [("jdk/internal/util/Preconditions", "SIOOBE_FORMATTER", "Ljava/util/function/BiFunction;"), ("java/lang/Throwable", "UNASSIGNED_STACK", "[Ljava/lang/StackTraceElement;"), ("java/lang/Throwable", "SUPPRESSED_SENTINEL", "Ljava/util/List;")]
def oldA (w : Wd) : Nat → Prop := fun q => w.B ≤ q
def StrOk (w : Wd) (i : Nat) (own : String) (idx : Nat) (tx : String) (bs : List Int) : Prop := vk_R own idx tx (w.old (2 * i)) w.s0 ∧ va_O "java/lang/String" (w.old (2 * i)) (oldA w) w.s0 w.s0.heap ∧ va_OF "java/lang/String" "coder" "B" (.int 0) (w.old (2 * i)) (oldA w) w.s0 w.s0.heap ∧ va_OF "java/lang/String" "value" "[B" (.ref (w.old (2 * i + 1))) (w.old (2 * i)) (oldA w) w.s0 w.s0.heap ∧ va_T .byte (w.old (2 * i + 1)) bs.length (fun j => .int (Int32.ofInt (bs.getD j 0))) (oldA w) w.s0 w.s0.heap
/-- what the Statement gives of old cells: strings, statics; what is no Joins -/
def OldOk (w : Wd) : Prop := (∀ (i : Nat) (own : String) (idx : Nat) (tx : String) (bs : List Int), strT[i]? = some (own, idx, tx, bs) → StrOk w i own idx tx bs) ∧
  va_Z "java/lang/String" "COMPACT_STRINGS" "Z" (.int 1) (oldA w) w.s0 w.s0.heap ∧
  (∀ (i : Nat) (C n d : String), stcT[i]? = some (C, n, d) → va_Z C n d .null (oldA w) w.s0 w.s0.heap ∨ va_Z C n d (.ref (w.old (50 + i))) (oldA w) w.s0 w.s0.heap) ∧
  va_Nc "GridRoom$Writes" "GridRoom$Joins" w.s0 ∧ va_Nc "GridRoom$Drops" "GridRoom$Joins" w.s0 ∧ va_Mi "[Ljava/lang/Object;" (w.old 55) w.s0
/-- what the launch's tables give at the law's start -/
def Wok (w : Wd) : Prop := (∀ x ∈ lw_tbl, x.before #[] w.s0 = true) ∧ (∀ (t : Nat) (C : String) (T : u_T) (N : Nat), clF t = some (C, T, N) → u_Kn w.s0 C T N (w.dC t) (w.dI t)) ∧
  (∀ (t : Nat) (ty : FieldType), t < 40 → arF t = some ty → ArrOfT w.s0 (w.dC t) ty ∧ va_RA w.s0 (w.dC t) ty) ∧ (∀ a, a < 64 → w.old a < w.B) ∧ OldOk w
def capN : Nat := 601088
def capS : Nat := 7293034
/-- the room that is left: d frames, and what the whole run may still make -/
def RoomOk (d : Nat) (R : Room) (cells slots : Nat) (S : Sh) : Prop := d ≤ R.frames ∧ 64 * d ≤ R.locals ∧ S.n ≤ capN ∧ S.sl ≤ capS ∧ cells + (capN - S.n) ≤ R.cells ∧ slots + (capS - S.sl) ≤ R.slots
def LvOk (w : Wd) (ls : List (Option AV)) (la : Array Slot) : Prop := la.size = ls.length ∧ lv_wf la ∧ ∀ (i : Nat) (v : AV), ls[i]? = some (some v) → la[i]? = some (.val (cv w v)) ∧ okV v ∧ oneV v
def CxOk (w : Wd) (f : MI) (p : Program) (s : State) (m : MethodId) (meth : Method) (c : Code) : Prop := p.tables.exec = Jvm.exec ∧ c.code = f.code ∧ c.maxLocals = f.maxL ∧ meth.sig.returnType = f.ret ∧ meth.locks = false ∧ s.vm.findClass f.cls = some m.cls ∧
  meth.name = f.1.name ∧ c.exceptionTable.toList.map (fun x => (x.startPc, x.endPc, x.handlerPc, x.catchType)) = f.hh ∧ w.s0.WarmedH s.vm
def cvo (w : Wd) (o : Out) : Outcome := match o with
  | .inl v => .returned (v.map (cv w))
  | .inr a => .threw (rho w a)
def okO (o : Out) : Prop := match o with
  | .inl (some v) => okV v
  | _ => True
/-- the end of an invocation -/
def Fin1 (w : Wd) (s : State) (below : List Frame) (cells slots : Nat) (S : Sh) (Q : Out → Sh → Jm → Prop) : State → Prop := fun t => ∃ (o : Out) (S' : Sh) (J' : Jm) (L : List Loc) (k n : Nat),
  t.status = .running ∧ Ended t below (cvo w o) ∧ s.WarmedH t.vm ∧ s.sameButNew ({ t with vm := s.vm } : State) L k n ∧ (∀ q ∈ L, w.B ≤ q.base) ∧ k + S.n ≤ cells + S'.n ∧ n + S.sl ≤ slots + S'.sl ∧ S'.n ≤ capN ∧ S'.sl ≤ capS ∧ RelM w S' J' t.heap ∧ okO o ∧ Q o S' J'
/-- THE JUDGEMENT: method f, at pc with locals ls and stack st over the memory S, J, with d frames to spare, ends, and Q holds of its outcome and of the memory then -/
def V (w : Wd) (d : Nat) (f : MI) (pc : Nat) (ls : List (Option AV)) (st : List AV) (S : Sh) (J : Jm) (Q : Out → Sh → Jm → Prop) : Prop :=
  ∀ (p : Program) (l : Launch) (e : Env) (R : Room) (s : State) (m : MethodId) (args : Array Value) (below : List Frame) (meth : Method) (c : Code) (H : Heap) (locs : List Loc) (cells slots : Nat) (la : Array Slot),
    Wok w → CxOk w f p s m meth c → RoomOk d R cells slots S → RelM w S J H → LvOk w ls la → ls.length = f.maxL → (∀ v ∈ st, okV v) → (∀ q ∈ locs, w.B ≤ q.base) →
    W p l e R s m args below meth c H locs cells slots (Fin1 w s below cells slots S Q) (F0 m pc la (st.map (cv w)))
theorem V.mono {w : Wd} {d d' : Nat} {f : MI} {pc : Nat} {ls : List (Option AV)} {st : List AV} {S : Sh} {J : Jm} {Q Q' : Out → Sh → Jm → Prop} (h : V w d f pc ls st S J Q) (hd : d ≤ d') (hQ : ∀ o S' J', Q o S' J' → Q' o S' J') : V w d' f pc ls st S J Q' := by
  intro p l e R s m args below meth c H locs cells slots la h1 h2 h3 h4 h5 h6 h7 h8 T hT X
  obtain ⟨t, a, o, S', J', L, k, n, b1, b2, b3, b4, b5, b6, b7, b8, b9, b10, b11, b12⟩ := h p l e R s m args below meth c H locs cells slots la h1 h2 ⟨Nat.le_trans hd h3.1, Nat.le_trans (Nat.mul_le_mul_left _ hd) h3.2.1, h3.2.2⟩ h4 h5 h6 h7 h8 T hT X
  exact ⟨t, a, o, S', J', L, k, n, b1, b2, b3, b4, b5, b6, b7, b8, b9, b10, b11, hQ _ _ _ b12⟩
