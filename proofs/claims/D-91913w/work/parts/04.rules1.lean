section RulesA
variable {w : Wd} {d : Nat} {f : MI} {pc : Nat} {ls : List (Option AV)} {st : List AV} {S : Sh} {J : Jm} {Q : Out → Sh → Jm → Prop}
theorem v_iconst {n : Int} (hd : decode f.code pc = .ok (.iconst n, 1)) (hn : in32 n) (K : V w d f (pc + 1) ls (vI n :: st) S J Q) : V w d f pc ls st S J Q := by
  intro p l e R s m args below meth c H locs cells slots la h1 h2 h3 h4 h5 h6 h7 h8
  exact lv_iconst h2.1 h2.2.1 hd rfl (K p l e R s m args below meth c H locs cells slots la h1 h2 h3 h4 h5 h6 (List.forall_mem_cons.mpr ⟨hn, h7⟩) h8)
theorem v_bipush {n : Int} (hd : decode f.code pc = .ok (.bipush n, 2)) (hv : (Int8.ofInt n).toInt32 = Int32.ofInt n) (hn : in32 n) (K : V w d f (pc + 2) ls (vI n :: st) S J Q) : V w d f pc ls st S J Q := by
  intro p l e R s m args below meth c H locs cells slots la h1 h2 h3 h4 h5 h6 h7 h8
  exact lv_bipush h2.1 h2.2.1 hd hv (K p l e R s m args below meth c H locs cells slots la h1 h2 h3 h4 h5 h6 (List.forall_mem_cons.mpr ⟨hn, h7⟩) h8)
theorem v_sipush {n : Int} (hd : decode f.code pc = .ok (.sipush n, 3)) (hv : (Int16.ofInt n).toInt32 = Int32.ofInt n) (hn : in32 n) (K : V w d f (pc + 3) ls (vI n :: st) S J Q) : V w d f pc ls st S J Q := by
  intro p l e R s m args below meth c H locs cells slots la h1 h2 h3 h4 h5 h6 h7 h8
  exact lv_sipush h2.1 h2.2.1 hd hv (K p l e R s m args below meth c H locs cells slots la h1 h2 h3 h4 h5 h6 (List.forall_mem_cons.mpr ⟨hn, h7⟩) h8)
theorem v_null (hd : decode f.code pc = .ok (.aconst_null, 1)) (K : V w d f (pc + 1) ls (vN :: st) S J Q) : V w d f pc ls st S J Q := by
  intro p l e R s m args below meth c H locs cells slots la h1 h2 h3 h4 h5 h6 h7 h8
  exact lv_null h2.1 h2.2.1 hd (K p l e R s m args below meth c H locs cells slots la h1 h2 h3 h4 h5 h6 (List.forall_mem_cons.mpr ⟨trivial, h7⟩) h8)
theorem v_iload_n {k : Fin 4} {z : Int} (hd : decode f.code pc = .ok (.iload_n k, 1)) (hl : ls[k.val]? = some (some (vI z))) (K : V w d f (pc + 1) ls (vI z :: st) S J Q) : V w d f pc ls st S J Q := by
  intro p l e R s m args below meth c H locs cells slots la h1 h2 h3 h4 h5 h6 h7 h8
  have q := h5.2.2 _ _ hl
  exact lv_iload_n h2.1 h2.2.1 hd rfl q.1 (K p l e R s m args below meth c H locs cells slots la h1 h2 h3 h4 h5 h6 (List.forall_mem_cons.mpr ⟨q.2.1, h7⟩) h8)
theorem v_iload {k : Nat} {z : Int} (hd : decode f.code pc = .ok (.iload k, 2)) (hl : ls[k]? = some (some (vI z))) (K : V w d f (pc + 2) ls (vI z :: st) S J Q) : V w d f pc ls st S J Q := by
  intro p l e R s m args below meth c H locs cells slots la h1 h2 h3 h4 h5 h6 h7 h8
  have q := h5.2.2 _ _ hl
  exact lv_iload h2.1 h2.2.1 hd q.1 (K p l e R s m args below meth c H locs cells slots la h1 h2 h3 h4 h5 h6 (List.forall_mem_cons.mpr ⟨q.2.1, h7⟩) h8)
theorem v_aload_n {k : Fin 4} {r : Option Nat} (hd : decode f.code pc = .ok (.aload_n k, 1)) (hl : ls[k.val]? = some (some (vO r))) (K : V w d f (pc + 1) ls (vO r :: st) S J Q) : V w d f pc ls st S J Q := by
  intro p l e R s m args below meth c H locs cells slots la h1 h2 h3 h4 h5 h6 h7 h8
  have q := h5.2.2 _ _ hl
  cases r with
  | none => exact lv_aload_nN h2.1 h2.2.1 hd rfl q.1 (K p l e R s m args below meth c H locs cells slots la h1 h2 h3 h4 h5 h6 (List.forall_mem_cons.mpr ⟨q.2.1, h7⟩) h8)
  | some a => exact lv_aload_n h2.1 h2.2.1 hd rfl q.1 (K p l e R s m args below meth c H locs cells slots la h1 h2 h3 h4 h5 h6 (List.forall_mem_cons.mpr ⟨q.2.1, h7⟩) h8)
theorem v_aload {k : Nat} {r : Option Nat} (hd : decode f.code pc = .ok (.aload k, 2)) (hl : ls[k]? = some (some (vO r))) (K : V w d f (pc + 2) ls (vO r :: st) S J Q) : V w d f pc ls st S J Q := by
  intro p l e R s m args below meth c H locs cells slots la h1 h2 h3 h4 h5 h6 h7 h8
  have q := h5.2.2 _ _ hl
  cases r with
  | none => exact lv_aloadN h2.1 h2.2.1 hd q.1 (K p l e R s m args below meth c H locs cells slots la h1 h2 h3 h4 h5 h6 (List.forall_mem_cons.mpr ⟨q.2.1, h7⟩) h8)
  | some a => exact lv_aload h2.1 h2.2.1 hd q.1 (K p l e R s m args below meth c H locs cells slots la h1 h2 h3 h4 h5 h6 (List.forall_mem_cons.mpr ⟨q.2.1, h7⟩) h8)
/-- the locals that are known, as the kit lists them -/
def lvP (w : Wd) (ls : List (Option AV)) : List (Nat × Value) := (List.range ls.length).filterMap (fun i => match ls[i]? with
  | some (some v) => some (i, cv w v)
  | _ => none)
theorem lvP_has {la : Array Slot} (h : LvOk w ls la) : lv_has la ls.length (lvP w ls) := by
  refine ⟨h.1, h.2.1, fun q hq => ?_⟩
  obtain ⟨i, -, hi⟩ := List.mem_filterMap.mp hq
  split at hi
  · rename_i v hv
    cases hi
    exact (h.2.2 _ _ hv).1
  · cases hi
theorem cv_cat {v : AV} (h : oneV v) : (cv w v).category = 1 := by
  rcases v with z | ⟨_ | a⟩ | z
  · rfl
  · rfl
  · rfl
  · exact absurd h (fun q => q)
theorem lvP_put {la la' : Array Slot} {i : Nat} {v : AV} (h : LvOk w ls la) (hv : okV v) (h1 : oneV v) (hi : i < ls.length) (h' : lv_has la' ls.length ((i, cv w v) :: (lvP w ls).filter (fun q => !(q.1 == i) && !(q.1 + 1 == i && q.2.category == 2)))) : LvOk w (ls.set i (some v)) la' := by
  refine ⟨by rw [List.length_set]; exact h'.1, h'.2.1, fun j u hj => ?_⟩
  by_cases e : i = j
  · subst e
    rw [List.getElem?_set_self hi] at hj
    cases hj
    exact ⟨h'.2.2 (_, _) List.mem_cons_self, hv, h1⟩
  · have ne := e
    rw [List.getElem?_set_ne ne] at hj
    have q := h.2.2 _ _ hj
    refine ⟨h'.2.2 (j, cv w u) (List.mem_cons_of_mem _ (List.mem_filter.mpr ⟨?_, ?_⟩)), q.2⟩
    · refine List.mem_filterMap.mpr ⟨j, ?_, by rw [hj]⟩
      exact List.mem_range.mpr (List.getElem?_eq_some_iff.mp hj).1
    · have := cv_cat (w := w) q.2.2
      simp only [this]
      have e1 : (j == i) = false := by
        rw [beq_eq_false_iff_ne]
        exact fun e => ne e.symm
      simp [e1]
theorem v_istore_n {k : Fin 4} {z : Int} (hd : decode f.code pc = .ok (.istore_n k, 1)) (hk : k.val < ls.length) (K : V w d f (pc + 1) (ls.set k.val (some (vI z))) st S J Q) : V w d f pc ls (vI z :: st) S J Q := by
  intro p l e R s m args below meth c H locs cells slots la h1 h2 h3 h4 h5 h6 h7 h8
  have hz : in32 z := h7 (vI z) List.mem_cons_self
  exact lv_istore_n h2.1 h2.2.1 hd rfl (lvP_has (w := w) h5) hk rfl (fun la' h' => K p l e R s m args below meth c H locs cells slots la' h1 h2 h3 h4 (lvP_put (v := vI z) h5 hz trivial hk h') (by rw [List.length_set]; exact h6) (fun v hv => h7 v (List.mem_cons_of_mem _ hv)) h8)
theorem v_istore {k : Nat} {z : Int} (hd : decode f.code pc = .ok (.istore k, 2)) (hk : k < ls.length) (K : V w d f (pc + 2) (ls.set k (some (vI z))) st S J Q) : V w d f pc ls (vI z :: st) S J Q := by
  intro p l e R s m args below meth c H locs cells slots la h1 h2 h3 h4 h5 h6 h7 h8
  have hz : in32 z := h7 (vI z) List.mem_cons_self
  exact lv_istore h2.1 h2.2.1 hd (lvP_has (w := w) h5) hk rfl (fun la' h' => K p l e R s m args below meth c H locs cells slots la' h1 h2 h3 h4 (lvP_put (v := vI z) h5 hz trivial hk h') (by rw [List.length_set]; exact h6) (fun v hv => h7 v (List.mem_cons_of_mem _ hv)) h8)
theorem v_astore_n {k : Fin 4} {x : Option Nat} (hd : decode f.code pc = .ok (.astore_n k, 1)) (hk : k.val < ls.length) (K : V w d f (pc + 1) (ls.set k.val (some (vO x))) st S J Q) : V w d f pc ls (vO x :: st) S J Q := by
  intro p l e R s m args below meth c H locs cells slots la h1 h2 h3 h4 h5 h6 h7 h8
  cases x with
  | none => exact lv_astore_nN h2.1 h2.2.1 hd rfl (lvP_has (w := w) h5) hk rfl (fun la' h' => K p l e R s m args below meth c H locs cells slots la' h1 h2 h3 h4 (lvP_put (v := vN) h5 trivial trivial hk h') (by rw [List.length_set]; exact h6) (fun v hv => h7 v (List.mem_cons_of_mem _ hv)) h8)
  | some a => exact lv_astore_n h2.1 h2.2.1 hd rfl (lvP_has (w := w) h5) hk rfl (fun la' h' => K p l e R s m args below meth c H locs cells slots la' h1 h2 h3 h4 (lvP_put (v := vR a) h5 trivial trivial hk h') (by rw [List.length_set]; exact h6) (fun v hv => h7 v (List.mem_cons_of_mem _ hv)) h8)
theorem v_astore {k : Nat} {x : Option Nat} (hd : decode f.code pc = .ok (.astore k, 2)) (hk : k < ls.length) (K : V w d f (pc + 2) (ls.set k (some (vO x))) st S J Q) : V w d f pc ls (vO x :: st) S J Q := by
  intro p l e R s m args below meth c H locs cells slots la h1 h2 h3 h4 h5 h6 h7 h8
  cases x with
  | none => exact lv_astoreN h2.1 h2.2.1 hd (lvP_has (w := w) h5) hk rfl (fun la' h' => K p l e R s m args below meth c H locs cells slots la' h1 h2 h3 h4 (lvP_put (v := vN) h5 trivial trivial hk h') (by rw [List.length_set]; exact h6) (fun v hv => h7 v (List.mem_cons_of_mem _ hv)) h8)
  | some a => exact lv_astore h2.1 h2.2.1 hd (lvP_has (w := w) h5) hk rfl (fun la' h' => K p l e R s m args below meth c H locs cells slots la' h1 h2 h3 h4 (lvP_put (v := vR a) h5 trivial trivial hk h') (by rw [List.length_set]; exact h6) (fun v hv => h7 v (List.mem_cons_of_mem _ hv)) h8)
theorem v_iinc {k : Nat} {n z : Int} (hd : decode f.code pc = .ok (.iinc k n, 3)) (hl : ls[k]? = some (some (vI z))) (hr : in32 (z + n)) (K : V w d f (pc + 3) (ls.set k (some (vI (z + n)))) st S J Q) : V w d f pc ls st S J Q := by
  intro p l e R s m args below meth c H locs cells slots la h1 h2 h3 h4 h5 h6 h7 h8
  have hk : k < ls.length := (List.getElem?_eq_some_iff.mp hl).1
  have hm : (k, Value.int (Int32.ofInt z)) ∈ lvP w ls := List.mem_filterMap.mpr ⟨k, List.mem_range.mpr hk, by rw [hl]; rfl⟩
  obtain ⟨i, hi⟩ := List.getElem?_of_mem hm
  exact lv_iinc h2.1 h2.2.1 hd (lvP_has (w := w) h5) hi (Int32.ofInt_add z n).symm hk rfl (fun la' h' => K p l e R s m args below meth c H locs cells slots la' h1 h2 h3 h4 (lvP_put (v := vI (z + n)) h5 hr trivial hk h') (by rw [List.length_set]; exact h6) h7 h8)
theorem v_dup {v : AV} (hd : decode f.code pc = .ok (.dup, 1)) (hv : oneV v) (K : V w d f (pc + 1) ls (v :: v :: st) S J Q) : V w d f pc ls (v :: st) S J Q := by
  intro p l e R s m args below meth c H locs cells slots la h1 h2 h3 h4 h5 h6 h7 h8
  exact lv_dup h2.1 h2.2.1 hd (cv_cat hv) (K p l e R s m args below meth c H locs cells slots la h1 h2 h3 h4 h5 h6 (List.forall_mem_cons.mpr ⟨h7 v List.mem_cons_self, h7⟩) h8)
theorem v_pop {v : AV} (hd : decode f.code pc = .ok (.pop, 1)) (hv : oneV v) (K : V w d f (pc + 1) ls st S J Q) : V w d f pc ls (v :: st) S J Q := by
  intro p l e R s m args below meth c H locs cells slots la h1 h2 h3 h4 h5 h6 h7 h8
  exact lv_pop h2.1 h2.2.1 hd (cv_cat hv) (K p l e R s m args below meth c H locs cells slots la h1 h2 h3 h4 h5 h6 (fun u hu => h7 u (List.mem_cons_of_mem _ hu)) h8)
theorem v_dup_x1 {v u : AV} (hd : decode f.code pc = .ok (.dup_x1, 1)) (hv : oneV v) (hu : oneV u) (K : V w d f (pc + 1) ls (v :: u :: v :: st) S J Q) : V w d f pc ls (v :: u :: st) S J Q := by
  intro p l e R s m args below meth c H locs cells slots la h1 h2 h3 h4 h5 h6 h7 h8
  have a1 := h7 v List.mem_cons_self
  have a2 := h7 u (List.mem_cons_of_mem _ List.mem_cons_self)
  exact lv_dup_x1 h2.1 h2.2.1 hd (cv_cat hv) (cv_cat hu) (K p l e R s m args below meth c H locs cells slots la h1 h2 h3 h4 h5 h6 (List.forall_mem_cons.mpr ⟨a1, List.forall_mem_cons.mpr ⟨a2, List.forall_mem_cons.mpr ⟨a1, fun x hx => h7 x (List.mem_cons_of_mem _ (List.mem_cons_of_mem _ hx))⟩⟩⟩) h8)
theorem v_dup2 {v u : AV} (hd : decode f.code pc = .ok (.dup2, 1)) (hv : oneV v) (hu : oneV u) (K : V w d f (pc + 1) ls (v :: u :: v :: u :: st) S J Q) : V w d f pc ls (v :: u :: st) S J Q := by
  intro p l e R s m args below meth c H locs cells slots la h1 h2 h3 h4 h5 h6 h7 h8
  have a1 := h7 v List.mem_cons_self
  have a2 := h7 u (List.mem_cons_of_mem _ List.mem_cons_self)
  exact lv_dup2_11 h2.1 h2.2.1 hd (cv_cat hv) (cv_cat hu) (K p l e R s m args below meth c H locs cells slots la h1 h2 h3 h4 h5 h6 (List.forall_mem_cons.mpr ⟨a1, List.forall_mem_cons.mpr ⟨a2, h7⟩⟩) h8)
theorem n_toInt {z : Int} (h : in32 z) : (Int32.ofInt z).toInt = z := Int32.toInt_ofInt_of_le (by have := h.1; omega) (by have := h.2; omega)
theorem n_eq {x y : Int} (hx : in32 x) (hy : in32 y) : Int32.ofInt x = Int32.ofInt y ↔ x = y := by
  constructor
  · intro h
    have := congrArg Int32.toInt h
    rwa [n_toInt hx, n_toInt hy] at this
  · intro h; rw [h]
theorem n_lt {x y : Int} (hx : in32 x) (hy : in32 y) : Int32.ofInt x < Int32.ofInt y ↔ x < y := by rw [Int32.lt_iff_toInt_lt, n_toInt hx, n_toInt hy]
theorem n_le {x y : Int} (hx : in32 x) (hy : in32 y) : Int32.ofInt x ≤ Int32.ofInt y ↔ x ≤ y := by rw [Int32.le_iff_toInt_le, n_toInt hx, n_toInt hy]
theorem n_0 : (0 : Int32) = Int32.ofInt 0 := rfl
theorem in_0 : in32 0 := by unfold in32; omega
theorem n_inj {a b : Int32} (h : a.toInt = b.toInt) : a = b := Int32.toInt_inj.mp h
theorem in_toInt (a : Int32) : in32 a.toInt := ⟨by have := a.le_toInt; omega, by have := a.toInt_lt; omega⟩
theorem n_of (a : Int32) : Int32.ofInt a.toInt = a := Int32.ofInt_toInt a
theorem n_div {x y : Int} (hx : in32 x) (hy : in32 y) (h0 : 0 ≤ x) (h1 : 0 < y) : Int32.ofInt x / Int32.ofInt y = Int32.ofInt (x / y) := by
  have hb : x / y ≤ x := Int.ediv_le_self y h0
  have hb0 : 0 ≤ x / y := Int.ediv_nonneg h0 (by omega)
  apply n_inj
  rw [Int32.toInt_div_of_ne_right _ _ (by
    intro e
    have := congrArg Int32.toInt e
    rw [n_toInt hy] at this
    have e2 : (-1 : Int32).toInt = -1 := by decide
    rw [e2] at this
    omega), n_toInt hx, n_toInt hy, n_toInt ⟨by omega, by have := hx.2; omega⟩, Int.tdiv_eq_ediv_of_nonneg h0]
theorem n_rem {x y : Int} (hx : in32 x) (hy : in32 y) (h0 : 0 ≤ x) (h1 : 0 < y) : Int32.ofInt x - Int32.ofInt x / Int32.ofInt y * Int32.ofInt y = Int32.ofInt (x % y) := by
  rw [n_div hx hy h0 h1, ← Int32.ofInt_mul, ← Int32.ofInt_sub]
  congr 1
  have := Int.emod_add_mul_ediv x y
  rw [Int.mul_comm] at this
  omega
theorem v_iadd {x y : Int} (hd : decode f.code pc = .ok (.iadd, 1)) (hr : in32 (x + y)) (K : V w d f (pc + 1) ls (vI (x + y) :: st) S J Q) : V w d f pc ls (vI y :: vI x :: st) S J Q := by
  intro p l e R s m args below meth c H locs cells slots la h1 h2 h3 h4 h5 h6 h7 h8
  have k := K p l e R s m args below meth c H locs cells slots la h1 h2 h3 h4 h5 h6 (List.forall_mem_cons.mpr ⟨hr, fun u hu => h7 u (List.mem_cons_of_mem _ (List.mem_cons_of_mem _ hu))⟩) h8
  refine lv_iadd h2.1 h2.2.1 hd ?_
  rw [← Int32.ofInt_add x y]
  exact k
theorem v_isub {x y : Int} (hd : decode f.code pc = .ok (.isub, 1)) (hr : in32 (x - y)) (K : V w d f (pc + 1) ls (vI (x - y) :: st) S J Q) : V w d f pc ls (vI y :: vI x :: st) S J Q := by
  intro p l e R s m args below meth c H locs cells slots la h1 h2 h3 h4 h5 h6 h7 h8
  have k := K p l e R s m args below meth c H locs cells slots la h1 h2 h3 h4 h5 h6 (List.forall_mem_cons.mpr ⟨hr, fun u hu => h7 u (List.mem_cons_of_mem _ (List.mem_cons_of_mem _ hu))⟩) h8
  refine lv_isub h2.1 h2.2.1 hd ?_
  rw [← Int32.ofInt_sub x y]
  exact k
theorem v_imul {x y : Int} (hd : decode f.code pc = .ok (.imul, 1)) (hr : in32 (x * y)) (K : V w d f (pc + 1) ls (vI (x * y) :: st) S J Q) : V w d f pc ls (vI y :: vI x :: st) S J Q := by
  intro p l e R s m args below meth c H locs cells slots la h1 h2 h3 h4 h5 h6 h7 h8
  have k := K p l e R s m args below meth c H locs cells slots la h1 h2 h3 h4 h5 h6 (List.forall_mem_cons.mpr ⟨hr, fun u hu => h7 u (List.mem_cons_of_mem _ (List.mem_cons_of_mem _ hu))⟩) h8
  refine lv_imul h2.1 h2.2.1 hd ?_
  rw [← Int32.ofInt_mul x y]
  exact k
theorem v_ineg {x : Int} (hd : decode f.code pc = .ok (.ineg, 1)) (hr : in32 (-x)) (K : V w d f (pc + 1) ls (vI (-x) :: st) S J Q) : V w d f pc ls (vI x :: st) S J Q := by
  intro p l e R s m args below meth c H locs cells slots la h1 h2 h3 h4 h5 h6 h7 h8
  have k := K p l e R s m args below meth c H locs cells slots la h1 h2 h3 h4 h5 h6 (List.forall_mem_cons.mpr ⟨hr, fun u hu => h7 u (List.mem_cons_of_mem _ hu)⟩) h8
  refine lv_ineg h2.1 h2.2.1 hd ?_
  rw [← Int32.ofInt_neg x]
  exact k
theorem v_idiv {x y : Int} (hd : decode f.code pc = .ok (.idiv, 1)) (h0 : 0 ≤ x) (hy0 : 0 < y) (K : V w d f (pc + 1) ls (vI (x / y) :: st) S J Q) : V w d f pc ls (vI y :: vI x :: st) S J Q := by
  intro p l e R s m args below meth c H locs cells slots la h1 h2 h3 h4 h5 h6 h7 h8
  have hy : in32 y := h7 (vI y) List.mem_cons_self
  have hx : in32 x := h7 (vI x) (List.mem_cons_of_mem _ List.mem_cons_self)
  have hb : x / y ≤ x := Int.ediv_le_self y h0
  have hb0 : 0 ≤ x / y := Int.ediv_nonneg h0 (by omega)
  have k := K p l e R s m args below meth c H locs cells slots la h1 h2 h3 h4 h5 h6 (List.forall_mem_cons.mpr ⟨(⟨by omega, by have := hx.2; omega⟩ : in32 (x / y)), fun u hu => h7 u (List.mem_cons_of_mem _ (List.mem_cons_of_mem _ hu))⟩) h8
  refine lv_idiv h2.1 h2.2.1 hd (fun e => ?_) ?_
  · rw [n_0, n_eq hy in_0] at e
    omega
  · rw [n_div hx hy h0 hy0]
    exact k
theorem v_irem {x y : Int} (hd : decode f.code pc = .ok (.irem, 1)) (h0 : 0 ≤ x) (hy0 : 0 < y) (K : V w d f (pc + 1) ls (vI (x % y) :: st) S J Q) : V w d f pc ls (vI y :: vI x :: st) S J Q := by
  intro p l e R s m args below meth c H locs cells slots la h1 h2 h3 h4 h5 h6 h7 h8
  have hy : in32 y := h7 (vI y) List.mem_cons_self
  have hx : in32 x := h7 (vI x) (List.mem_cons_of_mem _ List.mem_cons_self)
  have hb : x % y < y := Int.emod_lt_of_pos x hy0
  have hb0 : 0 ≤ x % y := Int.emod_nonneg x (by omega)
  have k := K p l e R s m args below meth c H locs cells slots la h1 h2 h3 h4 h5 h6 (List.forall_mem_cons.mpr ⟨(⟨by omega, by have := hy.2; omega⟩ : in32 (x % y)), fun u hu => h7 u (List.mem_cons_of_mem _ (List.mem_cons_of_mem _ hu))⟩) h8
  refine lv_irem h2.1 h2.2.1 hd (fun e => ?_) ?_
  · rw [n_0, n_eq hy in_0] at e
    omega
  · rw [n_rem hx hy h0 hy0]
    exact k
def zand (x y : Int) : Int := (Int32.ofInt x &&& Int32.ofInt y).toInt
def zor (x y : Int) : Int := (Int32.ofInt x ||| Int32.ofInt y).toInt
def zxor (x y : Int) : Int := (Int32.ofInt x ^^^ Int32.ofInt y).toInt
def zshl (x y : Int) : Int := (Int32.ofInt x <<< (Int32.ofInt y &&& 31)).toInt
def zshr (x y : Int) : Int := (Int32.ofInt x >>> (Int32.ofInt y &&& 31)).toInt
def zush (x y : Int) : Int := (((Int32.ofInt x).toUInt32 >>> ((Int32.ofInt y).toUInt32 &&& Int32.toUInt32 31)).toInt32).toInt
def zb8 (x : Int) : Int := ((Int32.ofInt x).toInt8.toInt32).toInt
def zc16 (x : Int) : Int := (((Int32.ofInt x).toUInt32 % 65536).toInt32).toInt
theorem v_iand {x y : Int} (hd : decode f.code pc = .ok (.iand, 1)) (K : V w d f (pc + 1) ls (vI (zand x y) :: st) S J Q) : V w d f pc ls (vI y :: vI x :: st) S J Q := by
  intro p l e R s m args below meth c H locs cells slots la h1 h2 h3 h4 h5 h6 h7 h8
  have k := K p l e R s m args below meth c H locs cells slots la h1 h2 h3 h4 h5 h6 (List.forall_mem_cons.mpr ⟨(in_toInt _ : in32 (zand x y)), fun u hu => h7 u (List.mem_cons_of_mem _ (List.mem_cons_of_mem _ hu))⟩) h8
  simp only [List.map_cons, cv, zand, n_of] at k
  exact lv_iand h2.1 h2.2.1 hd k
theorem v_ior {x y : Int} (hd : decode f.code pc = .ok (.ior, 1)) (K : V w d f (pc + 1) ls (vI (zor x y) :: st) S J Q) : V w d f pc ls (vI y :: vI x :: st) S J Q := by
  intro p l e R s m args below meth c H locs cells slots la h1 h2 h3 h4 h5 h6 h7 h8
  have k := K p l e R s m args below meth c H locs cells slots la h1 h2 h3 h4 h5 h6 (List.forall_mem_cons.mpr ⟨(in_toInt _ : in32 (zor x y)), fun u hu => h7 u (List.mem_cons_of_mem _ (List.mem_cons_of_mem _ hu))⟩) h8
  simp only [List.map_cons, cv, zor, n_of] at k
  exact lv_ior h2.1 h2.2.1 hd k
theorem v_ixor {x y : Int} (hd : decode f.code pc = .ok (.ixor, 1)) (K : V w d f (pc + 1) ls (vI (zxor x y) :: st) S J Q) : V w d f pc ls (vI y :: vI x :: st) S J Q := by
  intro p l e R s m args below meth c H locs cells slots la h1 h2 h3 h4 h5 h6 h7 h8
  have k := K p l e R s m args below meth c H locs cells slots la h1 h2 h3 h4 h5 h6 (List.forall_mem_cons.mpr ⟨(in_toInt _ : in32 (zxor x y)), fun u hu => h7 u (List.mem_cons_of_mem _ (List.mem_cons_of_mem _ hu))⟩) h8
  simp only [List.map_cons, cv, zxor, n_of] at k
  exact lv_ixor h2.1 h2.2.1 hd k
theorem v_ishl {x y : Int} (hd : decode f.code pc = .ok (.ishl, 1)) (K : V w d f (pc + 1) ls (vI (zshl x y) :: st) S J Q) : V w d f pc ls (vI y :: vI x :: st) S J Q := by
  intro p l e R s m args below meth c H locs cells slots la h1 h2 h3 h4 h5 h6 h7 h8
  have k := K p l e R s m args below meth c H locs cells slots la h1 h2 h3 h4 h5 h6 (List.forall_mem_cons.mpr ⟨(in_toInt _ : in32 (zshl x y)), fun u hu => h7 u (List.mem_cons_of_mem _ (List.mem_cons_of_mem _ hu))⟩) h8
  simp only [List.map_cons, cv, zshl, n_of] at k
  exact lv_ishl h2.1 h2.2.1 hd k
theorem v_ishr {x y : Int} (hd : decode f.code pc = .ok (.ishr, 1)) (K : V w d f (pc + 1) ls (vI (zshr x y) :: st) S J Q) : V w d f pc ls (vI y :: vI x :: st) S J Q := by
  intro p l e R s m args below meth c H locs cells slots la h1 h2 h3 h4 h5 h6 h7 h8
  have k := K p l e R s m args below meth c H locs cells slots la h1 h2 h3 h4 h5 h6 (List.forall_mem_cons.mpr ⟨(in_toInt _ : in32 (zshr x y)), fun u hu => h7 u (List.mem_cons_of_mem _ (List.mem_cons_of_mem _ hu))⟩) h8
  simp only [List.map_cons, cv, zshr, n_of] at k
  exact lv_ishr h2.1 h2.2.1 hd k
theorem v_iushr {x y : Int} (hd : decode f.code pc = .ok (.iushr, 1)) (K : V w d f (pc + 1) ls (vI (zush x y) :: st) S J Q) : V w d f pc ls (vI y :: vI x :: st) S J Q := by
  intro p l e R s m args below meth c H locs cells slots la h1 h2 h3 h4 h5 h6 h7 h8
  have k := K p l e R s m args below meth c H locs cells slots la h1 h2 h3 h4 h5 h6 (List.forall_mem_cons.mpr ⟨(in_toInt _ : in32 (zush x y)), fun u hu => h7 u (List.mem_cons_of_mem _ (List.mem_cons_of_mem _ hu))⟩) h8
  simp only [List.map_cons, cv, zush, n_of] at k
  exact lv_iushr h2.1 h2.2.1 hd rfl k
theorem v_i2b {x : Int} (hd : decode f.code pc = .ok (.i2b, 1)) (K : V w d f (pc + 1) ls (vI (zb8 x) :: st) S J Q) : V w d f pc ls (vI x :: st) S J Q := by
  intro p l e R s m args below meth c H locs cells slots la h1 h2 h3 h4 h5 h6 h7 h8
  have k := K p l e R s m args below meth c H locs cells slots la h1 h2 h3 h4 h5 h6 (List.forall_mem_cons.mpr ⟨(in_toInt _ : in32 (zb8 x)), fun u hu => h7 u (List.mem_cons_of_mem _ hu)⟩) h8
  simp only [List.map_cons, cv, zb8, n_of] at k
  exact lv_i2b h2.1 h2.2.1 hd rfl k
theorem v_i2c {x : Int} (hd : decode f.code pc = .ok (.i2c, 1)) (K : V w d f (pc + 1) ls (vI (zc16 x) :: st) S J Q) : V w d f pc ls (vI x :: st) S J Q := by
  intro p l e R s m args below meth c H locs cells slots la h1 h2 h3 h4 h5 h6 h7 h8
  have k := K p l e R s m args below meth c H locs cells slots la h1 h2 h3 h4 h5 h6 (List.forall_mem_cons.mpr ⟨(in_toInt _ : in32 (zc16 x)), fun u hu => h7 u (List.mem_cons_of_mem _ hu)⟩) h8
  simp only [List.map_cons, cv, zc16, n_of] at k
  exact lv_i2c h2.1 h2.2.1 hd rfl k
theorem v_icmp_eq {x y : Int} {off : Int} (tgt : Nat) (hd : decode f.code pc = .ok (.if_icmp .eq off, 3)) (ht : (pc : Int) + off = (tgt : Int)) (K1 : (x = y) → V w d f tgt ls st S J Q) (K2 : (¬ x = y) → V w d f (pc + 3) ls st S J Q) : V w d f pc ls (vI y :: vI x :: st) S J Q := by
  intro p l e R s m args below meth c_ H locs cells slots la h1 h2 h3 h4 h5 h6 h7 h8
  have hy : in32 y := h7 (vI y) List.mem_cons_self
  have hx : in32 x := h7 (vI x) (List.mem_cons_of_mem _ List.mem_cons_self)
  have h7' : ∀ v ∈ st, okV v := fun u hu => h7 u (List.mem_cons_of_mem _ (List.mem_cons_of_mem _ hu))
  have it := (n_eq hx hy)
  refine lv_icmp_eq h2.1 h2.2.1 hd ht (fun c => ?_) (fun c => ?_)
  · exact K1 (by first | exact it.mp c | exact fun q => c (it.mpr q)) p l e R s m args below meth c_ H locs cells slots la h1 h2 h3 h4 h5 h6 h7' h8
  · exact K2 (by first | exact it.mp c | exact fun q => c (it.mpr q) | exact it.mp (Decidable.not_not.mp c)) p l e R s m args below meth c_ H locs cells slots la h1 h2 h3 h4 h5 h6 h7' h8
theorem v_if_eq {x : Int} {off : Int} (tgt : Nat) (hd : decode f.code pc = .ok (.ifCond .eq off, 3)) (ht : (pc : Int) + off = (tgt : Int)) (K1 : (x = 0) → V w d f tgt ls st S J Q) (K2 : (¬ x = 0) → V w d f (pc + 3) ls st S J Q) : V w d f pc ls (vI x :: st) S J Q := by
  intro p l e R s m args below meth c_ H locs cells slots la h1 h2 h3 h4 h5 h6 h7 h8
  have hx : in32 x := h7 (vI x) List.mem_cons_self
  have hy : in32 0 := in_0
  have h7' : ∀ v ∈ st, okV v := fun u hu => h7 u (List.mem_cons_of_mem _ hu)
  have it := (n_eq hx hy)
  refine lv_if_eq h2.1 h2.2.1 hd ht (fun c => ?_) (fun c => ?_)
  · exact K1 (by first | exact it.mp c | exact fun q => c (it.mpr q)) p l e R s m args below meth c_ H locs cells slots la h1 h2 h3 h4 h5 h6 h7' h8
  · exact K2 (by first | exact it.mp c | exact fun q => c (it.mpr q) | exact it.mp (Decidable.not_not.mp c)) p l e R s m args below meth c_ H locs cells slots la h1 h2 h3 h4 h5 h6 h7' h8
theorem v_icmp_ne {x y : Int} {off : Int} (tgt : Nat) (hd : decode f.code pc = .ok (.if_icmp .ne off, 3)) (ht : (pc : Int) + off = (tgt : Int)) (K1 : (¬ x = y) → V w d f tgt ls st S J Q) (K2 : (x = y) → V w d f (pc + 3) ls st S J Q) : V w d f pc ls (vI y :: vI x :: st) S J Q := by
  intro p l e R s m args below meth c_ H locs cells slots la h1 h2 h3 h4 h5 h6 h7 h8
  have hy : in32 y := h7 (vI y) List.mem_cons_self
  have hx : in32 x := h7 (vI x) (List.mem_cons_of_mem _ List.mem_cons_self)
  have h7' : ∀ v ∈ st, okV v := fun u hu => h7 u (List.mem_cons_of_mem _ (List.mem_cons_of_mem _ hu))
  have it := (n_eq hx hy)
  refine lv_icmp_ne h2.1 h2.2.1 hd ht (fun c => ?_) (fun c => ?_)
  · exact K1 (by first | exact it.mp c | exact fun q => c (it.mpr q)) p l e R s m args below meth c_ H locs cells slots la h1 h2 h3 h4 h5 h6 h7' h8
  · exact K2 (by first | exact it.mp c | exact fun q => c (it.mpr q) | exact it.mp (Decidable.not_not.mp c)) p l e R s m args below meth c_ H locs cells slots la h1 h2 h3 h4 h5 h6 h7' h8
theorem v_if_ne {x : Int} {off : Int} (tgt : Nat) (hd : decode f.code pc = .ok (.ifCond .ne off, 3)) (ht : (pc : Int) + off = (tgt : Int)) (K1 : (¬ x = 0) → V w d f tgt ls st S J Q) (K2 : (x = 0) → V w d f (pc + 3) ls st S J Q) : V w d f pc ls (vI x :: st) S J Q := by
  intro p l e R s m args below meth c_ H locs cells slots la h1 h2 h3 h4 h5 h6 h7 h8
  have hx : in32 x := h7 (vI x) List.mem_cons_self
  have hy : in32 0 := in_0
  have h7' : ∀ v ∈ st, okV v := fun u hu => h7 u (List.mem_cons_of_mem _ hu)
  have it := (n_eq hx hy)
  refine lv_if_ne h2.1 h2.2.1 hd ht (fun c => ?_) (fun c => ?_)
  · exact K1 (by first | exact it.mp c | exact fun q => c (it.mpr q)) p l e R s m args below meth c_ H locs cells slots la h1 h2 h3 h4 h5 h6 h7' h8
  · exact K2 (by first | exact it.mp c | exact fun q => c (it.mpr q) | exact it.mp (Decidable.not_not.mp c)) p l e R s m args below meth c_ H locs cells slots la h1 h2 h3 h4 h5 h6 h7' h8
theorem v_icmp_lt {x y : Int} {off : Int} (tgt : Nat) (hd : decode f.code pc = .ok (.if_icmp .lt off, 3)) (ht : (pc : Int) + off = (tgt : Int)) (K1 : (x < y) → V w d f tgt ls st S J Q) (K2 : (¬ x < y) → V w d f (pc + 3) ls st S J Q) : V w d f pc ls (vI y :: vI x :: st) S J Q := by
  intro p l e R s m args below meth c_ H locs cells slots la h1 h2 h3 h4 h5 h6 h7 h8
  have hy : in32 y := h7 (vI y) List.mem_cons_self
  have hx : in32 x := h7 (vI x) (List.mem_cons_of_mem _ List.mem_cons_self)
  have h7' : ∀ v ∈ st, okV v := fun u hu => h7 u (List.mem_cons_of_mem _ (List.mem_cons_of_mem _ hu))
  have it := (n_lt hx hy)
  refine lv_icmp_lt h2.1 h2.2.1 hd ht (fun c => ?_) (fun c => ?_)
  · exact K1 (by first | exact it.mp c | exact fun q => c (it.mpr q)) p l e R s m args below meth c_ H locs cells slots la h1 h2 h3 h4 h5 h6 h7' h8
  · exact K2 (by first | exact it.mp c | exact fun q => c (it.mpr q) | exact it.mp (Decidable.not_not.mp c)) p l e R s m args below meth c_ H locs cells slots la h1 h2 h3 h4 h5 h6 h7' h8
theorem v_if_lt {x : Int} {off : Int} (tgt : Nat) (hd : decode f.code pc = .ok (.ifCond .lt off, 3)) (ht : (pc : Int) + off = (tgt : Int)) (K1 : (x < 0) → V w d f tgt ls st S J Q) (K2 : (¬ x < 0) → V w d f (pc + 3) ls st S J Q) : V w d f pc ls (vI x :: st) S J Q := by
  intro p l e R s m args below meth c_ H locs cells slots la h1 h2 h3 h4 h5 h6 h7 h8
  have hx : in32 x := h7 (vI x) List.mem_cons_self
  have hy : in32 0 := in_0
  have h7' : ∀ v ∈ st, okV v := fun u hu => h7 u (List.mem_cons_of_mem _ hu)
  have it := (n_lt hx hy)
  refine lv_if_lt h2.1 h2.2.1 hd ht (fun c => ?_) (fun c => ?_)
  · exact K1 (by first | exact it.mp c | exact fun q => c (it.mpr q)) p l e R s m args below meth c_ H locs cells slots la h1 h2 h3 h4 h5 h6 h7' h8
  · exact K2 (by first | exact it.mp c | exact fun q => c (it.mpr q) | exact it.mp (Decidable.not_not.mp c)) p l e R s m args below meth c_ H locs cells slots la h1 h2 h3 h4 h5 h6 h7' h8
theorem v_icmp_ge {x y : Int} {off : Int} (tgt : Nat) (hd : decode f.code pc = .ok (.if_icmp .ge off, 3)) (ht : (pc : Int) + off = (tgt : Int)) (K1 : (y ≤ x) → V w d f tgt ls st S J Q) (K2 : (¬ y ≤ x) → V w d f (pc + 3) ls st S J Q) : V w d f pc ls (vI y :: vI x :: st) S J Q := by
  intro p l e R s m args below meth c_ H locs cells slots la h1 h2 h3 h4 h5 h6 h7 h8
  have hy : in32 y := h7 (vI y) List.mem_cons_self
  have hx : in32 x := h7 (vI x) (List.mem_cons_of_mem _ List.mem_cons_self)
  have h7' : ∀ v ∈ st, okV v := fun u hu => h7 u (List.mem_cons_of_mem _ (List.mem_cons_of_mem _ hu))
  have it := (n_le hy hx)
  refine lv_icmp_ge h2.1 h2.2.1 hd ht (fun c => ?_) (fun c => ?_)
  · exact K1 (by first | exact it.mp c | exact fun q => c (it.mpr q)) p l e R s m args below meth c_ H locs cells slots la h1 h2 h3 h4 h5 h6 h7' h8
  · exact K2 (by first | exact it.mp c | exact fun q => c (it.mpr q) | exact it.mp (Decidable.not_not.mp c)) p l e R s m args below meth c_ H locs cells slots la h1 h2 h3 h4 h5 h6 h7' h8
theorem v_if_ge {x : Int} {off : Int} (tgt : Nat) (hd : decode f.code pc = .ok (.ifCond .ge off, 3)) (ht : (pc : Int) + off = (tgt : Int)) (K1 : (0 ≤ x) → V w d f tgt ls st S J Q) (K2 : (¬ 0 ≤ x) → V w d f (pc + 3) ls st S J Q) : V w d f pc ls (vI x :: st) S J Q := by
  intro p l e R s m args below meth c_ H locs cells slots la h1 h2 h3 h4 h5 h6 h7 h8
  have hx : in32 x := h7 (vI x) List.mem_cons_self
  have hy : in32 0 := in_0
  have h7' : ∀ v ∈ st, okV v := fun u hu => h7 u (List.mem_cons_of_mem _ hu)
  have it := (n_le hy hx)
  refine lv_if_ge h2.1 h2.2.1 hd ht (fun c => ?_) (fun c => ?_)
  · exact K1 (by first | exact it.mp c | exact fun q => c (it.mpr q)) p l e R s m args below meth c_ H locs cells slots la h1 h2 h3 h4 h5 h6 h7' h8
  · exact K2 (by first | exact it.mp c | exact fun q => c (it.mpr q) | exact it.mp (Decidable.not_not.mp c)) p l e R s m args below meth c_ H locs cells slots la h1 h2 h3 h4 h5 h6 h7' h8
theorem v_icmp_gt {x y : Int} {off : Int} (tgt : Nat) (hd : decode f.code pc = .ok (.if_icmp .gt off, 3)) (ht : (pc : Int) + off = (tgt : Int)) (K1 : (y < x) → V w d f tgt ls st S J Q) (K2 : (¬ y < x) → V w d f (pc + 3) ls st S J Q) : V w d f pc ls (vI y :: vI x :: st) S J Q := by
  intro p l e R s m args below meth c_ H locs cells slots la h1 h2 h3 h4 h5 h6 h7 h8
  have hy : in32 y := h7 (vI y) List.mem_cons_self
  have hx : in32 x := h7 (vI x) (List.mem_cons_of_mem _ List.mem_cons_self)
  have h7' : ∀ v ∈ st, okV v := fun u hu => h7 u (List.mem_cons_of_mem _ (List.mem_cons_of_mem _ hu))
  have it := (n_lt hy hx)
  refine lv_icmp_gt h2.1 h2.2.1 hd ht (fun c => ?_) (fun c => ?_)
  · exact K1 (by first | exact it.mp c | exact fun q => c (it.mpr q)) p l e R s m args below meth c_ H locs cells slots la h1 h2 h3 h4 h5 h6 h7' h8
  · exact K2 (by first | exact it.mp c | exact fun q => c (it.mpr q) | exact it.mp (Decidable.not_not.mp c)) p l e R s m args below meth c_ H locs cells slots la h1 h2 h3 h4 h5 h6 h7' h8
theorem v_if_gt {x : Int} {off : Int} (tgt : Nat) (hd : decode f.code pc = .ok (.ifCond .gt off, 3)) (ht : (pc : Int) + off = (tgt : Int)) (K1 : (0 < x) → V w d f tgt ls st S J Q) (K2 : (¬ 0 < x) → V w d f (pc + 3) ls st S J Q) : V w d f pc ls (vI x :: st) S J Q := by
  intro p l e R s m args below meth c_ H locs cells slots la h1 h2 h3 h4 h5 h6 h7 h8
  have hx : in32 x := h7 (vI x) List.mem_cons_self
  have hy : in32 0 := in_0
  have h7' : ∀ v ∈ st, okV v := fun u hu => h7 u (List.mem_cons_of_mem _ hu)
  have it := (n_lt hy hx)
  refine lv_if_gt h2.1 h2.2.1 hd ht (fun c => ?_) (fun c => ?_)
  · exact K1 (by first | exact it.mp c | exact fun q => c (it.mpr q)) p l e R s m args below meth c_ H locs cells slots la h1 h2 h3 h4 h5 h6 h7' h8
  · exact K2 (by first | exact it.mp c | exact fun q => c (it.mpr q) | exact it.mp (Decidable.not_not.mp c)) p l e R s m args below meth c_ H locs cells slots la h1 h2 h3 h4 h5 h6 h7' h8
theorem v_icmp_le {x y : Int} {off : Int} (tgt : Nat) (hd : decode f.code pc = .ok (.if_icmp .le off, 3)) (ht : (pc : Int) + off = (tgt : Int)) (K1 : (x ≤ y) → V w d f tgt ls st S J Q) (K2 : (¬ x ≤ y) → V w d f (pc + 3) ls st S J Q) : V w d f pc ls (vI y :: vI x :: st) S J Q := by
  intro p l e R s m args below meth c_ H locs cells slots la h1 h2 h3 h4 h5 h6 h7 h8
  have hy : in32 y := h7 (vI y) List.mem_cons_self
  have hx : in32 x := h7 (vI x) (List.mem_cons_of_mem _ List.mem_cons_self)
  have h7' : ∀ v ∈ st, okV v := fun u hu => h7 u (List.mem_cons_of_mem _ (List.mem_cons_of_mem _ hu))
  have it := (n_le hx hy)
  refine lv_icmp_le h2.1 h2.2.1 hd ht (fun c => ?_) (fun c => ?_)
  · exact K1 (by first | exact it.mp c | exact fun q => c (it.mpr q)) p l e R s m args below meth c_ H locs cells slots la h1 h2 h3 h4 h5 h6 h7' h8
  · exact K2 (by first | exact it.mp c | exact fun q => c (it.mpr q) | exact it.mp (Decidable.not_not.mp c)) p l e R s m args below meth c_ H locs cells slots la h1 h2 h3 h4 h5 h6 h7' h8
theorem v_if_le {x : Int} {off : Int} (tgt : Nat) (hd : decode f.code pc = .ok (.ifCond .le off, 3)) (ht : (pc : Int) + off = (tgt : Int)) (K1 : (x ≤ 0) → V w d f tgt ls st S J Q) (K2 : (¬ x ≤ 0) → V w d f (pc + 3) ls st S J Q) : V w d f pc ls (vI x :: st) S J Q := by
  intro p l e R s m args below meth c_ H locs cells slots la h1 h2 h3 h4 h5 h6 h7 h8
  have hx : in32 x := h7 (vI x) List.mem_cons_self
  have hy : in32 0 := in_0
  have h7' : ∀ v ∈ st, okV v := fun u hu => h7 u (List.mem_cons_of_mem _ hu)
  have it := (n_le hx hy)
  refine lv_if_le h2.1 h2.2.1 hd ht (fun c => ?_) (fun c => ?_)
  · exact K1 (by first | exact it.mp c | exact fun q => c (it.mpr q)) p l e R s m args below meth c_ H locs cells slots la h1 h2 h3 h4 h5 h6 h7' h8
  · exact K2 (by first | exact it.mp c | exact fun q => c (it.mpr q) | exact it.mp (Decidable.not_not.mp c)) p l e R s m args below meth c_ H locs cells slots la h1 h2 h3 h4 h5 h6 h7' h8
theorem v_goto {off : Int} (tgt : Nat) (hd : decode f.code pc = .ok (.goto off, 3)) (ht : (pc : Int) + off = (tgt : Int)) (K : V w d f tgt ls st S J Q) : V w d f pc ls st S J Q := by
  intro p l e R s m args below meth c H locs cells slots la h1 h2 h3 h4 h5 h6 h7 h8
  exact lv_goto h2.1 h2.2.1 hd ht (K p l e R s m args below meth c H locs cells slots la h1 h2 h3 h4 h5 h6 h7 h8)
theorem v_ifnull {x : Option Nat} {off : Int} (tgt : Nat) (hd : decode f.code pc = .ok (.ifnull off, 3)) (ht : (pc : Int) + off = (tgt : Int)) (K1 : x = none → V w d f tgt ls st S J Q) (K2 : ¬ x = none → V w d f (pc + 3) ls st S J Q) : V w d f pc ls (vO x :: st) S J Q := by
  intro p l e R s m args below meth c H locs cells slots la h1 h2 h3 h4 h5 h6 h7 h8
  have h7' : ∀ v ∈ st, okV v := fun u hu => h7 u (List.mem_cons_of_mem _ hu)
  cases x with
  | none => exact lv_ifnullN h2.1 h2.2.1 hd ht (K1 rfl p l e R s m args below meth c H locs cells slots la h1 h2 h3 h4 h5 h6 h7' h8)
  | some a => exact lv_ifnull h2.1 h2.2.1 hd (K2 (fun q => by cases q) p l e R s m args below meth c H locs cells slots la h1 h2 h3 h4 h5 h6 h7' h8)
theorem v_ifnonnull {x : Option Nat} {off : Int} (tgt : Nat) (hd : decode f.code pc = .ok (.ifnonnull off, 3)) (ht : (pc : Int) + off = (tgt : Int)) (K1 : ¬ x = none → V w d f tgt ls st S J Q) (K2 : x = none → V w d f (pc + 3) ls st S J Q) : V w d f pc ls (vO x :: st) S J Q := by
  intro p l e R s m args below meth c H locs cells slots la h1 h2 h3 h4 h5 h6 h7 h8
  have h7' : ∀ v ∈ st, okV v := fun u hu => h7 u (List.mem_cons_of_mem _ hu)
  cases x with
  | none => exact lv_ifnonnullN h2.1 h2.2.1 hd (K2 rfl p l e R s m args below meth c H locs cells slots la h1 h2 h3 h4 h5 h6 h7' h8)
  | some a => exact lv_ifnonnull h2.1 h2.2.1 hd ht (K1 (fun q => by cases q) p l e R s m args below meth c H locs cells slots la h1 h2 h3 h4 h5 h6 h7' h8)
end RulesA
