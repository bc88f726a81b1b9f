/-! small helpers for the printed blocks -/
theorem one_nil : ∀ v ∈ ([] : List AV), oneV v := fun v h => by cases h
theorem one_I {z : Int} {r : List AV} (h : ∀ v ∈ r, oneV v) : ∀ v ∈ vI z :: r, oneV v := List.forall_mem_cons.mpr ⟨trivial, h⟩
theorem one_O {z : Option Nat} {r : List AV} (h : ∀ v ∈ r, oneV v) : ∀ v ∈ vO z :: r, oneV v := List.forall_mem_cons.mpr ⟨trivial, h⟩
def fgt (a b : List (Option AV)) : Prop := a.length = b.length ∧ ∀ (i : Nat) (v : AV), b[i]? = some (some v) → a[i]? = some (some v)
theorem fg_nil : fgt [] [] := ⟨rfl, fun _ _ h => h⟩
theorem fg_none {x : Option AV} {a b : List (Option AV)} (h : fgt a b) : fgt (x :: a) (none :: b) := by
  refine ⟨by rw [List.length_cons, List.length_cons, h.1], fun i v hi => ?_⟩
  cases i with
  | zero => cases hi
  | succ i => exact h.2 i v hi
theorem fg_some {x : AV} {a b : List (Option AV)} (h : fgt a b) : fgt (some x :: a) (some x :: b) := by
  refine ⟨by rw [List.length_cons, List.length_cons, h.1], fun i v hi => ?_⟩
  cases i with
  | zero => exact hi
  | succ i => exact h.2 i v hi
theorem v_forget {w : Wd} {d : Nat} {f : MI} {pc : Nat} {ls ls' : List (Option AV)} {st : List AV} {S : Sh} {J : Jm} {Q : Out → Sh → Jm → Prop} (h : fgt ls ls') (K : V w d f pc ls' st S J Q) : V w d f pc ls st S J Q := by
  intro p l e R s m args below meth c H locs cells slots la h1 h2 h3 h4 h5 h6 h7 h8
  exact K p l e R s m args below meth c H locs cells slots la h1 h2 h3 h4 ⟨by rw [← h.1]; exact h5.1, h5.2.1, fun i v hi => h5.2.2 i v (h.2 i v hi)⟩ (by rw [← h.1]; exact h6) h7 h8
theorem zfit_b8 (x : Int) : zfit .byte (zb8 x) := by
  unfold zfit zb8
  rw [n_of]
  exact ⟨pk_nb _, pk_fb _⟩
theorem in_lit {z : Int} (h : -2147483648 ≤ z ∧ z ≤ 2147483647) : in32 z := h
/-- a branch, and an implication, of a printed condition -/
def Br (c A B : Prop) : Prop := (c → A) ∧ (¬ c → B)
theorem br_i {c A B : Prop} (h1 : c → A) (h2 : ¬ c → B) : Br c A B := ⟨h1, h2⟩
theorem br_y {c A B : Prop} (h : c) (h1 : A) : Br c A B := ⟨fun _ => h1, fun q => absurd h q⟩
theorem br_n {c A B : Prop} (h : ¬ c) (h1 : B) : Br c A B := ⟨fun q => absurd q h, fun _ => h1⟩
def Im (c A : Prop) : Prop := c → A
theorem im_i {c A : Prop} (h : c → A) : Im c A := h
