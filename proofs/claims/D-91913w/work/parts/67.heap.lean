/-! the memory grows: what was there stays -/
set_option maxRecDepth 100000
/-- S' has all cells of S, with their tags and lengths -/
def Ex (S S' : Sh) : Prop := S.n ≤ S'.n ∧ S.sl ≤ S'.sl ∧ ∀ a, a < S.n → S'.tg a = S.tg a ∧ S'.ln a = S.ln a
theorem Ex.rfl' {S : Sh} : Ex S S := ⟨Nat.le_refl _, Nat.le_refl _, fun _ _ => ⟨rfl, rfl⟩⟩
theorem Ex.trans {S S1 S2 : Sh} (h : Ex S S1) (h2 : Ex S1 S2) : Ex S S2 := ⟨Nat.le_trans h.1 h2.1, Nat.le_trans h.2.1 h2.2.1, fun a ha => by
  have q1 := h.2.2 a ha
  have q2 := h2.2.2 a (Nat.lt_of_lt_of_le ha h.1)
  exact ⟨q2.1.trans q1.1, q2.2.trans q1.2⟩⟩
theorem Ex.al {S : Sh} {t len sz : Nat} : Ex S (alS S t len sz) := ⟨Nat.le_succ _, Nat.le_add_right _ _, fun a ha => ⟨alS_tg_ne (by omega), alS_ln_ne (by omega)⟩⟩
theorem Ex.up {S : Sh} {a k : Nat} {r : Option Nat} : Ex S (upR S a k r) := ⟨Nat.le_refl _, Nat.le_refl _, fun _ _ => ⟨rfl, rfl⟩⟩
abbrev Shp (S : Sh) : Prop := ∀ a, S.n ≤ a → S.tg a = 0
theorem Shp.lt {S : Sh} (h : Shp S) {a t : Nat} (e : S.tg a = t) (ht : t ≠ 0) : a < S.n := Classical.byContradiction fun q => ht (e.symm.trans (h a (by omega)))
theorem Ex.tg {S S' : Sh} (h : Ex S S') (hs : Shp S) {a t : Nat} (e : S.tg a = t) (ht : t ≠ 0) : S'.tg a = t := (h.2.2 a (hs.lt e ht)).1.trans e
theorem Ex.ln {S S' : Sh} (h : Ex S S') (hs : Shp S) {a t : Nat} (e : S.tg a = t) (ht : t ≠ 0) : S'.ln a = S.ln a := (h.2.2 a (hs.lt e ht)).2
theorem v_shp {w : Wd} {d : Nat} {f : MI} {pc : Nat} {ls : List (Option AV)} {st : List AV} {S : Sh} {J : Jm} {Q : Out → Sh → Jm → Prop} (K : Shp S → V w d f pc ls st S J Q) : V w d f pc ls st S J Q := v_shape (fun h _ _ _ => K h)
theorem upR_self {S : Sh} {a k : Nat} {r : Option Nat} : (upR S a k r).rf a k = r := if_pos ⟨rfl, rfl⟩
theorem upR_ne {S : Sh} {a k b j : Nat} {r : Option Nat} (h : ¬ (b = a ∧ j = k)) : (upR S a k r).rf b j = S.rf b j := if_neg h
theorem upR_na {S : Sh} {a k b j : Nat} {r : Option Nat} (h : b ≠ a) : (upR S a k r).rf b j = S.rf b j := if_neg (fun q => h q.1)
theorem upR_nk {S : Sh} {a k b j : Nat} {r : Option Nat} (h : j ≠ k) : (upR S a k r).rf b j = S.rf b j := if_neg (fun q => h q.2)
/-- the memory behind a call that may make cells: at most c of them, of s slots -/
def Nx (c s : Nat) (S S' : Sh) : Prop := Lay S' ∧ Ex S S' ∧ S'.n ≤ S.n + c ∧ S'.sl ≤ S.sl + s
theorem Nx.same {S : Sh} (h : Lay S) {c s : Nat} : Nx c s S S := ⟨h, Ex.rfl', Nat.le_add_right _ _, Nat.le_add_right _ _⟩
theorem Nx.trans {c s c2 s2 c3 s3 : Nat} {S S1 S2 : Sh} (h : Nx c s S S1) (h2 : Nx c2 s2 S1 S2) (hc : c + c2 ≤ c3) (hs : s + s2 ≤ s3) : Nx c3 s3 S S2 := ⟨h2.1, h.2.1.trans h2.2.1, by have := h.2.2.1; have := h2.2.2.1; omega, by have := h.2.2.2; have := h2.2.2.2; omega⟩
theorem Nx.mono {c s c3 s3 : Nat} {S S1 : Sh} (h : Nx c s S S1) (hc : c ≤ c3) (hs : s ≤ s3) : Nx c3 s3 S S1 := ⟨h.1, h.2.1, by have := h.2.2.1; omega, by have := h.2.2.2; omega⟩
/-- tags of cells whose references are fixed -/
def badT (t : Nat) : Bool := decide (t ∈ [1, 2, 3, 4, 5, 36, 38])
theorem lay_tg {S : Sh} {a k t : Nat} {r : Option Nat} (h : Lay S) (ht : S.tg a = t) (hb : badT t = false) : Lay (upR S a k r) := by
  have key : ∀ q ∈ layR, ∃ x ∈ layT, x.1 = q.1 ∧ badT x.2.1 = true := by decide +kernel
  refine lay_up h (fun q hq e => ?_) (fun e => ?_) (fun e => ?_)
  · obtain ⟨x, hx, h1, h2⟩ := key q hq
    have := (h.2.1 x hx).1
    rw [h1, e.1, ht] at this
    rw [this, h2] at hb
    cases hb
  · have := (L_87 h).1
    rw [← e, ht] at this
    rw [this] at hb
    cases hb
  · have := (L_291 h).1
    rw [← e, ht] at this
    rw [this] at hb
    cases hb
theorem lay_set {S : Sh} (h : Lay S) : ∀ (i : Nat), i < 7 → S.tg (292 + 2 * i) = 4 ∧ S.rf (292 + 2 * i) 0 = some (293 + 2 * i) ∧ S.rf (292 + 2 * i) 5 = some 64 ∧ S.tg (293 + 2 * i) = 32 ∧ S.ln (293 + 2 * i) = 8
  | 0, _ => ⟨(L_292 h).1, LR_292_0 h, LR_292_5 h, (L_293 h).1, (L_293 h).2⟩
  | 1, _ => ⟨(L_294 h).1, LR_294_0 h, LR_294_5 h, (L_295 h).1, (L_295 h).2⟩
  | 2, _ => ⟨(L_296 h).1, LR_296_0 h, LR_296_5 h, (L_297 h).1, (L_297 h).2⟩
  | 3, _ => ⟨(L_298 h).1, LR_298_0 h, LR_298_5 h, (L_299 h).1, (L_299 h).2⟩
  | 4, _ => ⟨(L_300 h).1, LR_300_0 h, LR_300_5 h, (L_301 h).1, (L_301 h).2⟩
  | 5, _ => ⟨(L_302 h).1, LR_302_0 h, LR_302_5 h, (L_303 h).1, (L_303 h).2⟩
  | 6, _ => ⟨(L_304 h).1, LR_304_0 h, LR_304_5 h, (L_305 h).1, (L_305 h).2⟩
  | i + 7, hi => absurd hi (by omega)
theorem nci {a b : Nat} (h : a = b) : (a : Int) = (b : Int) := by rw [h]
