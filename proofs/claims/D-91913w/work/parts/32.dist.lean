/-! pure rows: how far along links -/
/-- b is reached from a by n steps along E -/
def RN (E : Nat → Nat → Prop) : Nat → Nat → Nat → Prop
  | 0, a, b => a = b
  | n + 1, a, b => ∃ c, RN E n a c ∧ E c b
/-- n is the least number of steps -/
def IsDst (E : Nat → Nat → Prop) (a b n : Nat) : Prop := RN E n a b ∧ ∀ m, m < n → ¬ RN E m a b
theorem IsDst.uniq {E : Nat → Nat → Prop} {a b n m : Nat} (h : IsDst E a b n) (h2 : IsDst E a b m) : n = m := by
  rcases Nat.lt_trichotomy n m with q | q | q
  · exact absurd h.1 (h2.2 n q)
  · exact q
  · exact absurd h2.1 (h.2 m q)
/-- the table f tells how far each of 40 is from a; 1000000: not reached -/
def FarOk (E : Nat → Nat → Prop) (a : Nat) (f : Nat → Int) : Prop := ∀ b, b < 40 → (∃ n : Nat, n < 40 ∧ f b = n ∧ IsDst E a b n) ∨ (f b = 1000000 ∧ ∀ n, ¬ RN E n a b)
/-- how many of the first k are reached -/
def finN (f : Nat → Int) : Nat → Nat
  | 0 => 0
  | k + 1 => finN f k + if f k < 1000000 then 1 else 0
theorem finN_le (f : Nat → Int) : ∀ k, finN f k ≤ k
  | 0 => Nat.le_refl _
  | k + 1 => by
    have := finN_le f k
    unfold finN
    split <;> omega
/-- on the way: what is told is reached by so many steps; none is farther than there are others -/
def FarW (E : Nat → Nat → Prop) (a : Nat) (f : Nat → Int) : Prop := f a = 0 ∧ ∀ b, b < 40 → (f b = 1000000 ∨ ∃ n : Nat, f b = n ∧ RN E n a b ∧ n < finN f 40)
theorem finN_up {f g : Nat → Int} {u : Nat} (hu : g u < 1000000) (ho : ∀ s, s ≠ u → g s = f s) : ∀ k, (k ≤ u → finN g k = finN f k) ∧ (u < k → finN g k = finN f k + if f u < 1000000 then 0 else 1)
  | 0 => ⟨fun _ => rfl, fun h => absurd h (by omega)⟩
  | k + 1 => by
    have ih := finN_up hu ho k
    refine ⟨fun h => ?_, fun h => ?_⟩
    · unfold finN
      rw [ih.1 (by omega), ho k (by omega)]
    · unfold finN
      rcases Nat.lt_or_ge u k with q | q
      · rw [ih.2 q, ho k (by omega)]
        omega
      · obtain rfl : u = k := by omega
        rw [ih.1 (Nat.le_refl _), if_pos hu]
        split <;> omega
theorem FarW.step {E : Nat → Nat → Prop} {a u v : Nat} {f : Nat → Int} (h : FarW E a f) (hu : u < 40) (hv : v < 40) (he : E u v) (hlt : f u + 1 < f v) : FarW E a (fun s => if s = v then f u + 1 else f s) := by
  obtain ⟨h0, h1⟩ := h
  have hfu := h1 u hu
  have hfv := h1 v hv
  obtain ⟨n, en, rn, ln⟩ : ∃ n : Nat, f u = n ∧ RN E n a u ∧ n < finN f 40 := by
    rcases hfu with q | q
    · rcases hfv with q2 | ⟨m, q2, -, q3⟩
      · omega
      · have := finN_le f 40
        omega
    · exact q
  have hle := finN_le f 40
  have hup := (finN_up (f := f) (g := fun s => if s = v then f u + 1 else f s) (u := v) (by rw [if_pos rfl]; omega) (fun s hs => if_neg hs) 40).2 hv
  have hva : a ≠ v := fun e => by
    rw [← e, h0] at hlt
    omega
  refine ⟨(if_neg hva).trans h0, fun b hb => ?_⟩
  by_cases hbv : b = v
  · subst hbv
    refine Or.inr ⟨n + 1, (if_pos rfl).trans (by rw [en]; omega), ⟨u, rn, he⟩, ?_⟩
    rw [hup]
    rcases hfv with q | ⟨m, q, -, q3⟩
    · rw [if_neg (by omega)]; omega
    · rw [if_pos (by omega)]; omega
  · rcases h1 b hb with q | ⟨m, q1, q2, q3⟩
    · exact Or.inl ((if_neg hbv).trans q)
    · refine Or.inr ⟨m, (if_neg hbv).trans q1, q2, ?_⟩
      rw [hup]
      omega
theorem FarW.fin {E : Nat → Nat → Prop} {a : Nat} {f : Nat → Int} (h : FarW E a f) (hE : ∀ u v, E u v → u < 40 ∧ v < 40) (ha : a < 40) (hx : ∀ u v, E u v → f v ≤ f u + 1) : FarOk E a f := by
  obtain ⟨h0, h1⟩ := h
  have hle := finN_le f 40
  have hr : ∀ n b, RN E n a b → f b ≤ n ∧ b < 40 := by
    intro n
    induction n with
    | zero =>
      rintro b rfl
      exact ⟨by rw [h0]; exact Int.le_refl _, ha⟩
    | succ n ih =>
      rintro b ⟨c, hc, he⟩
      have i1 := ih c hc
      have i2 := hx c b he
      exact ⟨by push_cast; omega, (hE c b he).2⟩
  -- what is reached has been told
  have hfin : ∀ n b, RN E n a b → f b < 1000000 := by
    intro n
    induction n with
    | zero =>
      rintro b rfl
      rw [h0]
      omega
    | succ n ih =>
      rintro b ⟨c, hc, he⟩
      have i1 := ih c hc
      have i2 := hx c b he
      rcases h1 c (hE c b he).1 with q | ⟨m, q, -, q3⟩ <;> omega
  intro b hb
  rcases h1 b hb with q | ⟨n, q1, q2, q3⟩
  · exact Or.inr ⟨q, fun n hn => by have := hfin n b hn; omega⟩
  · refine Or.inl ⟨n, by omega, q1, q2, fun m hm hr2 => ?_⟩
    have := (hr m b hr2).1
    omega
