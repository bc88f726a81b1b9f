/-! pure rows: labels of connected parts -/
/-- whatever is alike along E is alike at a and b: a and b are of one part -/
def Conn (E : Nat → Nat → Prop) (a b : Nat) : Prop := ∀ f : Nat → Nat, (∀ x y, E x y → f x = f y) → f a = f b
theorem Conn.rfl' {E : Nat → Nat → Prop} {a : Nat} : Conn E a a := fun _ _ => rfl
theorem Conn.symm {E : Nat → Nat → Prop} {a b : Nat} (h : Conn E a b) : Conn E b a := fun f hf => (h f hf).symm
theorem Conn.trans {E : Nat → Nat → Prop} {a b c : Nat} (h : Conn E a b) (h2 : Conn E b c) : Conn E a c := fun f hf => (h f hf).trans (h2 f hf)
theorem Conn.edge {E : Nat → Nat → Prop} {a b : Nat} (h : E a b) : Conn E a b := fun _ hf => hf a b h
/-- each of 40 is labelled by one of its part, none greater than itself; along E labels are alike -/
def IsLab (E : Nat → Nat → Prop) (L : Nat → Nat) : Prop := (∀ a b, E a b → L a = L b) ∧ (∀ s, s < 40 → Conn E (L s) s) ∧ (∀ s, s < 40 → L s ≤ s)
theorem IsLab.uniq {E : Nat → Nat → Prop} {L L' : Nat → Nat} (h : IsLab E L) (h' : IsLab E L') {s : Nat} (hs : s < 40) : L s = L' s := by
  have h1 : L (L' s) = L s := h'.2.1 s hs L h.1
  have h2 : L' (L s) = L' s := h.2.1 s hs L' h'.1
  have h3 := h.2.2 (L' s) (Nat.lt_of_le_of_lt (h'.2.2 s hs) hs)
  have h4 := h'.2.2 (L s) (Nat.lt_of_le_of_lt (h.2.2 s hs) hs)
  omega
noncomputable def labOf (E : Nat → Nat → Prop) : Nat → Nat := Classical.epsilon (fun L => IsLab E L)
theorem labOf_eq {E : Nat → Nat → Prop} {L : Nat → Nat} (h : IsLab E L) {s : Nat} (hs : s < 40) : L s = labOf E s := h.uniq (Classical.epsilon_spec (p := fun L => IsLab E L) ⟨L, h⟩) hs
/-- a state of the labels on the way: F: the edges done so far -/
def LabW (E F : Nat → Nat → Prop) (L : Nat → Nat) : Prop := (∀ a b, F a b → L a = L b) ∧ (∀ s, s < 40 → Conn E (L s) s) ∧ (∀ s, s < 40 → L s ≤ s)
theorem LabW.start (E : Nat → Nat → Prop) : LabW E (fun _ _ => False) (fun s => s) := ⟨fun _ _ h => h.elim, fun _ _ => Conn.rfl', fun _ _ => Nat.le_refl _⟩
theorem LabW.fin {E F : Nat → Nat → Prop} {L : Nat → Nat} (h : LabW E F L) (hF : ∀ a b, E a b → F a b) : IsLab E L := ⟨fun a b q => h.1 a b (hF a b q), h.2.1, h.2.2⟩
theorem LabW.weaken {E F F' : Nat → Nat → Prop} {L : Nat → Nat} (h : LabW E F L) (hF : ∀ a b, F' a b → F a b ∨ L a = L b) : LabW E F' L := ⟨fun a b q => (hF a b q).elim (h.1 a b) id, h.2⟩
/-- two are joined: all of the one's label and of the other's bear the lesser -/
def joinL (L : Nat → Nat) (p q : Nat) : Nat → Nat := fun s => if L s = p ∨ L s = q then (if p < q then p else q) else L s
theorem LabW.join {E F : Nat → Nat → Prop} {L : Nat → Nat} {a b : Nat} (h : LabW E F L) (he : E a b) (ha : a < 40) (hb : b < 40) : LabW E (fun x y => F x y ∨ (x = a ∧ y = b)) (joinL L (L a) (L b)) := by
  obtain ⟨h1, h2, h3⟩ := h
  have hc : Conn E (L a) (L b) := (h2 a ha).trans ((Conn.edge he).trans (h2 b hb).symm)
  refine ⟨fun x y q => ?_, fun s hs => ?_, fun s hs => ?_⟩
  · unfold joinL
    rcases q with q | ⟨rfl, rfl⟩
    · rw [h1 x y q]
    · simp
  · unfold joinL
    by_cases hm : L s = L a ∨ L s = L b
    · rw [if_pos hm]
      have h4 : Conn E (if L a < L b then L a else L b) (L s) := by
        rcases hm with e | e <;> split <;> rw [e] <;> first | exact Conn.rfl' | exact hc | exact hc.symm
      exact h4.trans (h2 s hs)
    · rw [if_neg hm]; exact h2 s hs
  · unfold joinL
    have := h3 s hs
    by_cases hm : L s = L a ∨ L s = L b
    · rw [if_pos hm]; split <;> omega
    · rw [if_neg hm]; exact this
