/-! the model: findLinks -/
set_option maxRecDepth 100000

theorem lab_ex (E : Nat → Nat → Prop) : ∃ L, IsLab E L := by
  have h : ∀ s, ∃ k, Conn E k s ∧ ∀ j, j < k → ¬ Conn E j s := fun s => pk_least (fun k => Conn E k s) ⟨s, Conn.rfl'⟩
  refine ⟨fun s => Classical.choose (h s), fun a b e => ?_, fun s _ => (Classical.choose_spec (h s)).1, fun s _ => ?_⟩
  · have ha := Classical.choose_spec (h a)
    have hb := Classical.choose_spec (h b)
    have h1 : ¬ Classical.choose (h a) < Classical.choose (h b) := fun q => hb.2 _ q (ha.1.trans (Conn.edge e))
    have h2 : ¬ Classical.choose (h b) < Classical.choose (h a) := fun q => ha.2 _ q (hb.1.trans (Conn.edge e).symm)
    exact Nat.le_antisymm (Nat.not_lt.mp h2) (Nat.not_lt.mp h1)
  · exact Nat.not_lt.mp (fun q => (Classical.choose_spec (h s)).2 s q Conn.rfl')
theorem lab40 (E : Nat → Nat → Prop) {s : Nat} (hs : s < 40) : labOf E s < 40 := labOf_in E (lab_ex E) hs
/-- the texts of rules; the shares -/
def MTxt (J : Jm) : Prop := (0 ≤ J 313 8 ∧ J 313 8 ≤ 10) ∧ ∀ t : Nat, (t : Int) < J 313 8 → (0 ≤ J 320 t ∧ J 320 t ≤ 12) ∧ ∀ c : Nat, (c : Int) < J 320 t → (0 ≤ J 321 (12 * t + c) ∧ J 321 (12 * t + c) ≤ 3) ∧ (J 321 (12 * t + c) < 2 → (0 ≤ J 322 (12 * t + c) ∧ J 322 (12 * t + c) ≤ 7) ∧ (2 ≤ J 323 (12 * t + c) ∧ J 323 (12 * t + c) ≤ 6) ∧ 1 ≤ J 324 (12 * t + c) ∧ J 324 (12 * t + c) ≤ 99) ∧ (2 ≤ J 321 (12 * t + c) → 97 ≤ J 322 (12 * t + c) ∧ J 322 (12 * t + c) ≤ 122) ∧ (J 321 (12 * t + c) = 2 → 97 ≤ J 323 (12 * t + c) ∧ J 323 (12 * t + c) ≤ 122)
def MShr (J : Jm) : Prop := (0 ≤ J 313 32 ∧ J 313 32 ≤ 60) ∧ ∀ k : Nat, (k : Int) < J 313 32 → (0 ≤ J 333 k ∧ J 333 k ≤ 1) ∧ (0 ≤ J 334 k ∧ J 334 k < 40) ∧ (0 ≤ J 335 k ∧ J 335 k < 40) ∧ (J 336 k = 0 ∨ J 336 k = 1)
/-- how a sign of a share stands -/
noncomputable def shA (J : Jm) (known : Int) (k : Nat) : Nat := labOf (EH J known) (J 334 k).toNat
noncomputable def shB (J : Jm) (known : Int) (k : Nat) : Nat := labOf (EH J known) (J 335 k).toNat
/-- linked by one of the first C clauses of a text; by one of the first K shares of a kind -/
def CLk (J : Jm) (L : List (List Int)) (t o u v C : Nat) : Prop := ∃ c : Nat, c < C ∧ J 321 (12 * t + c) = o ∧ J 324 (12 * t + c) ≤ (cntP u v (tpOf J (12 * t + c) L) : Nat)
def SHk (J : Jm) (known is : Int) (o u v K : Nat) : Prop := ∃ k : Nat, k < K ∧ (J 337 k ≤ known ∧ known < J 338 k) ∧ J 333 k = o ∧ J 336 k = is ∧ shA J known k ≠ shB J known k ∧ ((u = shA J known k ∧ v = shB J known k) ∨ (u = shB J known k ∧ v = shA J known k))
def LKc (J : Jm) (known : Int) (o u v : Nat) : Prop := ¬ rbOf J known = -1 ∧ CLk J (WH J known) (rbOf J known).toNat o u v (J 320 (rbOf J known).toNat).toNat
/-- linked; parted -/
def LK (J : Jm) (known : Int) (o u v : Nat) : Prop := LKc J known o u v ∨ SHk J known 1 o u v (J 313 32).toNat
def PT (J : Jm) (known : Int) (o u v : Nat) : Prop := SHk J known 0 o u v (J 313 32).toNat
theorem tpOf_mp {J J' : Jm} (h : Mp J J') {c : Nat} (hc : c < 120) (L : List (List Int)) : tpOf J' c L = tpOf J c L := by
  have e1 : J' 323 c = J 323 c := h _ _ (by unfold mper scr; simp; omega)
  have e2 : J' 322 c = J 322 c := h _ _ (by unfold mper scr; simp; omega)
  have h1 : ∀ ρ a b, tp1 J' c ρ a b = tp1 J c ρ a b := by
    intro ρ a b
    have ht : tls J' c (ρ a) (ρ b) = tls J c (ρ a) (ρ b) := tls_fr e1 e2 _ _
    unfold tp1
    by_cases h9 : tls J c (ρ a) (ρ b)
    · rw [if_pos h9, if_pos (by rw [ht]; exact h9)]
    · rw [if_neg h9, if_neg (by rw [ht]; exact h9)]
  have h2 : ∀ ρ a m, tpI J' c ρ a m = tpI J c ρ a m := by
    intro ρ a m
    induction m with
    | zero => rfl
    | succ m ih => show tpI J' c ρ a m ++ tp1 J' c ρ a (a + 1 + m) = _; rw [ih, h1]; rfl
  have h3 : ∀ ρ n a, tpO J' c ρ n a = tpO J c ρ n a := by
    intro ρ n a
    induction a with
    | zero => rfl
    | succ a ih => show tpO J' c ρ n a ++ tpI J' c ρ a (n - (a + 1)) = _; rw [ih, h2]; rfl
  exact h3 _ _ _
theorem CLk_sym {J : Jm} {L : List (List Int)} {t o u v C : Nat} (h : CLk J L t o u v C) : CLk J L t o v u C := by
  obtain ⟨c, h1, h2, h3⟩ := h
  exact ⟨c, h1, h2, by rw [cntP_comm]; exact h3⟩
theorem SHk_sym {J : Jm} {known is : Int} {o u v K : Nat} (h : SHk J known is o u v K) : SHk J known is o v u K := by
  obtain ⟨k, h1, h2, h3, h4, h5, h6⟩ := h
  exact ⟨k, h1, h2, h3, h4, h5, by omega⟩
theorem LK_sym {J : Jm} {known : Int} {o u v : Nat} (h : LK J known o u v) : LK J known o v u := by
  rcases h with h | h
  · exact Or.inl ⟨h.1, CLk_sym h.2⟩
  · exact Or.inr (SHk_sym h)
/-- the cells that findLinks may write -/
def lkS (a k : Nat) : Bool := decide (a ∈ [332, 339, 340, 341, 342, 343, 344]) || (a == 313 && k == 39)
def FLk (J J' : Jm) : Prop := ∀ a k, lkS a k = false → J' a k = J a k
def PLk (J : Jm) (known : Int) (J' : Jm) : Prop := FLk J J' ∧ (∀ s : Nat, s < 40 → J' 332 s = (labOf (EH J known) s : Nat)) ∧ PWh J' (WH J known) ∧ (∀ o u v : Nat, o < 2 → u < 40 → v < 40 → B01 (J' 341 (1600 * o + 40 * u + v)) (LK J known o u v)) ∧ (∀ o u v : Nat, o < 2 → u < 40 → v < 40 → B01 (J' 342 (1600 * o + 40 * u + v)) (PT J known o u v)) ∧ (∀ o s : Nat, o < 2 → s < 40 → J' 343 (40 * o + s) = (labOf (fun u v => u < 40 ∧ v < 40 ∧ LK J known o u v) s : Nat))
theorem FLk.kp {J J' : Jm} (h : FLk J J') : Kp J J' := fun a k q => h a k (by
  unfold scr at q
  unfold lkS
  simp only [Bool.or_eq_false_iff, decide_eq_false_iff_not] at q ⊢
  refine ⟨fun hm => q.1.1.1.1.1.1.1.1 (by simp at hm ⊢; omega), ?_⟩
  have q2 := q.1.1.1.1.1.1.1.2
  simp only [Bool.and_eq_false_iff, beq_eq_false_iff_ne, decide_eq_false_iff_not] at q2 ⊢
  rcases q2 with q2 | q2
  · exact Or.inl q2
  · exact Or.inr (fun e => q2 (by rw [e]; decide)))
