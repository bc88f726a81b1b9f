/-! the model: links counted; pairs asked -/
set_option maxRecDepth 100000

noncomputable def b1 (P : Prop) : Nat := @ite Nat P (Classical.propDecidable P) 1 0
theorem b1_y {P : Prop} (h : P) : b1 P = 1 := if_pos h
theorem b1_n {P : Prop} (h : ¬ P) : b1 P = 0 := if_neg h
/-- how many links among the first k pairs of signs -/
noncomputable def lkN (J : Jm) (known : Int) (o : Nat) : Nat → Nat
  | 0 => 0
  | k + 1 => lkN J known o k + b1 (LK J known o (k / 40) (k % 40) ∧ k / 40 < k % 40)
theorem lkN_le (J : Jm) (known : Int) (o : Nat) : ∀ k, lkN J known o k ≤ k
  | 0 => Nat.le_refl _
  | k + 1 => by
    have := lkN_le J known o k
    have : b1 (LK J known o (k / 40) (k % 40) ∧ k / 40 < k % 40) ≤ 1 := by
      unfold b1
      split <;> omega
    show lkN J known o k + _ ≤ k + 1
    omega
noncomputable def rLinks (J : Jm) (o known : Int) : Int := if (0 ≤ o ∧ o ≤ 1) ∧ kno J known then ((lkN J known o.toNat 1600 : Nat) : Int) else -1
theorem m_links {w : Wd} {S : Sh} {J : Jm} {Q : Out → Sh → Jm → Prop} (hL : Lay S) (o known : Int) (hH : MHeld J) (hT : MTab J) (hX : MTxt J) (hS : MShr J) (K : ∀ J', Kp J J' → Q (.inl (some (vI (rLinks J o known)))) S J') : V w 4 mX5_links 0 (ent mX5_links [vR 313, vI o, vI known]) [] S J Q := by
  have e : (up J 313 0 0) 313 1 = J 313 1 := up_nk (by decide)
  have hm := (k0 J).mp
  have no : ¬ ((0 ≤ o ∧ o ≤ 1) ∧ kno J known) → Q (.inl (some (vI (-1)))) S (up J 313 0 0) := by
    intro q
    have := K _ (k0 J)
    unfold rLinks at this
    rw [if_neg q] at this
    exact this
  refine gX5_links_0 hL o known ?_
  rw [e]
  refine br_i (fun h0 => br_i (fun h2 => ⟨hH.mp hm, hT.mp hm, hX.mp hm, hS.mp hm, fun J1 hp => ?_⟩) (fun h2 => no (fun q => h2 q.2))) (fun h0 => no (fun q => h0 q.1))
  obtain ⟨p1, p2, p3, p4, p5, p6⟩ := hp.mp hT hX hm
  obtain ⟨o', rfl⟩ : ∃ n : Nat, o = n := ⟨o.toNat, by omega⟩
  have fin := K J1 ((k0 J).trans p1.kp)
  unfold rLinks at fin
  rw [if_pos ⟨h0, h2⟩, Int.toNat_natCast] at fin
  have key : ∀ (n k : Nat), k + n = 1600 → V w 4 mX5_links 34 [some (vR 313), some (vI (o' : Int)), none, some (vI ((lkN J known o' k : Nat) : Int)), some (vI (k : Int))] [] S J1 Q := by
    intro n
    induction n with
    | zero =>
      intro k hk
      obtain rfl : k = 1600 := by omega
      exact gX5_links_34 (J := J1) hL o' _ 1600 (br_y (by omega) fin)
    | succ n ih =>
      intro k hk
      have hle := lkN_le J known o' k
      have hb := p4 o' (k / 40) (k % 40) (by omega) (by omega) (by omega)
      rw [show 1600 * o' + 40 * (k / 40) + k % 40 = 1600 * o' + k by omega] at hb
      have ih1 := ih (k + 1) (by omega)
      have es : lkN J known o' (k + 1) = lkN J known o' k + b1 (LK J known o' (k / 40) (k % 40) ∧ k / 40 < k % 40) := rfl
      rw [es] at ih1
      refine gX5_links_34 (J := J1) hL o' _ k (br_n (by omega) ?_)
      repeat' (first | (refine And.intro ?_ ?_; omega))
      rw [show (1600 * (o' : Int) + (k : Int)).toNat = 1600 * o' + k by omega]
      refine br_i (fun c => ⟨by omega, ?_⟩) (fun c => br_i (fun c2 => ⟨by omega, ?_⟩) (fun c2 => ⟨by omega, by omega, ?_⟩))
      · rw [b1_n (fun q => hb.zero.mp c q.1)] at ih1
        exact ih1
      · rw [b1_n (fun q => by omega)] at ih1
        exact ih1
      · rw [b1_y ⟨Classical.byContradiction (fun q => c (hb.zero.mpr q)), by omega⟩] at ih1
        exact ih1
  exact key 1600 0 (by omega)
