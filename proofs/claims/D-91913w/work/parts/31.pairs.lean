/-! the model: pairs asked -/
set_option maxRecDepth 100000
theorem gX5_pairs_133 {w : Wd} {S : Sh} {J : Jm} {Q : Out → Sh → Jm → Prop} (hL : Lay S) (r : Int)
    (K : Q (.inl (some (vI r))) S J) :
    V w 3 mX5_pairs 133 [none, none, none, none, none, none] [vI r] S J Q := by
  exact v_iret dX5_pairs_133 rfl rfl K

noncomputable def rPairs (J : Jm) (c a b known : Int) : Int :=
  if (0 ≤ a ∧ a < 40) ∧ (0 ≤ b ∧ b < 40) ∧ kno J known ∧ ¬ rbOf J known = -1 ∧ (0 ≤ c ∧ c ≤ J 320 (rbOf J known).toNat - 1) then
    (if 1 < J 321 (12 * (rbOf J known).toNat + c.toNat) ∨ labOf (EH J known) a.toNat = labOf (EH J known) b.toNat then 0 else ((cntP (labOf (EH J known) a.toNat : Nat) (labOf (EH J known) b.toNat : Nat) (tpOf J (12 * (rbOf J known).toNat + c.toNat) (WH J known)) : Nat) : Int))
  else -1
theorem m_pairs {w : Wd} {S : Sh} {J : Jm} {Q : Out → Sh → Jm → Prop} (hL : Lay S) (c a b known : Int) (hH : MHeld J) (hT : MTab J) (hX : MTxt J) (K : ∀ J', Kp J J' → Q (.inl (some (vI (rPairs J c a b known)))) S J') : V w 3 mX5_pairs 0 (ent mX5_pairs [vR 313, vI c, vI a, vI b, vI known]) [] S J Q := by
  have e : (up J 313 0 0) 313 1 = J 313 1 := up_nk (by decide)
  have et : (up J 313 0 0) 313 8 = J 313 8 := up_nk (by decide)
  have hm := (k0 J).mp
  have er : rbOf (up J 313 0 0) known = rbOf J known := rbOf_mp hm known
  have hX1 := hX.1
  have no : ¬ ((0 ≤ a ∧ a < 40) ∧ (0 ≤ b ∧ b < 40) ∧ kno J known ∧ ¬ rbOf J known = -1 ∧ (0 ≤ c ∧ c ≤ J 320 (rbOf J known).toNat - 1)) → Q (.inl (some (vI (-1)))) S (up J 313 0 0) := by
    intro q
    have := K _ (k0 J)
    unfold rPairs at this
    rw [if_neg q] at this
    exact this
  refine gX5_pairs_0 hL c a b known ?_
  rw [e, et, er]
  refine br_i (fun h1 => br_i (fun h2 => br_i (fun h3 => ⟨hX.1, br_i (fun h4 => no (fun q => q.2.2.2.1 h4)) (fun h4 => ?_)⟩) (fun h3 => no (fun q => h3 q.2.2.1))) (fun h2 => no (fun q => h2 q.2.1))) (fun h1 => no (fun q => h1 q.1))
  have hin := rbN_in J known (J 313 8).toNat
  obtain ⟨T, hTe⟩ : ∃ n : Nat, rbOf J known = n := ⟨(rbOf J known).toNat, by unfold rbOf at h4 ⊢; omega⟩
  have hTt : (T : Int) < J 313 8 := by unfold rbOf at hTe; omega
  have hXT := hX.2 T hTt
  unfold rPairs at K
  rw [hTe] at K no ⊢
  simp only [Int.toNat_natCast] at K no ⊢
  repeat' (first | (refine And.intro ?_ ?_; omega))
  refine br_i (fun h5 => ⟨hH.mp hm, fun J1 hp1 => ?_⟩) (fun h5 => no (fun q => h5 q.2.2.2.2))
  have kp1 : Kp J J1 := (k0 J).trans (Kp.arr scr_stand hp1.1)
  refine ⟨hT.mp kp1.mp, fun J2 hp2 => ?_⟩
  have kp2 : Kp J J2 := kp1.trans hp2.1.kp
  obtain ⟨c', rfl⟩ : ∃ n : Nat, c = n := ⟨c.toNat, by omega⟩
  obtain ⟨a', rfl⟩ : ∃ n : Nat, a = n := ⟨a.toNat, by omega⟩
  obtain ⟨b', rfl⟩ : ∃ n : Nat, b = n := ⟨b.toNat, by omega⟩
  have hXc := hXT.2 c' (by omega)
  have st1 : ∀ s, s < 40 → J1 332 s = ((labOf (EH J known) s : Nat) : Int) := fun s hs => by rw [hp1.2 s hs, EH_mp hm known]
  have st2 : ∀ s, s < 40 → J2 332 s = ((labOf (EH J known) s : Nat) : Int) := fun s hs => by rw [hp2.1 _ _ (by decide) (by decide) (by omega)]; exact st1 s hs
  have hpw : PWh J2 (WH J known) := by
    have := hp2.2
    rw [whOf_cong hT kp1.mp (st := stI J known) st1] at this
    exact this
  have eS : J2 321 (12 * T + c') = J 321 (12 * T + c') := kp2 _ _ (by unfold scr; simp; omega)
  have eW : J2 322 (12 * T + c') = J 322 (12 * T + c') := kp2 _ _ (by unfold scr; simp; omega)
  have fin := K J2 kp2
  rw [if_pos ⟨h1, h2, h3, by omega, h5⟩] at fin
  simp only [Int.toNat_natCast] at fin ⊢
  have ei : (12 * (T : Int) + (c' : Int)).toNat = 12 * T + c' := by omega
  repeat' (first | (refine And.intro ?_ ?_; omega))
  rw [ei, eS]
  refine br_i (fun h6 => ?_) (fun h6 => ?_)
  · rw [if_pos (Or.inl h6)] at fin
    exact fin
  · repeat' (first | (refine And.intro ?_ ?_; omega))
    rw [st2 a' (by omega), st2 b' (by omega)]
    refine br_i (fun h7 => ?_) (fun h7 => ?_)
    · rw [if_pos (Or.inr (by omega))] at fin
      exact fin
    · repeat' (first | (refine And.intro ?_ ?_; omega))
      rw [if_neg (by omega)] at fin
      have hWin := WH_in hT (st := stI J known) (fun s hs => by unfold stI; have := lab40 (EH J known) hs; omega) known
      refine s_pairsOf hL _ _ _ (WH J known) (by omega) (by rw [ei, eW]; exact (hXc.2.1 (by omega)).1) hpw hWin.1 ?_
      rw [ei, tpOf_mp kp2.mp (by omega)]
      show V w 3 mX5_pairs 133 _ [vI _] S J2 Q
      refine v_forget (fg_none (fg_none (fg_none (fg_none (fg_none (fg_none fg_nil)))))) (gX5_pairs_133 (J := J2) hL _ ?_)
      exact fin
