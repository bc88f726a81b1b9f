/-! the model: ways asked -/
set_option maxRecDepth 100000
theorem gX5_forced_0 {w : Wd} {S : Sh} {J : Jm} {Q : Out → Sh → Jm → Prop} (hL : Lay S) (known : Int) (s : Int)
    (K : Br (0 ≤ known ∧ known ≤ (J 313 1)) (Br (0 ≤ s ∧ s < 40) ((MI0 (up J 313 0 0)) ∧ (∀ (J1 : Jm), PAll (up J 313 0 0) known J1 → V w 0 mX5_forcedOf 0 (ent mX5_forcedOf [vR 313, vI (J1 332 s.toNat)]) [] S J1 (CallQ w 6 mX5_forced 34 [some (vR 313), some (vI known), some (vI s)] [] Q))) (Q (.inl (some (vI (-1)))) S (up J 313 0 0))) (Q (.inl (some (vI (-1)))) S (up J 313 0 0))) :
    V w 6 mX5_forced 0 (ent mX5_forced [vR 313, vI known, vI s]) [] S J Q := by
  show V w 6 mX5_forced 0 [some (vR 313), some (vI known), some (vI s)] [] S J Q
  refine v_aload_n dX5_forced_0 rfl ?_
  refine v_iconst dX5_forced_1 (in_lit (by decide)) ?_
  refine v_putI dX5_forced_2 frX5_1_5 (fun _ _ _ h => by cases h; exact Or.inl rfl) rfl rfl zfit_int (L_313 hL).1 ?_
  show V w 6 mX5_forced 5 [some (vR 313), some (vI known), some (vI s)] [] S (up J 313 0 0) Q
  refine v_aload_n dX5_forced_5 rfl ?_
  refine v_iload_n dX5_forced_6 rfl ?_
  refine v_callV (d' := 0) (rest := []) [vI known] dX5_forced_7 vrX5_298_5 (L_313 hL).1 rfl rfl (one_I one_nil) (Nat.le_of_ble_eq_true rfl) (Nat.le_of_ble_eq_true rfl) (Nat.le_of_ble_eq_true rfl) ?_
  obtain ⟨K1, K2⟩ := K
  refine sX5_isKnown hL known  (fun c1 => ?_) (fun c1 => ?_)
  · have K := K1 c1
    show V w 6 mX5_forced 10 [some (vR 313), some (vI known), some (vI s)] [vI 1] S (up J 313 0 0) Q
    refine v_if_eq 20 dX5_forced_10 (by decide) (fun cQ => absurd cQ (by decide)) (fun _ => ?_)
    refine v_iload_n dX5_forced_13 rfl ?_
    refine v_callS (d' := 0) (rest := []) [vI s] dX5_forced_14 srX5_288 rfl (one_I one_nil) (Nat.le_of_ble_eq_true rfl) (Nat.le_of_ble_eq_true rfl) (Nat.le_of_ble_eq_true rfl) ?_
    obtain ⟨K1, K2⟩ := K
    refine sX5_isSignNumber hL s  (fun c2 => ?_) (fun c2 => ?_)
    · have K := K1 c2
      show V w 6 mX5_forced 17 [some (vR 313), some (vI known), some (vI s)] [vI 1] S (up J 313 0 0) Q
      refine v_if_ne 22 dX5_forced_17 (by decide) (fun _ => ?_) (fun cQ => absurd cQ (by decide))
      refine v_aload_n dX5_forced_22 rfl ?_
      refine v_iload_n dX5_forced_23 rfl ?_
      refine v_callV (d' := 5) (rest := []) [vI known] dX5_forced_24 vrX5_438_5 (L_313 hL).1 rfl rfl (one_I one_nil) (Nat.le_of_ble_eq_true rfl) (Nat.le_of_ble_eq_true rfl) (Nat.le_of_ble_eq_true rfl) ?_
      obtain ⟨o1, K⟩ := K
      refine s_findAll hL known o1 (fun J1 hp => ?_)
      have K := K J1 hp
      show V w 6 mX5_forced 27 [some (vR 313), some (vI known), some (vI s)] [] S J1 Q
      refine v_aload_n dX5_forced_27 rfl ?_
      refine v_aload_n dX5_forced_28 rfl ?_
      refine v_getR dX5_forced_29 frX5_72_5 rfl (L_313 hL).1 (LR_313_31 hL) (Or.inl rfl) ?_
      refine v_iload_n dX5_forced_32 rfl ?_
      refine ld_332 dX5_forced_33 hL c2.1 c2.2 ?_
      refine v_callV (d' := 0) (rest := []) [vI (J1 332 s.toNat)] dX5_forced_34 vrX5_444_5 (L_313 hL).1 rfl rfl (one_I one_nil) (Nat.le_of_ble_eq_true rfl) (Nat.le_of_ble_eq_true rfl) (Nat.le_of_ble_eq_true rfl) ?_
      exact K
    · have K := K2 c2
      show V w 6 mX5_forced 17 [some (vR 313), some (vI known), some (vI s)] [vI 0] S (up J 313 0 0) Q
      refine v_if_ne 22 dX5_forced_17 (by decide) (fun cQ => absurd cQ (by decide)) (fun _ => ?_)
      refine v_iconst dX5_forced_20 (in_lit (by decide)) ?_
      exact v_iret dX5_forced_21 rfl rfl K
  · have K := K2 c1
    show V w 6 mX5_forced 10 [some (vR 313), some (vI known), some (vI s)] [vI 0] S (up J 313 0 0) Q
    refine v_if_eq 20 dX5_forced_10 (by decide) (fun _ => ?_) (fun cQ => absurd cQ (by decide))
    refine v_iconst dX5_forced_20 (in_lit (by decide)) ?_
    exact v_iret dX5_forced_21 rfl rfl K
theorem gX5_forced_37 {w : Wd} {S : Sh} {J : Jm} {Q : Out → Sh → Jm → Prop} (hL : Lay S) (r : Int)
    (K : Q (.inl (some (vI r))) S J) :
    V w 6 mX5_forced 37 [none, none, none] [vI r] S J Q := by
  exact v_iret dX5_forced_37 rfl rfl K

noncomputable def rWays (J : Jm) (known : Int) : Int := if kno J known then ((wyL J known 0).length : Nat) else -1
theorem m_ways {w : Wd} {S : Sh} {J : Jm} {Q : Out → Sh → Jm → Prop} (hL : Lay S) (known : Int) (h : MI0 J) (K : ∀ J', Kp J J' → Q (.inl (some (vI (rWays J known)))) S J') : V w 6 mX5_ways 0 (ent mX5_ways [vR 313, vI known]) [] S J Q := by
  have hm := (k0 J).mp
  unfold rWays at K
  refine gX5_ways_0 hL known (br_i (fun h1 => ⟨h.mp hm, fun J1 hp => ?_⟩) (fun h1 => ?_))
  · obtain ⟨a1, a2, a3, a4⟩ := hp.mp h hm
    have := K J1 ((k0 J).trans a1)
    rw [if_pos h1, ← a3] at this
    exact this
  · have := K _ (k0 J)
    rw [if_neg h1] at this
    exact this
/-- the row of a name among those that are chosen -/
def wrR (L : List Nat) (tb : Nat → Nat) (ch : List Nat) (n : Int) : Nat → Nat → Int
  | 0, _ => -1
  | m + 1, j => if ((L.getD j 0 : Nat) : Int) = n then ((ch.getD j 0 : Nat) : Int) - 8 * ((tb j : Nat) : Int) else wrR L tb ch n m (j + 1)
noncomputable def rWay (J : Jm) (known k n : Int) : Int := if kno J known ∧ 0 ≤ k ∧ (0 ≤ n ∧ n ≤ J 313 55 - 1) then (match (wyL J known 0)[k.toNat]? with
    | none => -1
    | some x => wrR (tkL J known 0) (envOf J known (tkL J known 0)).tb x.1 n (tkL J known 0).length 0) else -1
noncomputable def rGiven (J : Jm) (known k s : Int) : Int := if kno J known ∧ 0 ≤ k ∧ (0 ≤ s ∧ s < 40) then (match (wyL J known 0)[k.toNat]? with
    | none => -1
    | some x => x.2 (labOf (EH J known) s.toNat)) else -1
theorem wrR_eq {L : List Nat} {tb tb' : Nat → Nat} {ch : List Nat} {n : Int} : ∀ (m j : Nat), (∀ i, j ≤ i → i < j + m → tb' i = tb i) → wrR L tb' ch n m j = wrR L tb ch n m j
  | 0, _, _ => rfl
  | m + 1, j, h => by rw [wrR, wrR, h j (Nat.le_refl _) (by omega), wrR_eq m (j + 1) (fun i h1 h2 => h i (by omega) (by omega))]
theorem m_way {w : Wd} {S : Sh} {J : Jm} {Q : Out → Sh → Jm → Prop} (hL : Lay S) (known k n : Int) (h : MI0 J) (hk : k ≤ 2147483647) (K : ∀ J', Kp J J' → Q (.inl (some (vI (rWay J known k n)))) S J') : V w 6 mX5_way 0 (ent mX5_way [vR 313, vI known, vI k, vI n]) [] S J Q := by
  have hm := (k0 J).mp
  have h' : MI0 (up J 313 0 0) := h.mp hm
  have hN1 := h.2.2.2.2.1
  have eL := tkL_mp h.2.2.2.2 hm known 0
  have eW := wyL_mp h hm known 0
  have eE := envOf_mp h hm known (L := tkL J known 0) (fun j hj => tkL_lt h.2.2.2.2 hj)
  unfold rWay at K
  have no : ¬ (kno J known ∧ 0 ≤ k ∧ (0 ≤ n ∧ n ≤ J 313 55 - 1)) → Q (.inl (some (vI (-1)))) S (up J 313 0 0) := by
    intro q
    have := K _ (k0 J)
    rw [if_neg q] at this
    exact this
  refine gX5_way_0 hL known k n (br_i (fun h1 => br_i (fun h2 => no (fun q => by omega)) (fun h2 => ⟨by omega, br_i (fun h3 => ?_) (fun h3 => no (fun q => h3 q.2.2))⟩)) (fun h1 => no (fun q => h1 q.1)))
  obtain ⟨k, rfl⟩ : ∃ m : Nat, k = m := ⟨k.toNat, by omega⟩
  rw [if_pos ⟨h1, by omega, h3⟩, Int.toNat_natCast] at K
  refine s_findWay hL known k h' hk (fun q J1 kp => ?_) (fun x q J1 kp hE hF => ?_)
  · rw [eW] at q
    rw [q] at K
    exact v_forget (fg_some (fg_none (fg_none (fg_some (fg_none fg_nil))))) (gX5_way_37 hL n 0 (br_y rfl (K J1 ((k0 J).trans kp))))
  · rw [eW] at q
    rw [eL] at hE hF
    rw [q] at K
    refine v_forget (fg_some (fg_none (fg_none (fg_some (fg_none fg_nil))))) (gX5_way_37 hL n 1 (br_n (by omega) ?_))
    have fin := K J1 ((k0 J).trans kp)
    change Q (.inl (some (vI (wrR (tkL J known 0) (envOf J known (tkL J known 0)).tb x.1 n (tkL J known 0).length 0)))) S J1 at fin
    rw [← wrR_eq (tb' := (envOf (up J 313 0 0) known (tkL J known 0)).tb) _ _ (fun i _ hi => (eE.2.2 i (by omega) hi).1)] at fin
    obtain ⟨e1, e2, e3, -⟩ := hE
    obtain ⟨f1, f2, f3⟩ := hF
    have loop : ∀ (m j : Nat), j + m = (tkL J known 0).length → wrR (tkL J known 0) (envOf (up J 313 0 0) known (tkL J known 0)).tb x.1 n m j = wrR (tkL J known 0) (envOf (up J 313 0 0) known (tkL J known 0)).tb x.1 n (tkL J known 0).length 0 → V w 6 mX5_way 45 [some (vR 313), none, none, some (vI n), some (vI (j : Int))] [] S J1 Q := by
      intro m
      induction m with
      | zero =>
        intro j hj hw
        rw [← hw] at fin
        exact gX5_way_45 hL n j (br_y (by omega) fin)
      | succ m ih =>
        intro j hj hw
        rw [wrR] at hw
        obtain ⟨⟨a1, -⟩, -⟩ := e3 j (by omega)
        obtain ⟨u, u1, u2, u3⟩ := f3 j (by omega)
        have a1' : J1 356 j = (((tkL J known 0).getD j 0 : Nat) : Int) := a1
        refine gX5_way_45 hL n j (br_n (by omega) ⟨by omega, ?_⟩)
        rw [a1']
        refine br_i (fun q1 => ?_) (fun q1 => ⟨by omega, ?_⟩)
        · rw [if_pos q1, u3] at hw
          rw [← hw] at fin
          rw [u2]
          rw [show (((8 * (envOf (up J 313 0 0) known (tkL J known 0)).tb j + u : Nat)) : Int) - 8 * (((envOf (up J 313 0 0) known (tkL J known 0)).tb j : Nat) : Int) = (u : Int) by omega] at fin
          exact fin
        · rw [if_neg q1] at hw
          exact ih (j + 1) (by omega) hw
    exact loop _ 0 (by omega) rfl
theorem m_given {w : Wd} {S : Sh} {J : Jm} {Q : Out → Sh → Jm → Prop} (hL : Lay S) (known k s : Int) (h : MI0 J) (hk : k ≤ 2147483647) (K : ∀ J', Kp J J' → Q (.inl (some (vI (rGiven J known k s)))) S J') : V w 6 mX5_given 0 (ent mX5_given [vR 313, vI known, vI k, vI s]) [] S J Q := by
  have hm := (k0 J).mp
  have h' : MI0 (up J 313 0 0) := h.mp hm
  have eW := wyL_mp h hm known 0
  unfold rGiven at K
  have no : ¬ (kno J known ∧ 0 ≤ k ∧ (0 ≤ s ∧ s < 40)) → Q (.inl (some (vI (-1)))) S (up J 313 0 0) := by
    intro q
    have := K _ (k0 J)
    rw [if_neg q] at this
    exact this
  refine gX5_given_0 hL known k s (br_i (fun h1 => br_i (fun h2 => no (fun q => by omega)) (fun h2 => br_i (fun h3 => ?_) (fun h3 => no (fun q => h3 q.2.2)))) (fun h1 => no (fun q => h1 q.1)))
  obtain ⟨k, rfl⟩ : ∃ m : Nat, k = m := ⟨k.toNat, by omega⟩
  rw [if_pos ⟨h1, by omega, h3⟩, Int.toNat_natCast] at K
  refine s_findWay hL known k h' hk (fun q J1 kp => ?_) (fun x q J1 kp hE hF => ?_)
  · rw [eW] at q
    rw [q] at K
    exact v_forget (fg_some (fg_none (fg_none (fg_some fg_nil)))) (gX5_given_30 hL s 0 (br_y rfl (K J1 ((k0 J).trans kp))))
  · rw [eW] at q
    rw [q] at K
    refine v_forget (fg_some (fg_none (fg_none (fg_some fg_nil)))) (gX5_given_30 hL s 1 (br_n (by omega) ?_))
    have hst := hE.2.2.2.1 s.toNat (by omega)
    have e1 : J1 332 s.toNat = ((labOf (EH J known) s.toNat : Nat) : Int) := by rw [← EH_mp hm known]; exact hst.1
    have hl := lab40 (EH J known) (s := s.toNat) (by omega)
    have fin := K J1 ((k0 J).trans kp)
    change Q (.inl (some (vI (x.2 (labOf (EH J known) s.toNat))))) S J1 at fin
    rw [e1, Int.toNat_natCast, hF.1 _ hl]
    (repeat' (first | ((with_reducible refine And.intro ?_ ?_); omega)))
    exact fin
/-- the cell below c that a sign has in all ways; -1 -/
def frN (L : List Way) (s : Nat) : Nat → Int
  | 0 => -1
  | c + 1 => if 0 < L.length ∧ tlC L s c = L.length then (c : Int) else frN L s c
theorem s_forcedOf {w : Wd} {S : Sh} {J : Jm} {Q : Out → Sh → Jm → Prop} (hL : Lay S) (L : List Way) (s : Nat) (hs : s < 40) (h1 : J 313 68 = ((L.length : Nat) : Int)) (h2 : ∀ c, c < 136 → J 361 (136 * s + c) = ((tlC L s c : Nat) : Int)) (K : Q (.inl (some (vI (frN L s 135)))) S J) : V w 0 mX5_forcedOf 0 (ent mX5_forcedOf [vR 313, vI (s : Int)]) [] S J Q := by
  refine gX5_forcedOf_0 hL s ?_
  have loop : ∀ (m c : Nat), c + m = 135 → V w 0 mX5_forcedOf 4 [some (vR 313), some (vI (s : Int)), some (vI (frN L s c)), some (vI (c : Int))] [] S J Q := by
    intro m
    induction m with
    | zero =>
      intro c hc
      obtain rfl : c = 135 := by omega
      exact gX5_forcedOf_4 hL s _ 135 (br_y (by omega) K)
    | succ m ih =>
      intro c hc
      have ih1 := ih (c + 1) (by omega)
      refine gX5_forcedOf_4 hL s _ c (br_n (by omega) ?_)
      rw [h1, h2 c (by omega)]
      refine br_i (fun q => ?_) (fun q => ?_)
      · have all0 : ∀ c, frN L s c = -1 := by
          intro c
          induction c with
          | zero => rfl
          | succ c ihc => rw [frN, if_neg (fun z => by omega), ihc]
        rw [all0] at K ⊢
        exact K
      · rw [frN] at ih1
        (repeat' (first | ((with_reducible refine And.intro ?_ ?_); omega)))
        refine br_i (fun q2 => ?_) (fun q2 => ?_)
        · rw [if_pos ⟨by omega, by omega⟩] at ih1
          exact ⟨by omega, ih1⟩
        · rw [if_neg (fun z => by omega)] at ih1
          exact ⟨by omega, ih1⟩
  exact loop 135 0 (by omega)
noncomputable def rForced (J : Jm) (known s : Int) : Int := if kno J known ∧ (0 ≤ s ∧ s < 40) then frN (wyL J known 0) (labOf (EH J known) s.toNat) 135 else -1
theorem m_forced {w : Wd} {S : Sh} {J : Jm} {Q : Out → Sh → Jm → Prop} (hL : Lay S) (known s : Int) (h : MI0 J) (K : ∀ J', Kp J J' → Q (.inl (some (vI (rForced J known s)))) S J') : V w 6 mX5_forced 0 (ent mX5_forced [vR 313, vI known, vI s]) [] S J Q := by
  have hm := (k0 J).mp
  unfold rForced at K
  refine gX5_forced_0 hL known s (br_i (fun h1 => br_i (fun h2 => ⟨h.mp hm, fun J1 hp => ?_⟩) (fun h2 => ?_)) (fun h1 => ?_))
  · obtain ⟨a1, a2, a3, a4⟩ := hp.mp h hm
    have hl := lab40 (EH J known) (s := s.toNat) (by omega)
    have fin := K J1 ((k0 J).trans a1)
    rw [if_pos ⟨h1, h2⟩] at fin
    rw [a2 s.toNat (by omega)]
    (repeat' (first | ((with_reducible refine And.intro ?_ ?_); omega)))
    refine s_forcedOf hL (wyL J known 0) _ hl a3 (fun c hc => a4 _ c hl hc) ?_
    exact v_forget (fg_none (fg_none (fg_none fg_nil))) (gX5_forced_37 hL _ fin)
  · have := K _ (k0 J)
    rw [if_neg (fun q => h2 q.2)] at this
    exact this
  · have := K _ (k0 J)
    rw [if_neg (fun q => h1 q.1)] at this
    exact this
