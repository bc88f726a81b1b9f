/-! the model: a new name -/
set_option maxRecDepth 100000
theorem gX5_waysWith_0 {w : Wd} {S : Sh} {J : Jm} {Q : Out → Sh → Jm → Prop} (hL : Lay S) (known : Int) (t : Int)
    (K : (MI0 J) ∧ (∀ (J1 : Jm), PTk J known (0 : Int) J1 → (0 ≤ (6 : Int) ∧ (6 : Int) < 7) ∧ (MTxt (up J1 350 6 t)) ∧ (NamAt (up J1 350 6 t) 6) ∧ (∀ (J2 : Jm), PSp (up J1 350 6 t) 6 known J2 → (0 ≤ J2 313 64) ∧ (J2 313 64 < 7) ∧ (-2147483648 ≤ (J2 313 64) + 1 ∧ (J2 313 64) + 1 ≤ 2147483647) ∧ V w 4 mX5_goesThrough 0 (ent mX5_goesThrough [vR 313, vI 6, vI known]) [] S (up (up J2 356 (J2 313 64).toNat 6) 313 64 ((J2 313 64) + 1)) (CallQ w 5 mX5_waysWith 46 [some (vR 313), some (vI known), some (vI t)] [] Q)))) :
    V w 5 mX5_waysWith 0 (ent mX5_waysWith [vR 313, vI known, vI t]) [] S J Q := by
  show V w 5 mX5_waysWith 0 [some (vR 313), some (vI known), some (vI t)] [] S J Q
  refine v_aload_n dX5_waysWith_0 rfl ?_
  refine v_iload_n dX5_waysWith_1 rfl ?_
  refine v_iconst dX5_waysWith_2 (in_lit (by decide)) ?_
  refine v_callV (d' := 4) (rest := []) [vI known, vI 0] dX5_waysWith_3 vrX5_432_5 (L_313 hL).1 rfl rfl (one_I (one_I one_nil)) (Nat.le_of_ble_eq_true rfl) (Nat.le_of_ble_eq_true rfl) (Nat.le_of_ble_eq_true rfl) ?_
  obtain ⟨o1, K⟩ := K
  refine s_takesR hL known (0 : Int) o1 (fun J1 hp => ?_)
  have K := K J1 hp
  show V w 5 mX5_waysWith 6 [some (vR 313), some (vI known), some (vI t)] [] S J1 Q
  refine v_aload_n dX5_waysWith_6 rfl ?_
  refine v_getR dX5_waysWith_7 frX5_127_5 rfl (L_313 hL).1 (LR_313_58 hL) (Or.inl rfl) ?_
  refine v_bipush dX5_waysWith_10 (by decide) (in_lit (by decide)) ?_
  refine v_iload_n dX5_waysWith_12 rfl ?_
  refine st_350 dX5_waysWith_13 hL (by omega) (by decide) ?_
  show V w 5 mX5_waysWith 14 [some (vR 313), some (vI known), some (vI t)] [] S (up J1 350 6 t) Q
  refine v_aload_n dX5_waysWith_14 rfl ?_
  refine v_bipush dX5_waysWith_15 (by decide) (in_lit (by decide)) ?_
  refine v_iload_n dX5_waysWith_17 rfl ?_
  refine v_callV (d' := 2) (rest := []) [vI 6, vI known] dX5_waysWith_18 vrX5_401_5 (L_313 hL).1 rfl rfl (one_I (one_I one_nil)) (Nat.le_of_ble_eq_true rfl) (Nat.le_of_ble_eq_true rfl) (Nat.le_of_ble_eq_true rfl) ?_
  obtain ⟨o2, K⟩ := K
  obtain ⟨o3, K⟩ := K
  obtain ⟨o4, K⟩ := K
  refine s_spellsI hL (6 : Int) known o2 o3 o4 (fun J2 hp => ?_)
  have K := K J2 hp
  show V w 5 mX5_waysWith 21 [some (vR 313), some (vI known), some (vI t)] [] S J2 Q
  refine v_aload_n dX5_waysWith_21 rfl ?_
  refine v_getR dX5_waysWith_22 frX5_145_5 rfl (L_313 hL).1 (LR_313_65 hL) (Or.inl rfl) ?_
  refine v_aload_n dX5_waysWith_25 rfl ?_
  refine v_getI dX5_waysWith_26 frX5_414_5 rfl rfl (L_313 hL).1 ?_
  refine v_bipush dX5_waysWith_29 (by decide) (in_lit (by decide)) ?_
  obtain ⟨o5, K⟩ := K
  obtain ⟨o6, K⟩ := K
  refine st_356 dX5_waysWith_31 hL o5 o6 ?_
  show V w 5 mX5_waysWith 32 [some (vR 313), some (vI known), some (vI t)] [] S (up J2 356 (J2 313 64).toNat 6) Q
  refine v_aload_n dX5_waysWith_32 rfl ?_
  refine v_dup dX5_waysWith_33 trivial ?_
  refine v_getI dX5_waysWith_34 frX5_414_5 rfl rfl (L_313 hL).1 ?_
  show V w 5 mX5_waysWith 37 [some (vR 313), some (vI known), some (vI t)] [vI (J2 313 64), vR 313] S (up J2 356 (J2 313 64).toNat 6) Q
  refine v_iconst dX5_waysWith_37 (in_lit (by decide)) ?_
  obtain ⟨o7, K⟩ := K
  refine v_iadd dX5_waysWith_38 o7 ?_
  refine v_putI dX5_waysWith_39 frX5_414_5 (fun _ _ _ h => by cases h; exact Or.inl rfl) rfl rfl zfit_int (L_313 hL).1 ?_
  show V w 5 mX5_waysWith 42 [some (vR 313), some (vI known), some (vI t)] [] S (up (up J2 356 (J2 313 64).toNat 6) 313 64 ((J2 313 64) + 1)) Q
  refine v_aload_n dX5_waysWith_42 rfl ?_
  refine v_bipush dX5_waysWith_43 (by decide) (in_lit (by decide)) ?_
  refine v_iload_n dX5_waysWith_45 rfl ?_
  refine v_callV (d' := 4) (rest := []) [vI 6, vI known] dX5_waysWith_46 vrX5_435_5 (L_313 hL).1 rfl rfl (one_I (one_I one_nil)) (Nat.le_of_ble_eq_true rfl) (Nat.le_of_ble_eq_true rfl) (Nat.le_of_ble_eq_true rfl) ?_
  exact K
theorem gX5_waysWith_49 {w : Wd} {S : Sh} {J : Jm} {Q : Out → Sh → Jm → Prop} (hL : Lay S) 
    (K : Q (.inl (some (vI (J 313 68)))) S J) :
    V w 5 mX5_waysWith 49 [some (vR 313), none, none] [] S J Q := by
  refine v_aload_n dX5_waysWith_49 rfl ?_
  refine v_getI dX5_waysWith_50 frX5_411_5 rfl rfl (L_313 hL).1 ?_
  exact v_iret dX5_waysWith_53 rfl rfl K
theorem gX5_would_0 {w : Wd} {S : Sh} {J : Jm} {Q : Out → Sh → Jm → Prop} (hL : Lay S) (known : Int) (t : Int)
    (K : Br (0 ≤ known ∧ known ≤ (J 313 1)) ((-2147483648 ≤ (J 313 2) - 1 ∧ (J 313 2) - 1 ≤ 2147483647) ∧ Br ((0 : Int) ≤ t ∧ t ≤ ((J 313 2) - 1)) ((0 ≤ t ∧ t < 24) ∧ Br ((up J 313 0 0) 314 t.toNat ≤ known ∧ known < (up J 313 0 0) 315 t.toNat) (Br (NameB (up J 313 0 0)) (V w 0 mX5_takesName 0 (ent mX5_takesName [vR 313, vI 6, vI t]) [] S (up J 313 0 0) (CallQ w 6 mX5_would 49 [some (vR 313), some (vI known), some (vI t)] [] Q)) (Q (.inl (some (vI (-1)))) S (up J 313 0 0))) (Q (.inl (some (vI (-1)))) S (up J 313 0 0))) (Q (.inl (some (vI (-1)))) S (up J 313 0 0))) (Q (.inl (some (vI (-1)))) S (up J 313 0 0))) :
    V w 6 mX5_would 0 (ent mX5_would [vR 313, vI known, vI t]) [] S J Q := by
  show V w 6 mX5_would 0 [some (vR 313), some (vI known), some (vI t)] [] S J Q
  refine v_aload_n dX5_would_0 rfl ?_
  refine v_iconst dX5_would_1 (in_lit (by decide)) ?_
  refine v_putI dX5_would_2 frX5_1_5 (fun _ _ _ h => by cases h; exact Or.inl rfl) rfl rfl zfit_int (L_313 hL).1 ?_
  show V w 6 mX5_would 5 [some (vR 313), some (vI known), some (vI t)] [] S (up J 313 0 0) Q
  refine v_aload_n dX5_would_5 rfl ?_
  refine v_iload_n dX5_would_6 rfl ?_
  refine v_callV (d' := 0) (rest := []) [vI known] dX5_would_7 vrX5_298_5 (L_313 hL).1 rfl rfl (one_I one_nil) (Nat.le_of_ble_eq_true rfl) (Nat.le_of_ble_eq_true rfl) (Nat.le_of_ble_eq_true rfl) ?_
  obtain ⟨K1, K2⟩ := K
  refine sX5_isKnown hL known  (fun c1 => ?_) (fun c1 => ?_)
  · have K := K1 c1
    show V w 6 mX5_would 10 [some (vR 313), some (vI known), some (vI t)] [vI 1] S (up J 313 0 0) Q
    refine v_if_eq 43 dX5_would_10 (by decide) (fun cQ => absurd cQ (by decide)) (fun _ => ?_)
    refine v_iload_n dX5_would_13 rfl ?_
    refine v_iconst dX5_would_14 (in_lit (by decide)) ?_
    refine v_aload_n dX5_would_15 rfl ?_
    refine v_getI dX5_would_16 frX5_243_5 rfl rfl (L_313 hL).1 ?_
    show V w 6 mX5_would 19 [some (vR 313), some (vI known), some (vI t)] [vI (J 313 2), vI 0, vI t] S (up J 313 0 0) Q
    refine v_iconst dX5_would_19 (in_lit (by decide)) ?_
    obtain ⟨o1, K⟩ := K
    refine v_isub dX5_would_20 o1 ?_
    refine v_callS (d' := 0) (rest := []) [vI t, vI 0, vI ((J 313 2) - 1)] dX5_would_21 srX5_169 rfl (one_I (one_I (one_I one_nil))) (Nat.le_of_ble_eq_true rfl) (Nat.le_of_ble_eq_true rfl) (Nat.le_of_ble_eq_true rfl) ?_
    obtain ⟨K1, K2⟩ := K
    refine sX5_within hL t (0 : Int) ((J 313 2) - 1)  (fun c2 => ?_) (fun c2 => ?_)
    · have K := K1 c2
      show V w 6 mX5_would 24 [some (vR 313), some (vI known), some (vI t)] [vI 1] S (up J 313 0 0) Q
      refine v_if_eq 43 dX5_would_24 (by decide) (fun cQ => absurd cQ (by decide)) (fun _ => ?_)
      refine v_aload_n dX5_would_27 rfl ?_
      refine v_iload_n dX5_would_28 rfl ?_
      refine v_iload_n dX5_would_29 rfl ?_
      refine v_callV (d' := 1) (rest := []) [vI t, vI known] dX5_would_30 vrX5_314_5 (L_313 hL).1 rfl rfl (one_I (one_I one_nil)) (Nat.le_of_ble_eq_true rfl) (Nat.le_of_ble_eq_true rfl) (Nat.le_of_ble_eq_true rfl) ?_
      obtain ⟨o2, K⟩ := K
      obtain ⟨K1, K2⟩ := K
      refine sX5_tabletCounts hL t known o2 (fun c3 => ?_) (fun c3 => ?_)
      · have K := K1 c3
        show V w 6 mX5_would 33 [some (vR 313), some (vI known), some (vI t)] [vI 1] S (up J 313 0 0) Q
        refine v_if_eq 43 dX5_would_33 (by decide) (fun cQ => absurd cQ (by decide)) (fun _ => ?_)
        refine v_aload_n dX5_would_36 rfl ?_
        refine v_callV (d' := 1) (rest := []) [] dX5_would_37 vrX5_380_5 (L_313 hL).1 rfl rfl one_nil (Nat.le_of_ble_eq_true rfl) (Nat.le_of_ble_eq_true rfl) (Nat.le_of_ble_eq_true rfl) ?_
        obtain ⟨K1, K2⟩ := K
        refine s_isName hL   (fun c4 => ?_) (fun c4 => ?_)
        · have K := K1 c4
          show V w 6 mX5_would 40 [some (vR 313), some (vI known), some (vI t)] [vI 1] S (up J 313 0 0) Q
          refine v_if_ne 45 dX5_would_40 (by decide) (fun _ => ?_) (fun cQ => absurd cQ (by decide))
          refine v_aload_n dX5_would_45 rfl ?_
          refine v_bipush dX5_would_46 (by decide) (in_lit (by decide)) ?_
          refine v_iload_n dX5_would_48 rfl ?_
          refine v_callV (d' := 0) (rest := []) [vI 6, vI t] dX5_would_49 vrX5_386_5 (L_313 hL).1 rfl rfl (one_I (one_I one_nil)) (Nat.le_of_ble_eq_true rfl) (Nat.le_of_ble_eq_true rfl) (Nat.le_of_ble_eq_true rfl) ?_
          exact K
        · have K := K2 c4
          show V w 6 mX5_would 40 [some (vR 313), some (vI known), some (vI t)] [vI 0] S (up J 313 0 0) Q
          refine v_if_ne 45 dX5_would_40 (by decide) (fun cQ => absurd cQ (by decide)) (fun _ => ?_)
          refine v_iconst dX5_would_43 (in_lit (by decide)) ?_
          exact v_iret dX5_would_44 rfl rfl K
      · have K := K2 c3
        show V w 6 mX5_would 33 [some (vR 313), some (vI known), some (vI t)] [vI 0] S (up J 313 0 0) Q
        refine v_if_eq 43 dX5_would_33 (by decide) (fun _ => ?_) (fun cQ => absurd cQ (by decide))
        refine v_iconst dX5_would_43 (in_lit (by decide)) ?_
        exact v_iret dX5_would_44 rfl rfl K
    · have K := K2 c2
      show V w 6 mX5_would 24 [some (vR 313), some (vI known), some (vI t)] [vI 0] S (up J 313 0 0) Q
      refine v_if_eq 43 dX5_would_24 (by decide) (fun _ => ?_) (fun cQ => absurd cQ (by decide))
      refine v_iconst dX5_would_43 (in_lit (by decide)) ?_
      exact v_iret dX5_would_44 rfl rfl K
  · have K := K2 c1
    show V w 6 mX5_would 10 [some (vR 313), some (vI known), some (vI t)] [vI 0] S (up J 313 0 0) Q
    refine v_if_eq 43 dX5_would_10 (by decide) (fun _ => ?_) (fun cQ => absurd cQ (by decide))
    refine v_iconst dX5_would_43 (in_lit (by decide)) ?_
    exact v_iret dX5_would_44 rfl rfl K
theorem gX5_would_52 {w : Wd} {S : Sh} {J : Jm} {Q : Out → Sh → Jm → Prop} (hL : Lay S) (known : Int) (t : Int)
    (K : V w 5 mX5_waysWith 0 (ent mX5_waysWith [vR 313, vI known, vI t]) [] S J (CallQ w 6 mX5_would 55 [some (vR 313), some (vI known), some (vI t)] [] Q)) :
    V w 6 mX5_would 52 [some (vR 313), some (vI known), some (vI t)] [] S J Q := by
  refine v_aload_n dX5_would_52 rfl ?_
  refine v_iload_n dX5_would_53 rfl ?_
  refine v_iload_n dX5_would_54 rfl ?_
  refine v_callV (d' := 5) (rest := []) [vI known, vI t] dX5_would_55 vrX5_453_5 (L_313 hL).1 rfl rfl (one_I (one_I one_nil)) (Nat.le_of_ble_eq_true rfl) (Nat.le_of_ble_eq_true rfl) (Nat.le_of_ble_eq_true rfl) ?_
  exact K
theorem gX5_would_58 {w : Wd} {S : Sh} {J : Jm} {Q : Out → Sh → Jm → Prop} (hL : Lay S) (r : Int)
    (K : Q (.inl (some (vI r))) S J) :
    V w 6 mX5_would 58 [none, none, none] [vI r] S J Q := by
  exact v_iret dX5_would_58 rfl rfl K
theorem gX5_where_0 {w : Wd} {S : Sh} {J : Jm} {Q : Out → Sh → Jm → Prop} (hL : Lay S) (known : Int)
    (K : Br (0 ≤ known ∧ known ≤ (J 313 1)) (Br (NameB (up J 313 0 0)) (V w 0 mX5_takesName 0 (ent mX5_takesName [vR 313, vI 6, vI 0]) [] S (up J 313 0 0) (CallQ w 6 mX5_where 26 [some (vR 313), some (vI known), none, none, none, none] [] Q)) (Q (.inl (some (vI (-1)))) S (up J 313 0 0))) (Q (.inl (some (vI (-1)))) S (up J 313 0 0))) :
    V w 6 mX5_where 0 (ent mX5_where [vR 313, vI known]) [] S J Q := by
  show V w 6 mX5_where 0 [some (vR 313), some (vI known), none, none, none, none] [] S J Q
  refine v_aload_n dX5_where_0 rfl ?_
  refine v_iconst dX5_where_1 (in_lit (by decide)) ?_
  refine v_putI dX5_where_2 frX5_1_5 (fun _ _ _ h => by cases h; exact Or.inl rfl) rfl rfl zfit_int (L_313 hL).1 ?_
  show V w 6 mX5_where 5 [some (vR 313), some (vI known), none, none, none, none] [] S (up J 313 0 0) Q
  refine v_aload_n dX5_where_5 rfl ?_
  refine v_iload_n dX5_where_6 rfl ?_
  refine v_callV (d' := 0) (rest := []) [vI known] dX5_where_7 vrX5_298_5 (L_313 hL).1 rfl rfl (one_I one_nil) (Nat.le_of_ble_eq_true rfl) (Nat.le_of_ble_eq_true rfl) (Nat.le_of_ble_eq_true rfl) ?_
  obtain ⟨K1, K2⟩ := K
  refine sX5_isKnown hL known  (fun c1 => ?_) (fun c1 => ?_)
  · have K := K1 c1
    show V w 6 mX5_where 10 [some (vR 313), some (vI known), none, none, none, none] [vI 1] S (up J 313 0 0) Q
    refine v_if_eq 20 dX5_where_10 (by decide) (fun cQ => absurd cQ (by decide)) (fun _ => ?_)
    refine v_aload_n dX5_where_13 rfl ?_
    refine v_callV (d' := 1) (rest := []) [] dX5_where_14 vrX5_380_5 (L_313 hL).1 rfl rfl one_nil (Nat.le_of_ble_eq_true rfl) (Nat.le_of_ble_eq_true rfl) (Nat.le_of_ble_eq_true rfl) ?_
    obtain ⟨K1, K2⟩ := K
    refine s_isName hL   (fun c2 => ?_) (fun c2 => ?_)
    · have K := K1 c2
      show V w 6 mX5_where 17 [some (vR 313), some (vI known), none, none, none, none] [vI 1] S (up J 313 0 0) Q
      refine v_if_ne 22 dX5_where_17 (by decide) (fun _ => ?_) (fun cQ => absurd cQ (by decide))
      refine v_aload_n dX5_where_22 rfl ?_
      refine v_bipush dX5_where_23 (by decide) (in_lit (by decide)) ?_
      refine v_iconst dX5_where_25 (in_lit (by decide)) ?_
      refine v_callV (d' := 0) (rest := []) [vI 6, vI 0] dX5_where_26 vrX5_386_5 (L_313 hL).1 rfl rfl (one_I (one_I one_nil)) (Nat.le_of_ble_eq_true rfl) (Nat.le_of_ble_eq_true rfl) (Nat.le_of_ble_eq_true rfl) ?_
      exact K
    · have K := K2 c2
      show V w 6 mX5_where 17 [some (vR 313), some (vI known), none, none, none, none] [vI 0] S (up J 313 0 0) Q
      refine v_if_ne 22 dX5_where_17 (by decide) (fun cQ => absurd cQ (by decide)) (fun _ => ?_)
      refine v_iconst dX5_where_20 (in_lit (by decide)) ?_
      exact v_iret dX5_where_21 rfl rfl K
  · have K := K2 c1
    show V w 6 mX5_where 10 [some (vR 313), some (vI known), none, none, none, none] [vI 0] S (up J 313 0 0) Q
    refine v_if_eq 20 dX5_where_10 (by decide) (fun _ => ?_) (fun cQ => absurd cQ (by decide))
    refine v_iconst dX5_where_20 (in_lit (by decide)) ?_
    exact v_iret dX5_where_21 rfl rfl K
theorem gX5_where_36 {w : Wd} {S : Sh} {J : Jm} {Q : Out → Sh → Jm → Prop} (hL : Lay S) (known : Int) (b : Int) (f : Int) (t : Nat)
    (K : Br (J 313 2 ≤ ((t : Nat) : Int)) (Q (.inl (some (vI b))) S J) ((0 ≤ ((t : Nat) : Int) ∧ ((t : Nat) : Int) < 24) ∧ Br (J 314 t ≤ known ∧ known < J 315 t) (V w 5 mX5_waysWith 0 (ent mX5_waysWith [vR 313, vI known, vI ((t : Nat) : Int)]) [] S J (CallQ w 6 mX5_where 62 [some (vR 313), some (vI known), some (vI b), some (vI f), some (vI ((t : Nat) : Int)), none] [] Q)) ((-2147483648 ≤ ((t : Nat) : Int) + 1 ∧ ((t : Nat) : Int) + 1 ≤ 2147483647) ∧ V w 6 mX5_where 36 [some (vR 313), some (vI known), some (vI b), some (vI f), some (vI ((t + 1 : Nat) : Int)), none] [] S J Q))) :
    V w 6 mX5_where 36 [some (vR 313), some (vI known), some (vI b), some (vI f), some (vI ((t : Nat) : Int)), none] [] S J Q := by
  refine v_iload dX5_where_36 rfl ?_
  refine v_aload_n dX5_where_38 rfl ?_
  refine v_getI dX5_where_39 frX5_243_5 rfl rfl (L_313 hL).1 ?_
  obtain ⟨K1, K2⟩ := K
  refine v_icmp_ge 98 dX5_where_42 (by decide) (fun c1 => ?_) (fun c1 => ?_)
  · have K := K1 c1
    refine v_iload_n dX5_where_98 rfl ?_
    exact v_iret dX5_where_99 rfl rfl K
  · have K := K2 c1
    refine v_aload_n dX5_where_45 rfl ?_
    refine v_iload dX5_where_46 rfl ?_
    refine v_iload_n dX5_where_48 rfl ?_
    refine v_callV (d' := 1) (rest := []) [vI ((t : Nat) : Int), vI known] dX5_where_49 vrX5_314_5 (L_313 hL).1 rfl rfl (one_I (one_I one_nil)) (Nat.le_of_ble_eq_true rfl) (Nat.le_of_ble_eq_true rfl) (Nat.le_of_ble_eq_true rfl) ?_
    obtain ⟨o1, K⟩ := K
    obtain ⟨K1, K2⟩ := K
    refine sX5_tabletCounts hL ((t : Nat) : Int) known o1 (fun c2 => ?_) (fun c2 => ?_)
    · have K := K1 c2
      show V w 6 mX5_where 52 [some (vR 313), some (vI known), some (vI b), some (vI f), some (vI ((t : Nat) : Int)), none] [vI 1] S J Q
      refine v_if_ne 58 dX5_where_52 (by decide) (fun _ => ?_) (fun cQ => absurd cQ (by decide))
      refine v_aload_n dX5_where_58 rfl ?_
      refine v_iload_n dX5_where_59 rfl ?_
      refine v_iload dX5_where_60 rfl ?_
      refine v_callV (d' := 5) (rest := []) [vI known, vI ((t : Nat) : Int)] dX5_where_62 vrX5_453_5 (L_313 hL).1 rfl rfl (one_I (one_I one_nil)) (Nat.le_of_ble_eq_true rfl) (Nat.le_of_ble_eq_true rfl) (Nat.le_of_ble_eq_true rfl) ?_
      exact K
    · have K := K2 c2
      show V w 6 mX5_where 52 [some (vR 313), some (vI known), some (vI b), some (vI f), some (vI ((t : Nat) : Int)), none] [vI 0] S J Q
      refine v_if_ne 58 dX5_where_52 (by decide) (fun cQ => absurd cQ (by decide)) (fun _ => ?_)
      refine v_goto 92 dX5_where_55 (by decide) ?_
      obtain ⟨o2, K⟩ := K
      refine v_iinc dX5_where_92 rfl o2 ?_
      show V w 6 mX5_where 95 [some (vR 313), some (vI known), some (vI b), some (vI f), some (vI ((t + 1 : Nat) : Int)), none] [] S J Q
      refine v_goto 36 dX5_where_95 (by decide) ?_
      exact K
theorem gX5_where_29 {w : Wd} {S : Sh} {J : Jm} {Q : Out → Sh → Jm → Prop} (hL : Lay S) (known : Int)
    (K : V w 6 mX5_where 36 [some (vR 313), some (vI known), some (vI (-1)), some (vI 0), some (vI 0), none] [] S J Q) :
    V w 6 mX5_where 29 [some (vR 313), some (vI known), none, none, none, none] [] S J Q := by
  refine v_iconst dX5_where_29 (in_lit (by decide)) ?_
  refine v_istore_n dX5_where_30 (Nat.le_of_ble_eq_true rfl) ?_
  show V w 6 mX5_where 31 [some (vR 313), some (vI known), some (vI (-1)), none, none, none] [] S J Q
  refine v_iconst dX5_where_31 (in_lit (by decide)) ?_
  refine v_istore_n dX5_where_32 (Nat.le_of_ble_eq_true rfl) ?_
  show V w 6 mX5_where 33 [some (vR 313), some (vI known), some (vI (-1)), some (vI 0), none, none] [] S J Q
  refine v_iconst dX5_where_33 (in_lit (by decide)) ?_
  refine v_istore dX5_where_34 (Nat.le_of_ble_eq_true rfl) ?_
  show V w 6 mX5_where 36 [some (vR 313), some (vI known), some (vI (-1)), some (vI 0), some (vI 0), none] [] S J Q
  exact K
theorem gX5_where_65 {w : Wd} {S : Sh} {J : Jm} {Q : Out → Sh → Jm → Prop} (hL : Lay S) (known : Int) (b : Int) (f : Int) (t : Nat) (r : Int)
    (K : Br (r = 0) ((-2147483648 ≤ ((t : Nat) : Int) + 1 ∧ ((t : Nat) : Int) + 1 ≤ 2147483647) ∧ V w 6 mX5_where 36 [some (vR 313), some (vI known), some (vI b), some (vI f), some (vI ((t + 1 : Nat) : Int)), none] [] S J Q) (Br (b = (-1)) ((-2147483648 ≤ ((t : Nat) : Int) + 1 ∧ ((t : Nat) : Int) + 1 ≤ 2147483647) ∧ V w 6 mX5_where 36 [some (vR 313), some (vI known), some (vI ((t : Nat) : Int)), some (vI r), some (vI ((t + 1 : Nat) : Int)), none] [] S J Q) (Br (r < f) ((-2147483648 ≤ ((t : Nat) : Int) + 1 ∧ ((t : Nat) : Int) + 1 ≤ 2147483647) ∧ V w 6 mX5_where 36 [some (vR 313), some (vI known), some (vI ((t : Nat) : Int)), some (vI r), some (vI ((t + 1 : Nat) : Int)), none] [] S J Q) ((-2147483648 ≤ ((t : Nat) : Int) + 1 ∧ ((t : Nat) : Int) + 1 ≤ 2147483647) ∧ V w 6 mX5_where 36 [some (vR 313), some (vI known), some (vI b), some (vI f), some (vI ((t + 1 : Nat) : Int)), none] [] S J Q)))) :
    V w 6 mX5_where 65 [some (vR 313), some (vI known), some (vI b), some (vI f), some (vI ((t : Nat) : Int)), none] [vI r] S J Q := by
  refine v_istore dX5_where_65 (Nat.le_of_ble_eq_true rfl) ?_
  show V w 6 mX5_where 67 [some (vR 313), some (vI known), some (vI b), some (vI f), some (vI ((t : Nat) : Int)), some (vI r)] [] S J Q
  refine v_iload dX5_where_67 rfl ?_
  obtain ⟨K1, K2⟩ := K
  refine v_if_eq 92 dX5_where_69 (by decide) (fun c1 => ?_) (fun c1 => ?_)
  · have K := K1 c1
    obtain ⟨o1, K⟩ := K
    refine v_iinc dX5_where_92 rfl o1 ?_
    show V w 6 mX5_where 95 [some (vR 313), some (vI known), some (vI b), some (vI f), some (vI ((t + 1 : Nat) : Int)), some (vI r)] [] S J Q
    refine v_goto 36 dX5_where_95 (by decide) ?_
    exact v_forget (fg_some (fg_some (fg_some (fg_some (fg_some (fg_none fg_nil)))))) K
  · have K := K2 c1
    refine v_iload_n dX5_where_72 rfl ?_
    refine v_iconst dX5_where_73 (in_lit (by decide)) ?_
    obtain ⟨K1, K2⟩ := K
    refine v_icmp_eq 86 dX5_where_74 (by decide) (fun c2 => ?_) (fun c2 => ?_)
    · have K := K1 c2
      refine v_iload dX5_where_86 rfl ?_
      refine v_istore_n dX5_where_88 (Nat.le_of_ble_eq_true rfl) ?_
      show V w 6 mX5_where 89 [some (vR 313), some (vI known), some (vI ((t : Nat) : Int)), some (vI f), some (vI ((t : Nat) : Int)), some (vI r)] [] S J Q
      refine v_iload dX5_where_89 rfl ?_
      refine v_istore_n dX5_where_91 (Nat.le_of_ble_eq_true rfl) ?_
      show V w 6 mX5_where 92 [some (vR 313), some (vI known), some (vI ((t : Nat) : Int)), some (vI r), some (vI ((t : Nat) : Int)), some (vI r)] [] S J Q
      obtain ⟨o2, K⟩ := K
      refine v_iinc dX5_where_92 rfl o2 ?_
      show V w 6 mX5_where 95 [some (vR 313), some (vI known), some (vI ((t : Nat) : Int)), some (vI r), some (vI ((t + 1 : Nat) : Int)), some (vI r)] [] S J Q
      refine v_goto 36 dX5_where_95 (by decide) ?_
      exact v_forget (fg_some (fg_some (fg_some (fg_some (fg_some (fg_none fg_nil)))))) K
    · have K := K2 c2
      refine v_iload dX5_where_77 rfl ?_
      refine v_iload_n dX5_where_79 rfl ?_
      obtain ⟨K1, K2⟩ := K
      refine v_icmp_lt 86 dX5_where_80 (by decide) (fun c3 => ?_) (fun c3 => ?_)
      · have K := K1 c3
        refine v_iload dX5_where_86 rfl ?_
        refine v_istore_n dX5_where_88 (Nat.le_of_ble_eq_true rfl) ?_
        show V w 6 mX5_where 89 [some (vR 313), some (vI known), some (vI ((t : Nat) : Int)), some (vI f), some (vI ((t : Nat) : Int)), some (vI r)] [] S J Q
        refine v_iload dX5_where_89 rfl ?_
        refine v_istore_n dX5_where_91 (Nat.le_of_ble_eq_true rfl) ?_
        show V w 6 mX5_where 92 [some (vR 313), some (vI known), some (vI ((t : Nat) : Int)), some (vI r), some (vI ((t : Nat) : Int)), some (vI r)] [] S J Q
        obtain ⟨o3, K⟩ := K
        refine v_iinc dX5_where_92 rfl o3 ?_
        show V w 6 mX5_where 95 [some (vR 313), some (vI known), some (vI ((t : Nat) : Int)), some (vI r), some (vI ((t + 1 : Nat) : Int)), some (vI r)] [] S J Q
        refine v_goto 36 dX5_where_95 (by decide) ?_
        exact v_forget (fg_some (fg_some (fg_some (fg_some (fg_some (fg_none fg_nil)))))) K
      · have K := K2 c3
        refine v_goto 92 dX5_where_83 (by decide) ?_
        obtain ⟨o4, K⟩ := K
        refine v_iinc dX5_where_92 rfl o4 ?_
        show V w 6 mX5_where 95 [some (vR 313), some (vI known), some (vI b), some (vI f), some (vI ((t + 1 : Nat) : Int)), some (vI r)] [] S J Q
        refine v_goto 36 dX5_where_95 (by decide) ?_
        exact v_forget (fg_some (fg_some (fg_some (fg_some (fg_some (fg_none fg_nil)))))) K

theorem spOf_cg {J J' : Jm} {n : Nat} (hX : MTxt J) (h : Mp J J') (e1 : J' 348 n = J 348 n) (e2 : ∀ i : Nat, (i : Int) < J 348 n → J' 349 (8 * n + i) = J 349 (8 * n + i)) (known : Int) : spOf J' n known = spOf J n known := by
  have er : rbOf J' known = rbOf J known := rbOf_mp h known
  have ht := rbOf_ok hX known
  unfold spOf
  rw [e1, er]
  have ed : drI J' (rbOf J known) = drI J (rbOf J known) := by
    funext l
    exact drI_mp hX h ht l
  rw [ed]
  have hw : ∀ i : Nat, i < (J 348 n).toNat → spW J' n known i = spW J n known i := by
    intro i hi
    unfold spW
    rw [er, e2 i (by omega), wrI_mp hX h ht]
  generalize spW J' n known = W' at hw ⊢
  generalize spW J n known = W at hw ⊢
  generalize drI J (rbOf J known) = dr
  generalize (J 348 n).toNat = N at hw ⊢
  have key : ∀ i, i ≤ N → spA W' dr N i = spA W dr N i := by
    intro i
    induction i with
    | zero => intro _; rfl
    | succ i ih =>
      intro hi
      rw [spA, spA, ih (by omega)]
      congr 1
      unfold spC
      rw [hw i (by omega), vfI_cong (by omega) hw]
      by_cases h0 : i = 0
      · subst h0
        by_cases h1 : 0 + 1 = N
        · simp [h1]
        · rw [hw (0 + 1) (by omega)]; simp
      · rw [hw (i - 1) (by omega)]
        by_cases h1 : i + 1 = N
        · simp [h1]
        · rw [hw (i + 1) (by omega)]
  exact key N (Nat.le_refl _)
/-- all ways with the new name on a tablet -/
noncomputable def wnL (J : Jm) (known : Int) (t : Nat) : List Way := wy0 (envOf (up J 350 6 (t : Int)) known (tkL J known 0 ++ [6])) ((tkL J known 0).length + 1)
def wwF (J J' : Jm) : Prop := Kp J J' ∧ J' 348 6 = J 348 6 ∧ ∀ i : Nat, (i : Int) < J 348 6 → J' 349 (8 * 6 + i) = J 349 (8 * 6 + i)
theorem wwF.trans {J J1 J2 : Jm} (h : wwF J J1) (h2 : wwF J1 J2) : wwF J J2 := ⟨h.1.trans h2.1, h2.2.1.trans h.2.1, fun i hi => (h2.2.2 i (by rw [h.2.1]; exact hi)).trans (h.2.2 i hi)⟩
theorem wwF.rfl' {J : Jm} : wwF J J := ⟨Kp.rfl', rfl, fun _ _ => rfl⟩
theorem NamAt.ww {J J' : Jm} (h : NamAt J 6) (f : wwF J J') : NamAt J' 6 := by
  refine ⟨by rw [f.2.1]; exact h.1, fun i hi => ?_⟩
  rw [f.2.1] at hi
  rw [f.2.2 i hi]
  exact h.2 i hi
theorem kp6 (J : Jm) (t : Int) : Kp J (up J 350 6 t) := Kp.rfl'.up rfl
/-- ways with the new name are the same where lasting cells and its letters are -/
theorem wnL_eq {J J' : Jm} (h0 : MI0 J) (f : wwF J J') (known : Int) {t : Nat} (ht : (t : Int) < J 313 2) : wnL J' known t = wnL J known t := by
  obtain ⟨hH, hT, hX, hS, hN⟩ := id h0
  have hm := f.1.mp
  unfold wnL
  rw [tkL_mp hN hm]
  refine wy_cong _ _ _ _ ?_
  have hmn : Mp J (up J' 350 6 (t : Int)) := hm.trans (kp6 J' t).mp
  have hmm : Mp (up J 350 6 (t : Int)) (up J' 350 6 (t : Int)) := (kp6 J t).mp.symm.trans hmn
  have hT1 := hT.1
  have hN1 := hN.1
  refine ⟨by show labOf (EH _ known) = labOf (EH _ known); rw [EH_mp hmm known], agB_mp (hT.mp (kp6 J t).mp) (hX.mp (kp6 J t).mp) hmm known, fun i _ hi => ?_⟩
  have key : ∀ (t' : Nat), (t' : Int) < J 313 2 → (up J' 350 6 (t : Int)) 316 t' = (up J 350 6 (t : Int)) 316 t' ∧ ∀ u, u < ((up J 350 6 (t : Int)) 316 t').toNat → ((up J' 350 6 (t : Int)) 317 (8 * t' + u)).toNat = ((up J 350 6 (t : Int)) 317 (8 * t' + u)).toNat ∧ ∀ q, q < ((up J 350 6 (t : Int)) 317 (8 * t' + u)).toNat → (up J' 350 6 (t : Int)) 318 (6 * (8 * t' + u) + q) = (up J 350 6 (t : Int)) 318 (6 * (8 * t' + u) + q) := by
    intro t' ht'
    have hT' := hT.2 t' ht'
    have e1 : J' 316 t' = J 316 t' := hm _ _ (by unfold mper scr; simp; omega)
    simp only [up_na (show 316 ≠ 350 by decide), up_na (show 317 ≠ 350 by decide), up_na (show 318 ≠ 350 by decide)]
    refine ⟨e1, fun u hu => ?_⟩
    obtain ⟨z1, z2⟩ := hT'.2 u (by omega)
    refine ⟨by rw [hm 317 (8 * t' + u) (by unfold mper scr; simp; omega)], fun q hq => hm _ _ (by unfold mper scr; simp; omega)⟩
  by_cases e : i = (tkL J known 0).length
  · subst e
    show ((up J' 350 6 (t : Int)) 350 ((tkL J known 0 ++ [6]).getD (tkL J known 0).length 0)).toNat = ((up J 350 6 (t : Int)) 350 ((tkL J known 0 ++ [6]).getD (tkL J known 0).length 0)).toNat ∧ spOf (up J' 350 6 (t : Int)) ((tkL J known 0 ++ [6]).getD (tkL J known 0).length 0) known = spOf (up J 350 6 (t : Int)) ((tkL J known 0 ++ [6]).getD (tkL J known 0).length 0) known ∧ ((up J' 350 6 (t : Int)) 316 ((up J 350 6 (t : Int)) 350 ((tkL J known 0 ++ [6]).getD (tkL J known 0).length 0)).toNat).toNat = ((up J 350 6 (t : Int)) 316 ((up J 350 6 (t : Int)) 350 ((tkL J known 0 ++ [6]).getD (tkL J known 0).length 0)).toNat).toNat ∧ ∀ u, u < ((up J 350 6 (t : Int)) 316 ((up J 350 6 (t : Int)) 350 ((tkL J known 0 ++ [6]).getD (tkL J known 0).length 0)).toNat).toNat → ((up J' 350 6 (t : Int)) 317 (8 * ((up J 350 6 (t : Int)) 350 ((tkL J known 0 ++ [6]).getD (tkL J known 0).length 0)).toNat + u)).toNat = ((up J 350 6 (t : Int)) 317 (8 * ((up J 350 6 (t : Int)) 350 ((tkL J known 0 ++ [6]).getD (tkL J known 0).length 0)).toNat + u)).toNat ∧ ∀ q, q < ((up J 350 6 (t : Int)) 317 (8 * ((up J 350 6 (t : Int)) 350 ((tkL J known 0 ++ [6]).getD (tkL J known 0).length 0)).toNat + u)).toNat → (up J' 350 6 (t : Int)) 318 (6 * (8 * ((up J 350 6 (t : Int)) 350 ((tkL J known 0 ++ [6]).getD (tkL J known 0).length 0)).toNat + u) + q) = (up J 350 6 (t : Int)) 318 (6 * (8 * ((up J 350 6 (t : Int)) 350 ((tkL J known 0 ++ [6]).getD (tkL J known 0).length 0)).toNat + u) + q)
    rw [getD_app_r, up_self, up_self, Int.toNat_natCast]
    obtain ⟨k1, k2⟩ := key t ht
    refine ⟨rfl, spOf_cg (hX.mp (kp6 J t).mp) hmm ?_ (fun i hi => ?_) known, by rw [k1], k2⟩
    · rw [up_na (by decide), up_na (by decide)]; exact f.2.1
    · rw [up_na (by decide)] at hi
      rw [up_na (by decide), up_na (by decide)]; exact f.2.2 i hi
  · have hi' : i < (tkL J known 0).length := by omega
    have hlt := tkL_lt hN hi'
    generalize hq : (tkL J known 0).getD i 0 = q at hlt
    have hgd : (tkL J known 0 ++ [6]).getD i 0 = q := by rw [getD_app_l hi']; exact hq
    obtain ⟨n1, n2⟩ := hN.2 q hlt
    have eo : J' 350 q = J 350 q := hm _ _ (by unfold mper scr; simp; omega)
    have a1 : (up J 350 6 (t : Int)) 350 q = J 350 q := up_nk (by omega)
    have a2 : (up J' 350 6 (t : Int)) 350 q = J 350 q := by rw [up_nk (by omega)]; exact eo
    show ((up J' 350 6 (t : Int)) 350 ((tkL J known 0 ++ [6]).getD i 0)).toNat = ((up J 350 6 (t : Int)) 350 ((tkL J known 0 ++ [6]).getD i 0)).toNat ∧ spOf (up J' 350 6 (t : Int)) ((tkL J known 0 ++ [6]).getD i 0) known = spOf (up J 350 6 (t : Int)) ((tkL J known 0 ++ [6]).getD i 0) known ∧ ((up J' 350 6 (t : Int)) 316 ((up J 350 6 (t : Int)) 350 ((tkL J known 0 ++ [6]).getD i 0)).toNat).toNat = ((up J 350 6 (t : Int)) 316 ((up J 350 6 (t : Int)) 350 ((tkL J known 0 ++ [6]).getD i 0)).toNat).toNat ∧ ∀ u, u < ((up J 350 6 (t : Int)) 316 ((up J 350 6 (t : Int)) 350 ((tkL J known 0 ++ [6]).getD i 0)).toNat).toNat → ((up J' 350 6 (t : Int)) 317 (8 * ((up J 350 6 (t : Int)) 350 ((tkL J known 0 ++ [6]).getD i 0)).toNat + u)).toNat = ((up J 350 6 (t : Int)) 317 (8 * ((up J 350 6 (t : Int)) 350 ((tkL J known 0 ++ [6]).getD i 0)).toNat + u)).toNat ∧ ∀ q, q < ((up J 350 6 (t : Int)) 317 (8 * ((up J 350 6 (t : Int)) 350 ((tkL J known 0 ++ [6]).getD i 0)).toNat + u)).toNat → (up J' 350 6 (t : Int)) 318 (6 * (8 * ((up J 350 6 (t : Int)) 350 ((tkL J known 0 ++ [6]).getD i 0)).toNat + u) + q) = (up J 350 6 (t : Int)) 318 (6 * (8 * ((up J 350 6 (t : Int)) 350 ((tkL J known 0 ++ [6]).getD i 0)).toNat + u) + q)
    rw [hgd, a1, a2]
    obtain ⟨k1, k2⟩ := key (J 350 q).toNat (by omega)
    refine ⟨rfl, ?_, by rw [k1], k2⟩
    rw [spOf_mp hX n1 (by omega) hmn, spOf_mp hX n1 (by omega) (kp6 J t).mp]
