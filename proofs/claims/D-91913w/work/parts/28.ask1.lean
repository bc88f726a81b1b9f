/-! the model: sign, pairs, links, classOf -/
set_option maxRecDepth 100000
theorem gX5_sign_0 {w : Wd} {S : Sh} {J : Jm} {Q : Out → Sh → Jm → Prop} (hL : Lay S) (s : Int) (known : Int)
    (K : Br (0 ≤ s ∧ s < 40) (Br (0 ≤ known ∧ known ≤ (up J 313 0 0) 313 1) ((MHeld (up J 313 0 0)) ∧ (∀ (J1 : Jm), PStand (up J 313 0 0) known J1 → (0 ≤ s) ∧ (s < 40) ∧ Q (.inl (some (vI (J1 332 s.toNat)))) S J1)) (Q (.inl (some (vI (-1)))) S (up J 313 0 0))) (Q (.inl (some (vI (-1)))) S (up J 313 0 0))) :
    V w 2 mX5_sign 0 (ent mX5_sign [vR 313, vI s, vI known]) [] S J Q := by
  show V w 2 mX5_sign 0 [some (vR 313), some (vI s), some (vI known)] [] S J Q
  refine v_aload_n dX5_sign_0 rfl ?_
  refine v_iconst dX5_sign_1 (in_lit (by decide)) ?_
  refine v_putI dX5_sign_2 frX5_1_5 (fun _ _ _ h => by cases h; exact Or.inl rfl) rfl rfl zfit_int (L_313 hL).1 ?_
  show V w 2 mX5_sign 5 [some (vR 313), some (vI s), some (vI known)] [] S (up J 313 0 0) Q
  refine v_iload_n dX5_sign_5 rfl ?_
  refine v_callS (d' := 0) (rest := []) [vI s] dX5_sign_6 srX5_288 rfl (one_I one_nil) (Nat.le_of_ble_eq_true rfl) (Nat.le_of_ble_eq_true rfl) (Nat.le_of_ble_eq_true rfl) ?_
  obtain ⟨K1, K2⟩ := K
  refine sX5_isSignNumber hL s  (fun cQ => ?_) (fun cQ => ?_)
  · have K := K1 cQ
    show V w 2 mX5_sign 9 [some (vR 313), some (vI s), some (vI known)] [vI 1] S (up J 313 0 0) Q
    refine v_if_eq 20 dX5_sign_9 (by decide) (fun cQ => absurd cQ (by decide)) (fun _ => ?_)
    refine v_aload_n dX5_sign_12 rfl ?_
    refine v_iload_n dX5_sign_13 rfl ?_
    refine v_callV (d' := 0) (rest := []) [vI known] dX5_sign_14 vrX5_298_5 (L_313 hL).1 rfl rfl (one_I one_nil) (Nat.le_of_ble_eq_true rfl) (Nat.le_of_ble_eq_true rfl) (Nat.le_of_ble_eq_true rfl) ?_
    obtain ⟨K1, K2⟩ := K
    refine sX5_isKnown hL known  (fun cQ => ?_) (fun cQ => ?_)
    · have K := K1 cQ
      show V w 2 mX5_sign 17 [some (vR 313), some (vI s), some (vI known)] [vI 1] S (up J 313 0 0) Q
      refine v_if_ne 22 dX5_sign_17 (by decide) (fun _ => ?_) (fun cQ => absurd cQ (by decide))
      refine v_aload_n dX5_sign_22 rfl ?_
      refine v_iload_n dX5_sign_23 rfl ?_
      refine v_callV (d' := 1) (rest := []) [vI known] dX5_sign_24 vrX5_301_5 (L_313 hL).1 rfl rfl (one_I one_nil) (Nat.le_of_ble_eq_true rfl) (Nat.le_of_ble_eq_true rfl) (Nat.le_of_ble_eq_true rfl) ?_
      obtain ⟨o1, K⟩ := K
      refine s_findStands hL known o1 (fun J1 hp => ?_)
      have K := K J1 hp
      show V w 2 mX5_sign 27 [some (vR 313), some (vI s), some (vI known)] [] S J1 Q
      refine v_aload_n dX5_sign_27 rfl ?_
      refine v_getR dX5_sign_28 frX5_72_5 rfl (L_313 hL).1 (LR_313_31 hL) (Or.inl rfl) ?_
      refine v_iload_n dX5_sign_31 rfl ?_
      obtain ⟨o2, K⟩ := K
      obtain ⟨o3, K⟩ := K
      refine ld_332 dX5_sign_32 hL o2 o3 ?_
      exact v_iret dX5_sign_33 rfl rfl K
    · have K := K2 cQ
      show V w 2 mX5_sign 17 [some (vR 313), some (vI s), some (vI known)] [vI 0] S (up J 313 0 0) Q
      refine v_if_ne 22 dX5_sign_17 (by decide) (fun cQ => absurd cQ (by decide)) (fun _ => ?_)
      refine v_iconst dX5_sign_20 (in_lit (by decide)) ?_
      exact v_iret dX5_sign_21 rfl rfl K
  · have K := K2 cQ
    show V w 2 mX5_sign 9 [some (vR 313), some (vI s), some (vI known)] [vI 0] S (up J 313 0 0) Q
    refine v_if_eq 20 dX5_sign_9 (by decide) (fun _ => ?_) (fun cQ => absurd cQ (by decide))
    refine v_iconst dX5_sign_20 (in_lit (by decide)) ?_
    exact v_iret dX5_sign_21 rfl rfl K
theorem gX5_classOf_0 {w : Wd} {S : Sh} {J : Jm} {Q : Out → Sh → Jm → Prop} (hL : Lay S) (o : Int) (s : Int) (known : Int)
    (K : Br (0 ≤ o ∧ o ≤ 1) (Br (0 ≤ s ∧ s < 40) (Br (0 ≤ known ∧ known ≤ (up J 313 0 0) 313 1) ((MHeld (up J 313 0 0)) ∧ (MTab (up J 313 0 0)) ∧ (MTxt (up J 313 0 0)) ∧ (MShr (up J 313 0 0)) ∧ (∀ (J1 : Jm), PLk (up J 313 0 0) known J1 → (-2147483648 ≤ 40 * o ∧ 40 * o ≤ 2147483647) ∧ (0 ≤ s) ∧ (s < 40) ∧ (-2147483648 ≤ (40 * o) + (J1 332 s.toNat) ∧ (40 * o) + (J1 332 s.toNat) ≤ 2147483647) ∧ (0 ≤ (40 * o) + (J1 332 s.toNat)) ∧ ((40 * o) + (J1 332 s.toNat) < 80) ∧ Q (.inl (some (vI (J1 343 ((40 * o) + (J1 332 s.toNat)).toNat)))) S J1)) (Q (.inl (some (vI (-1)))) S (up J 313 0 0))) (Q (.inl (some (vI (-1)))) S (up J 313 0 0))) (Q (.inl (some (vI (-1)))) S (up J 313 0 0))) :
    V w 4 mX5_classOf 0 (ent mX5_classOf [vR 313, vI o, vI s, vI known]) [] S J Q := by
  show V w 4 mX5_classOf 0 [some (vR 313), some (vI o), some (vI s), some (vI known)] [] S J Q
  refine v_aload_n dX5_classOf_0 rfl ?_
  refine v_iconst dX5_classOf_1 (in_lit (by decide)) ?_
  refine v_putI dX5_classOf_2 frX5_1_5 (fun _ _ _ h => by cases h; exact Or.inl rfl) rfl rfl zfit_int (L_313 hL).1 ?_
  show V w 4 mX5_classOf 5 [some (vR 313), some (vI o), some (vI s), some (vI known)] [] S (up J 313 0 0) Q
  refine v_iload_n dX5_classOf_5 rfl ?_
  refine v_iconst dX5_classOf_6 (in_lit (by decide)) ?_
  refine v_iconst dX5_classOf_7 (in_lit (by decide)) ?_
  refine v_callS (d' := 0) (rest := []) [vI o, vI 0, vI 1] dX5_classOf_8 srX5_169 rfl (one_I (one_I (one_I one_nil))) (Nat.le_of_ble_eq_true rfl) (Nat.le_of_ble_eq_true rfl) (Nat.le_of_ble_eq_true rfl) ?_
  obtain ⟨K1, K2⟩ := K
  refine sX5_within hL o 0 1  (fun cQ => ?_) (fun cQ => ?_)
  · have K := K1 cQ
    show V w 4 mX5_classOf 11 [some (vR 313), some (vI o), some (vI s), some (vI known)] [vI 1] S (up J 313 0 0) Q
    refine v_if_eq 29 dX5_classOf_11 (by decide) (fun cQ => absurd cQ (by decide)) (fun _ => ?_)
    refine v_iload_n dX5_classOf_14 rfl ?_
    refine v_callS (d' := 0) (rest := []) [vI s] dX5_classOf_15 srX5_288 rfl (one_I one_nil) (Nat.le_of_ble_eq_true rfl) (Nat.le_of_ble_eq_true rfl) (Nat.le_of_ble_eq_true rfl) ?_
    obtain ⟨K1, K2⟩ := K
    refine sX5_isSignNumber hL s  (fun cQ => ?_) (fun cQ => ?_)
    · have K := K1 cQ
      show V w 4 mX5_classOf 18 [some (vR 313), some (vI o), some (vI s), some (vI known)] [vI 1] S (up J 313 0 0) Q
      refine v_if_eq 29 dX5_classOf_18 (by decide) (fun cQ => absurd cQ (by decide)) (fun _ => ?_)
      refine v_aload_n dX5_classOf_21 rfl ?_
      refine v_iload_n dX5_classOf_22 rfl ?_
      refine v_callV (d' := 0) (rest := []) [vI known] dX5_classOf_23 vrX5_298_5 (L_313 hL).1 rfl rfl (one_I one_nil) (Nat.le_of_ble_eq_true rfl) (Nat.le_of_ble_eq_true rfl) (Nat.le_of_ble_eq_true rfl) ?_
      obtain ⟨K1, K2⟩ := K
      refine sX5_isKnown hL known  (fun cQ => ?_) (fun cQ => ?_)
      · have K := K1 cQ
        show V w 4 mX5_classOf 26 [some (vR 313), some (vI o), some (vI s), some (vI known)] [vI 1] S (up J 313 0 0) Q
        refine v_if_ne 31 dX5_classOf_26 (by decide) (fun _ => ?_) (fun cQ => absurd cQ (by decide))
        refine v_aload_n dX5_classOf_31 rfl ?_
        refine v_iload_n dX5_classOf_32 rfl ?_
        refine v_callV (d' := 3) (rest := []) [vI known] dX5_classOf_33 vrX5_345_5 (L_313 hL).1 rfl rfl (one_I one_nil) (Nat.le_of_ble_eq_true rfl) (Nat.le_of_ble_eq_true rfl) (Nat.le_of_ble_eq_true rfl) ?_
        obtain ⟨o1, K⟩ := K
        obtain ⟨o2, K⟩ := K
        obtain ⟨o3, K⟩ := K
        obtain ⟨o4, K⟩ := K
        refine s_findLinks hL known o1 o2 o3 o4 (fun J1 hp => ?_)
        have K := K J1 hp
        show V w 4 mX5_classOf 36 [some (vR 313), some (vI o), some (vI s), some (vI known)] [] S J1 Q
        refine v_aload_n dX5_classOf_36 rfl ?_
        refine v_getR dX5_classOf_37 frX5_106_5 rfl (L_313 hL).1 (LR_313_44 hL) (Or.inl rfl) ?_
        refine v_bipush dX5_classOf_40 (by decide) (in_lit (by decide)) ?_
        refine v_iload_n dX5_classOf_42 rfl ?_
        obtain ⟨o5, K⟩ := K
        refine v_imul dX5_classOf_43 o5 ?_
        refine v_aload_n dX5_classOf_44 rfl ?_
        refine v_getR dX5_classOf_45 frX5_72_5 rfl (L_313 hL).1 (LR_313_31 hL) (Or.inl rfl) ?_
        refine v_iload_n dX5_classOf_48 rfl ?_
        obtain ⟨o6, K⟩ := K
        obtain ⟨o7, K⟩ := K
        refine ld_332 dX5_classOf_49 hL o6 o7 ?_
        obtain ⟨o8, K⟩ := K
        refine v_iadd dX5_classOf_50 o8 ?_
        obtain ⟨o9, K⟩ := K
        obtain ⟨o10, K⟩ := K
        refine ld_343 dX5_classOf_51 hL o9 o10 ?_
        exact v_iret dX5_classOf_52 rfl rfl K
      · have K := K2 cQ
        show V w 4 mX5_classOf 26 [some (vR 313), some (vI o), some (vI s), some (vI known)] [vI 0] S (up J 313 0 0) Q
        refine v_if_ne 31 dX5_classOf_26 (by decide) (fun cQ => absurd cQ (by decide)) (fun _ => ?_)
        refine v_iconst dX5_classOf_29 (in_lit (by decide)) ?_
        exact v_iret dX5_classOf_30 rfl rfl K
    · have K := K2 cQ
      show V w 4 mX5_classOf 18 [some (vR 313), some (vI o), some (vI s), some (vI known)] [vI 0] S (up J 313 0 0) Q
      refine v_if_eq 29 dX5_classOf_18 (by decide) (fun _ => ?_) (fun cQ => absurd cQ (by decide))
      refine v_iconst dX5_classOf_29 (in_lit (by decide)) ?_
      exact v_iret dX5_classOf_30 rfl rfl K
  · have K := K2 cQ
    show V w 4 mX5_classOf 11 [some (vR 313), some (vI o), some (vI s), some (vI known)] [vI 0] S (up J 313 0 0) Q
    refine v_if_eq 29 dX5_classOf_11 (by decide) (fun _ => ?_) (fun cQ => absurd cQ (by decide))
    refine v_iconst dX5_classOf_29 (in_lit (by decide)) ?_
    exact v_iret dX5_classOf_30 rfl rfl K
theorem gX5_links_0 {w : Wd} {S : Sh} {J : Jm} {Q : Out → Sh → Jm → Prop} (hL : Lay S) (o : Int) (known : Int)
    (K : Br (0 ≤ o ∧ o ≤ 1) (Br (0 ≤ known ∧ known ≤ (up J 313 0 0) 313 1) ((MHeld (up J 313 0 0)) ∧ (MTab (up J 313 0 0)) ∧ (MTxt (up J 313 0 0)) ∧ (MShr (up J 313 0 0)) ∧ (∀ (J1 : Jm), PLk (up J 313 0 0) known J1 → V w 4 mX5_links 34 [some (vR 313), some (vI o), none, some (vI 0), some (vI 0)] [] S J1 Q)) (Q (.inl (some (vI (-1)))) S (up J 313 0 0))) (Q (.inl (some (vI (-1)))) S (up J 313 0 0))) :
    V w 4 mX5_links 0 (ent mX5_links [vR 313, vI o, vI known]) [] S J Q := by
  show V w 4 mX5_links 0 [some (vR 313), some (vI o), some (vI known), none, none] [] S J Q
  refine v_aload_n dX5_links_0 rfl ?_
  refine v_iconst dX5_links_1 (in_lit (by decide)) ?_
  refine v_putI dX5_links_2 frX5_1_5 (fun _ _ _ h => by cases h; exact Or.inl rfl) rfl rfl zfit_int (L_313 hL).1 ?_
  show V w 4 mX5_links 5 [some (vR 313), some (vI o), some (vI known), none, none] [] S (up J 313 0 0) Q
  refine v_iload_n dX5_links_5 rfl ?_
  refine v_iconst dX5_links_6 (in_lit (by decide)) ?_
  refine v_iconst dX5_links_7 (in_lit (by decide)) ?_
  refine v_callS (d' := 0) (rest := []) [vI o, vI 0, vI 1] dX5_links_8 srX5_169 rfl (one_I (one_I (one_I one_nil))) (Nat.le_of_ble_eq_true rfl) (Nat.le_of_ble_eq_true rfl) (Nat.le_of_ble_eq_true rfl) ?_
  obtain ⟨K1, K2⟩ := K
  refine sX5_within hL o 0 1  (fun cQ => ?_) (fun cQ => ?_)
  · have K := K1 cQ
    show V w 4 mX5_links 11 [some (vR 313), some (vI o), some (vI known), none, none] [vI 1] S (up J 313 0 0) Q
    refine v_if_eq 22 dX5_links_11 (by decide) (fun cQ => absurd cQ (by decide)) (fun _ => ?_)
    refine v_aload_n dX5_links_14 rfl ?_
    refine v_iload_n dX5_links_15 rfl ?_
    refine v_callV (d' := 0) (rest := []) [vI known] dX5_links_16 vrX5_298_5 (L_313 hL).1 rfl rfl (one_I one_nil) (Nat.le_of_ble_eq_true rfl) (Nat.le_of_ble_eq_true rfl) (Nat.le_of_ble_eq_true rfl) ?_
    obtain ⟨K1, K2⟩ := K
    refine sX5_isKnown hL known  (fun cQ => ?_) (fun cQ => ?_)
    · have K := K1 cQ
      show V w 4 mX5_links 19 [some (vR 313), some (vI o), some (vI known), none, none] [vI 1] S (up J 313 0 0) Q
      refine v_if_ne 24 dX5_links_19 (by decide) (fun _ => ?_) (fun cQ => absurd cQ (by decide))
      refine v_aload_n dX5_links_24 rfl ?_
      refine v_iload_n dX5_links_25 rfl ?_
      refine v_callV (d' := 3) (rest := []) [vI known] dX5_links_26 vrX5_345_5 (L_313 hL).1 rfl rfl (one_I one_nil) (Nat.le_of_ble_eq_true rfl) (Nat.le_of_ble_eq_true rfl) (Nat.le_of_ble_eq_true rfl) ?_
      obtain ⟨o1, K⟩ := K
      obtain ⟨o2, K⟩ := K
      obtain ⟨o3, K⟩ := K
      obtain ⟨o4, K⟩ := K
      refine s_findLinks hL known o1 o2 o3 o4 (fun J1 hp => ?_)
      have K := K J1 hp
      show V w 4 mX5_links 29 [some (vR 313), some (vI o), some (vI known), none, none] [] S J1 Q
      refine v_iconst dX5_links_29 (in_lit (by decide)) ?_
      refine v_istore_n dX5_links_30 (Nat.le_of_ble_eq_true rfl) ?_
      show V w 4 mX5_links 31 [some (vR 313), some (vI o), some (vI known), some (vI 0), none] [] S J1 Q
      refine v_iconst dX5_links_31 (in_lit (by decide)) ?_
      refine v_istore dX5_links_32 (Nat.le_of_ble_eq_true rfl) ?_
      show V w 4 mX5_links 34 [some (vR 313), some (vI o), some (vI known), some (vI 0), some (vI 0)] [] S J1 Q
      exact v_forget (fg_some (fg_some (fg_none (fg_some (fg_some fg_nil))))) K
    · have K := K2 cQ
      show V w 4 mX5_links 19 [some (vR 313), some (vI o), some (vI known), none, none] [vI 0] S (up J 313 0 0) Q
      refine v_if_ne 24 dX5_links_19 (by decide) (fun cQ => absurd cQ (by decide)) (fun _ => ?_)
      refine v_iconst dX5_links_22 (in_lit (by decide)) ?_
      exact v_iret dX5_links_23 rfl rfl K
  · have K := K2 cQ
    show V w 4 mX5_links 11 [some (vR 313), some (vI o), some (vI known), none, none] [vI 0] S (up J 313 0 0) Q
    refine v_if_eq 22 dX5_links_11 (by decide) (fun _ => ?_) (fun cQ => absurd cQ (by decide))
    refine v_iconst dX5_links_22 (in_lit (by decide)) ?_
    exact v_iret dX5_links_23 rfl rfl K
theorem gX5_links_34 {w : Wd} {S : Sh} {J : Jm} {Q : Out → Sh → Jm → Prop} (hL : Lay S) (o : Int) (n : Int) (k : Nat)
    (K : Br (1600 ≤ ((k : Nat) : Int)) (Q (.inl (some (vI n))) S J) ((-2147483648 ≤ 1600 * o ∧ 1600 * o ≤ 2147483647) ∧ (-2147483648 ≤ (1600 * o) + ((k : Nat) : Int) ∧ (1600 * o) + ((k : Nat) : Int) ≤ 2147483647) ∧ (0 ≤ (1600 * o) + ((k : Nat) : Int)) ∧ ((1600 * o) + ((k : Nat) : Int) < 3200) ∧ Br (J 341 ((1600 * o) + ((k : Nat) : Int)).toNat = 0) ((-2147483648 ≤ ((k : Nat) : Int) + 1 ∧ ((k : Nat) : Int) + 1 ≤ 2147483647) ∧ V w 4 mX5_links 34 [some (vR 313), some (vI o), none, some (vI n), some (vI ((k + 1 : Nat) : Int))] [] S J Q) (Br (((k % 40 : Nat) : Int) ≤ ((k / 40 : Nat) : Int)) ((-2147483648 ≤ ((k : Nat) : Int) + 1 ∧ ((k : Nat) : Int) + 1 ≤ 2147483647) ∧ V w 4 mX5_links 34 [some (vR 313), some (vI o), none, some (vI n), some (vI ((k + 1 : Nat) : Int))] [] S J Q) ((-2147483648 ≤ n + 1 ∧ n + 1 ≤ 2147483647) ∧ (-2147483648 ≤ ((k : Nat) : Int) + 1 ∧ ((k : Nat) : Int) + 1 ≤ 2147483647) ∧ V w 4 mX5_links 34 [some (vR 313), some (vI o), none, some (vI (n + 1)), some (vI ((k + 1 : Nat) : Int))] [] S J Q)))) :
    V w 4 mX5_links 34 [some (vR 313), some (vI o), none, some (vI n), some (vI ((k : Nat) : Int))] [] S J Q := by
  refine v_iload dX5_links_34 rfl ?_
  refine v_sipush dX5_links_36 (by decide) (in_lit (by decide)) ?_
  obtain ⟨K1, K2⟩ := K
  refine v_icmp_ge 80 dX5_links_39 (by decide) (fun cQ => ?_) (fun cQ => ?_)
  · have K := K1 cQ
    refine v_iload_n dX5_links_80 rfl ?_
    exact v_iret dX5_links_81 rfl rfl K
  · have K := K2 cQ
    refine v_aload_n dX5_links_42 rfl ?_
    refine v_getR dX5_links_43 frX5_100_5 rfl (L_313 hL).1 (LR_313_42 hL) (Or.inl rfl) ?_
    refine v_sipush dX5_links_46 (by decide) (in_lit (by decide)) ?_
    refine v_iload_n dX5_links_49 rfl ?_
    obtain ⟨o1, K⟩ := K
    refine v_imul dX5_links_50 o1 ?_
    refine v_iload dX5_links_51 rfl ?_
    obtain ⟨o2, K⟩ := K
    refine v_iadd dX5_links_53 o2 ?_
    obtain ⟨o3, K⟩ := K
    obtain ⟨o4, K⟩ := K
    refine ld_341 dX5_links_54 hL o3 o4 ?_
    obtain ⟨K1, K2⟩ := K
    refine v_if_eq 74 dX5_links_55 (by decide) (fun cQ => ?_) (fun cQ => ?_)
    · have K := K1 cQ
      obtain ⟨o5, K⟩ := K
      refine v_iinc dX5_links_74 rfl o5 ?_
      show V w 4 mX5_links 77 [some (vR 313), some (vI o), none, some (vI n), some (vI ((k + 1 : Nat) : Int))] [] S J Q
      refine v_goto 34 dX5_links_77 (by decide) ?_
      exact K
    · have K := K2 cQ
      refine v_iload dX5_links_58 rfl ?_
      refine v_bipush dX5_links_60 (by decide) (in_lit (by decide)) ?_
      refine v_idiv dX5_links_62 (by omega) (by decide) ?_
      show V w 4 mX5_links 63 [some (vR 313), some (vI o), none, some (vI n), some (vI ((k : Nat) : Int))] [vI ((k / 40 : Nat) : Int)] S J Q
      refine v_iload dX5_links_63 rfl ?_
      refine v_bipush dX5_links_65 (by decide) (in_lit (by decide)) ?_
      refine v_irem dX5_links_67 (by omega) (by decide) ?_
      show V w 4 mX5_links 68 [some (vR 313), some (vI o), none, some (vI n), some (vI ((k : Nat) : Int))] [vI ((k % 40 : Nat) : Int), vI ((k / 40 : Nat) : Int)] S J Q
      obtain ⟨K1, K2⟩ := K
      refine v_icmp_ge 74 dX5_links_68 (by decide) (fun cQ => ?_) (fun cQ => ?_)
      · have K := K1 cQ
        obtain ⟨o6, K⟩ := K
        refine v_iinc dX5_links_74 rfl o6 ?_
        show V w 4 mX5_links 77 [some (vR 313), some (vI o), none, some (vI n), some (vI ((k + 1 : Nat) : Int))] [] S J Q
        refine v_goto 34 dX5_links_77 (by decide) ?_
        exact K
      · have K := K2 cQ
        obtain ⟨o7, K⟩ := K
        refine v_iinc dX5_links_71 rfl o7 ?_
        show V w 4 mX5_links 74 [some (vR 313), some (vI o), none, some (vI (n + 1)), some (vI ((k : Nat) : Int))] [] S J Q
        obtain ⟨o8, K⟩ := K
        refine v_iinc dX5_links_74 rfl o8 ?_
        show V w 4 mX5_links 77 [some (vR 313), some (vI o), none, some (vI (n + 1)), some (vI ((k + 1 : Nat) : Int))] [] S J Q
        refine v_goto 34 dX5_links_77 (by decide) ?_
        exact K
theorem gX5_pairs_0 {w : Wd} {S : Sh} {J : Jm} {Q : Out → Sh → Jm → Prop} (hL : Lay S) (c : Int) (a : Int) (b : Int) (known : Int)
    (K : Br (0 ≤ a ∧ a < 40) (Br (0 ≤ b ∧ b < 40) (Br (0 ≤ known ∧ known ≤ (up J 313 0 0) 313 1) ((0 ≤ (up J 313 0 0) 313 8 ∧ (up J 313 0 0) 313 8 ≤ 10) ∧ Br (rbOf (up J 313 0 0) known = (-1)) (Q (.inl (some (vI (-1)))) S (up J 313 0 0)) ((0 ≤ rbOf (up J 313 0 0) known) ∧ (rbOf (up J 313 0 0) known < 11) ∧ (-2147483648 ≤ (J 320 (rbOf (up J 313 0 0) known).toNat) - 1 ∧ (J 320 (rbOf (up J 313 0 0) known).toNat) - 1 ≤ 2147483647) ∧ Br (0 ≤ c ∧ c ≤ ((J 320 (rbOf (up J 313 0 0) known).toNat) - 1)) ((MHeld (up J 313 0 0)) ∧ (∀ (J1 : Jm), PStand (up J 313 0 0) known J1 → (MTab J1) ∧ (∀ (J2 : Jm), (FW J1 J2 ∧ PWh J2 (whOf J1 (J1 332) known)) → (-2147483648 ≤ 12 * (rbOf (up J 313 0 0) known) ∧ 12 * (rbOf (up J 313 0 0) known) ≤ 2147483647) ∧ (-2147483648 ≤ (12 * (rbOf (up J 313 0 0) known)) + c ∧ (12 * (rbOf (up J 313 0 0) known)) + c ≤ 2147483647) ∧ (0 ≤ (12 * (rbOf (up J 313 0 0) known)) + c) ∧ ((12 * (rbOf (up J 313 0 0) known)) + c < 132) ∧ Br (1 < J2 321 ((12 * (rbOf (up J 313 0 0) known)) + c).toNat) (Q (.inl (some (vI 0))) S J2) ((0 ≤ a) ∧ (a < 40) ∧ (0 ≤ b) ∧ (b < 40) ∧ Br (J2 332 a.toNat = J2 332 b.toNat) (Q (.inl (some (vI 0))) S J2) ((-2147483648 ≤ 12 * (rbOf (up J 313 0 0) known) ∧ 12 * (rbOf (up J 313 0 0) known) ≤ 2147483647) ∧ (-2147483648 ≤ (12 * (rbOf (up J 313 0 0) known)) + c ∧ (12 * (rbOf (up J 313 0 0) known)) + c ≤ 2147483647) ∧ (0 ≤ a) ∧ (a < 40) ∧ (0 ≤ b) ∧ (b < 40) ∧ V w 2 mX5_pairsOf 0 (ent mX5_pairsOf [vR 313, vI ((12 * (rbOf (up J 313 0 0) known)) + c), vI (J2 332 a.toNat), vI (J2 332 b.toNat)]) [] S J2 (CallQ w 3 mX5_pairs 130 [some (vR 313), some (vI c), some (vI a), some (vI b), some (vI known), some (vI (rbOf (up J 313 0 0) known))] [] Q)))))) (Q (.inl (some (vI (-1)))) S (up J 313 0 0)))) (Q (.inl (some (vI (-1)))) S (up J 313 0 0))) (Q (.inl (some (vI (-1)))) S (up J 313 0 0))) (Q (.inl (some (vI (-1)))) S (up J 313 0 0))) :
    V w 3 mX5_pairs 0 (ent mX5_pairs [vR 313, vI c, vI a, vI b, vI known]) [] S J Q := by
  show V w 3 mX5_pairs 0 [some (vR 313), some (vI c), some (vI a), some (vI b), some (vI known), none] [] S J Q
  refine v_aload_n dX5_pairs_0 rfl ?_
  refine v_iconst dX5_pairs_1 (in_lit (by decide)) ?_
  refine v_putI dX5_pairs_2 frX5_1_5 (fun _ _ _ h => by cases h; exact Or.inl rfl) rfl rfl zfit_int (L_313 hL).1 ?_
  show V w 3 mX5_pairs 5 [some (vR 313), some (vI c), some (vI a), some (vI b), some (vI known), none] [] S (up J 313 0 0) Q
  refine v_iload_n dX5_pairs_5 rfl ?_
  refine v_callS (d' := 0) (rest := []) [vI a] dX5_pairs_6 srX5_288 rfl (one_I one_nil) (Nat.le_of_ble_eq_true rfl) (Nat.le_of_ble_eq_true rfl) (Nat.le_of_ble_eq_true rfl) ?_
  obtain ⟨K1, K2⟩ := K
  refine sX5_isSignNumber hL a  (fun cQ => ?_) (fun cQ => ?_)
  · have K := K1 cQ
    show V w 3 mX5_pairs 9 [some (vR 313), some (vI c), some (vI a), some (vI b), some (vI known), none] [vI 1] S (up J 313 0 0) Q
    refine v_if_eq 28 dX5_pairs_9 (by decide) (fun cQ => absurd cQ (by decide)) (fun _ => ?_)
    refine v_iload_n dX5_pairs_12 rfl ?_
    refine v_callS (d' := 0) (rest := []) [vI b] dX5_pairs_13 srX5_288 rfl (one_I one_nil) (Nat.le_of_ble_eq_true rfl) (Nat.le_of_ble_eq_true rfl) (Nat.le_of_ble_eq_true rfl) ?_
    obtain ⟨K1, K2⟩ := K
    refine sX5_isSignNumber hL b  (fun cQ => ?_) (fun cQ => ?_)
    · have K := K1 cQ
      show V w 3 mX5_pairs 16 [some (vR 313), some (vI c), some (vI a), some (vI b), some (vI known), none] [vI 1] S (up J 313 0 0) Q
      refine v_if_eq 28 dX5_pairs_16 (by decide) (fun cQ => absurd cQ (by decide)) (fun _ => ?_)
      refine v_aload_n dX5_pairs_19 rfl ?_
      refine v_iload dX5_pairs_20 rfl ?_
      refine v_callV (d' := 0) (rest := []) [vI known] dX5_pairs_22 vrX5_298_5 (L_313 hL).1 rfl rfl (one_I one_nil) (Nat.le_of_ble_eq_true rfl) (Nat.le_of_ble_eq_true rfl) (Nat.le_of_ble_eq_true rfl) ?_
      obtain ⟨K1, K2⟩ := K
      refine sX5_isKnown hL known  (fun cQ => ?_) (fun cQ => ?_)
      · have K := K1 cQ
        show V w 3 mX5_pairs 25 [some (vR 313), some (vI c), some (vI a), some (vI b), some (vI known), none] [vI 1] S (up J 313 0 0) Q
        refine v_if_ne 30 dX5_pairs_25 (by decide) (fun _ => ?_) (fun cQ => absurd cQ (by decide))
        refine v_aload_n dX5_pairs_30 rfl ?_
        refine v_iload dX5_pairs_31 rfl ?_
        refine v_callV (d' := 0) (rest := []) [vI known] dX5_pairs_33 vrX5_326_5 (L_313 hL).1 rfl rfl (one_I one_nil) (Nat.le_of_ble_eq_true rfl) (Nat.le_of_ble_eq_true rfl) (Nat.le_of_ble_eq_true rfl) ?_
        obtain ⟨o1, K⟩ := K
        refine s_rulesBy hL known o1 ?_
        show V w 3 mX5_pairs 36 [some (vR 313), some (vI c), some (vI a), some (vI b), some (vI known), none] [vI (rbOf (up J 313 0 0) known)] S (up J 313 0 0) Q
        refine v_istore dX5_pairs_36 (Nat.le_of_ble_eq_true rfl) ?_
        show V w 3 mX5_pairs 38 [some (vR 313), some (vI c), some (vI a), some (vI b), some (vI known), some (vI (rbOf (up J 313 0 0) known))] [] S (up J 313 0 0) Q
        refine v_iload dX5_pairs_38 rfl ?_
        refine v_iconst dX5_pairs_40 (in_lit (by decide)) ?_
        obtain ⟨K1, K2⟩ := K
        refine v_icmp_eq 61 dX5_pairs_41 (by decide) (fun cQ => ?_) (fun cQ => ?_)
        · have K := K1 cQ
          refine v_iconst dX5_pairs_61 (in_lit (by decide)) ?_
          exact v_iret dX5_pairs_62 rfl rfl K
        · have K := K2 cQ
          refine v_iload_n dX5_pairs_44 rfl ?_
          refine v_iconst dX5_pairs_45 (in_lit (by decide)) ?_
          refine v_aload_n dX5_pairs_46 rfl ?_
          refine v_getR dX5_pairs_47 frX5_32_5 rfl (L_313 hL).1 (LR_313_10 hL) (Or.inl rfl) ?_
          refine v_iload dX5_pairs_50 rfl ?_
          obtain ⟨o2, K⟩ := K
          obtain ⟨o3, K⟩ := K
          refine ld_320 dX5_pairs_52 hL o2 o3 ?_
          show V w 3 mX5_pairs 53 [some (vR 313), some (vI c), some (vI a), some (vI b), some (vI known), some (vI (rbOf (up J 313 0 0) known))] [vI (J 320 (rbOf (up J 313 0 0) known).toNat), vI 0, vI c] S (up J 313 0 0) Q
          refine v_iconst dX5_pairs_53 (in_lit (by decide)) ?_
          obtain ⟨o4, K⟩ := K
          refine v_isub dX5_pairs_54 o4 ?_
          refine v_callS (d' := 0) (rest := []) [vI c, vI 0, vI ((J 320 (rbOf (up J 313 0 0) known).toNat) - 1)] dX5_pairs_55 srX5_169 rfl (one_I (one_I (one_I one_nil))) (Nat.le_of_ble_eq_true rfl) (Nat.le_of_ble_eq_true rfl) (Nat.le_of_ble_eq_true rfl) ?_
          obtain ⟨K1, K2⟩ := K
          refine sX5_within hL c 0 ((J 320 (rbOf (up J 313 0 0) known).toNat) - 1)  (fun cQ => ?_) (fun cQ => ?_)
          · have K := K1 cQ
            show V w 3 mX5_pairs 58 [some (vR 313), some (vI c), some (vI a), some (vI b), some (vI known), some (vI (rbOf (up J 313 0 0) known))] [vI 1] S (up J 313 0 0) Q
            refine v_if_ne 63 dX5_pairs_58 (by decide) (fun _ => ?_) (fun cQ => absurd cQ (by decide))
            refine v_aload_n dX5_pairs_63 rfl ?_
            refine v_iload dX5_pairs_64 rfl ?_
            refine v_callV (d' := 1) (rest := []) [vI known] dX5_pairs_66 vrX5_301_5 (L_313 hL).1 rfl rfl (one_I one_nil) (Nat.le_of_ble_eq_true rfl) (Nat.le_of_ble_eq_true rfl) (Nat.le_of_ble_eq_true rfl) ?_
            obtain ⟨o5, K⟩ := K
            refine s_findStands hL known o5 (fun J1 hp => ?_)
            have K := K J1 hp
            show V w 3 mX5_pairs 69 [some (vR 313), some (vI c), some (vI a), some (vI b), some (vI known), some (vI (rbOf (up J 313 0 0) known))] [] S J1 Q
            refine v_aload_n dX5_pairs_69 rfl ?_
            refine v_iload dX5_pairs_70 rfl ?_
            refine v_callV (d' := 2) (rest := []) [vI known] dX5_pairs_72 vrX5_329_5 (L_313 hL).1 rfl rfl (one_I one_nil) (Nat.le_of_ble_eq_true rfl) (Nat.le_of_ble_eq_true rfl) (Nat.le_of_ble_eq_true rfl) ?_
            obtain ⟨o6, K⟩ := K
            refine s_findWholesR hL known o6 (fun J2 hp => ?_)
            have K := K J2 hp
            show V w 3 mX5_pairs 75 [some (vR 313), some (vI c), some (vI a), some (vI b), some (vI known), some (vI (rbOf (up J 313 0 0) known))] [] S J2 Q
            refine v_aload_n dX5_pairs_75 rfl ?_
            refine v_getR dX5_pairs_76 frX5_35_5 rfl (L_313 hL).1 (LR_313_11 hL) (Or.inl rfl) ?_
            refine v_bipush dX5_pairs_79 (by decide) (in_lit (by decide)) ?_
            refine v_iload dX5_pairs_81 rfl ?_
            obtain ⟨o7, K⟩ := K
            refine v_imul dX5_pairs_83 o7 ?_
            refine v_iload_n dX5_pairs_84 rfl ?_
            obtain ⟨o8, K⟩ := K
            refine v_iadd dX5_pairs_85 o8 ?_
            obtain ⟨o9, K⟩ := K
            obtain ⟨o10, K⟩ := K
            refine ld_321 dX5_pairs_86 hL o9 o10 ?_
            refine v_iconst dX5_pairs_87 (in_lit (by decide)) ?_
            obtain ⟨K1, K2⟩ := K
            refine v_icmp_gt 106 dX5_pairs_88 (by decide) (fun cQ => ?_) (fun cQ => ?_)
            · have K := K1 cQ
              refine v_iconst dX5_pairs_106 (in_lit (by decide)) ?_
              refine v_goto 133 dX5_pairs_107 (by decide) ?_
              exact v_iret dX5_pairs_133 rfl rfl K
            · have K := K2 cQ
              refine v_aload_n dX5_pairs_91 rfl ?_
              refine v_getR dX5_pairs_92 frX5_72_5 rfl (L_313 hL).1 (LR_313_31 hL) (Or.inl rfl) ?_
              refine v_iload_n dX5_pairs_95 rfl ?_
              obtain ⟨o11, K⟩ := K
              obtain ⟨o12, K⟩ := K
              refine ld_332 dX5_pairs_96 hL o11 o12 ?_
              refine v_aload_n dX5_pairs_97 rfl ?_
              refine v_getR dX5_pairs_98 frX5_72_5 rfl (L_313 hL).1 (LR_313_31 hL) (Or.inl rfl) ?_
              refine v_iload_n dX5_pairs_101 rfl ?_
              obtain ⟨o13, K⟩ := K
              obtain ⟨o14, K⟩ := K
              refine ld_332 dX5_pairs_102 hL o13 o14 ?_
              obtain ⟨K1, K2⟩ := K
              refine v_icmp_ne 110 dX5_pairs_103 (by decide) (fun cQ => ?_) (fun cQ => ?_)
              · have K := K2 cQ
                refine v_aload_n dX5_pairs_110 rfl ?_
                refine v_bipush dX5_pairs_111 (by decide) (in_lit (by decide)) ?_
                refine v_iload dX5_pairs_113 rfl ?_
                obtain ⟨o15, K⟩ := K
                refine v_imul dX5_pairs_115 o15 ?_
                refine v_iload_n dX5_pairs_116 rfl ?_
                obtain ⟨o16, K⟩ := K
                refine v_iadd dX5_pairs_117 o16 ?_
                refine v_aload_n dX5_pairs_118 rfl ?_
                refine v_getR dX5_pairs_119 frX5_72_5 rfl (L_313 hL).1 (LR_313_31 hL) (Or.inl rfl) ?_
                refine v_iload_n dX5_pairs_122 rfl ?_
                obtain ⟨o17, K⟩ := K
                obtain ⟨o18, K⟩ := K
                refine ld_332 dX5_pairs_123 hL o17 o18 ?_
                refine v_aload_n dX5_pairs_124 rfl ?_
                refine v_getR dX5_pairs_125 frX5_72_5 rfl (L_313 hL).1 (LR_313_31 hL) (Or.inl rfl) ?_
                refine v_iload_n dX5_pairs_128 rfl ?_
                obtain ⟨o19, K⟩ := K
                obtain ⟨o20, K⟩ := K
                refine ld_332 dX5_pairs_129 hL o19 o20 ?_
                refine v_callV (d' := 2) (rest := []) [vI ((12 * (rbOf (up J 313 0 0) known)) + c), vI (J2 332 a.toNat), vI (J2 332 b.toNat)] dX5_pairs_130 vrX5_332_5 (L_313 hL).1 rfl rfl (one_I (one_I (one_I one_nil))) (Nat.le_of_ble_eq_true rfl) (Nat.le_of_ble_eq_true rfl) (Nat.le_of_ble_eq_true rfl) ?_
                exact K
              · have K := K1 cQ
                refine v_iconst dX5_pairs_106 (in_lit (by decide)) ?_
                refine v_goto 133 dX5_pairs_107 (by decide) ?_
                exact v_iret dX5_pairs_133 rfl rfl K
          · have K := K2 cQ
            show V w 3 mX5_pairs 58 [some (vR 313), some (vI c), some (vI a), some (vI b), some (vI known), some (vI (rbOf (up J 313 0 0) known))] [vI 0] S (up J 313 0 0) Q
            refine v_if_ne 63 dX5_pairs_58 (by decide) (fun cQ => absurd cQ (by decide)) (fun _ => ?_)
            refine v_iconst dX5_pairs_61 (in_lit (by decide)) ?_
            exact v_iret dX5_pairs_62 rfl rfl K
      · have K := K2 cQ
        show V w 3 mX5_pairs 25 [some (vR 313), some (vI c), some (vI a), some (vI b), some (vI known), none] [vI 0] S (up J 313 0 0) Q
        refine v_if_ne 30 dX5_pairs_25 (by decide) (fun cQ => absurd cQ (by decide)) (fun _ => ?_)
        refine v_iconst dX5_pairs_28 (in_lit (by decide)) ?_
        exact v_iret dX5_pairs_29 rfl rfl K
    · have K := K2 cQ
      show V w 3 mX5_pairs 16 [some (vR 313), some (vI c), some (vI a), some (vI b), some (vI known), none] [vI 0] S (up J 313 0 0) Q
      refine v_if_eq 28 dX5_pairs_16 (by decide) (fun _ => ?_) (fun cQ => absurd cQ (by decide))
      refine v_iconst dX5_pairs_28 (in_lit (by decide)) ?_
      exact v_iret dX5_pairs_29 rfl rfl K
  · have K := K2 cQ
    show V w 3 mX5_pairs 9 [some (vR 313), some (vI c), some (vI a), some (vI b), some (vI known), none] [vI 0] S (up J 313 0 0) Q
    refine v_if_eq 28 dX5_pairs_9 (by decide) (fun _ => ?_) (fun cQ => absurd cQ (by decide))
    refine v_iconst dX5_pairs_28 (in_lit (by decide)) ?_
    exact v_iret dX5_pairs_29 rfl rfl K

/-- a day is known -/
abbrev kno (J : Jm) (known : Int) : Prop := 0 ≤ known ∧ known ≤ J 313 1
theorem k0 (J : Jm) : Kp J (up J 313 0 0) := Kp.rfl'.up rfl
theorem MTxt.mp {J J' : Jm} (hM : MTxt J) (h : Mp J J') : MTxt J' := by
  obtain ⟨h0, h1⟩ := hM
  have e0 : J' 313 8 = J 313 8 := h _ _ rfl
  refine ⟨by rw [e0]; exact h0, fun t ht => ?_⟩
  rw [e0] at ht
  obtain ⟨a1, a2⟩ := h1 t ht
  have e1 : J' 320 t = J 320 t := h _ _ (by unfold mper scr; simp; omega)
  refine ⟨by rw [e1]; exact a1, fun c hc => ?_⟩
  rw [e1] at hc
  have e2 : J' 321 (12 * t + c) = J 321 (12 * t + c) := h _ _ (by unfold mper scr; simp; omega)
  have e3 : J' 322 (12 * t + c) = J 322 (12 * t + c) := h _ _ (by unfold mper scr; simp; omega)
  have e4 : J' 323 (12 * t + c) = J 323 (12 * t + c) := h _ _ (by unfold mper scr; simp; omega)
  have e5 : J' 324 (12 * t + c) = J 324 (12 * t + c) := h _ _ (by unfold mper scr; simp; omega)
  rw [e2, e3, e4, e5]
  exact a2 c hc
theorem MShr.mp {J J' : Jm} (hM : MShr J) (h : Mp J J') : MShr J' := by
  unfold MShr at *
  simp only [h 313 32 rfl, h 333 _ rfl, h 334 _ rfl, h 335 _ rfl, h 336 _ rfl]
  exact hM
noncomputable def rSign (J : Jm) (s known : Int) : Int := if (0 ≤ s ∧ s < 40) ∧ kno J known then ((labOf (EH J known) s.toNat : Nat) : Int) else -1
theorem m_sign {w : Wd} {S : Sh} {J : Jm} {Q : Out → Sh → Jm → Prop} (hL : Lay S) (s known : Int) (hH : MHeld J) (K : ∀ J', Kp J J' → Q (.inl (some (vI (rSign J s known)))) S J') : V w 2 mX5_sign 0 (ent mX5_sign [vR 313, vI s, vI known]) [] S J Q := by
  have e : (up J 313 0 0) 313 1 = J 313 1 := up_nk (by decide)
  have hm := (k0 J).mp
  refine gX5_sign_0 hL s known ?_
  rw [e]
  refine br_i (fun h1 => br_i (fun h2 => ⟨hH.mp hm, fun J1 hp => ⟨by omega, by omega, ?_⟩⟩) (fun h2 => ?_)) (fun h1 => ?_)
  · have := K J1 ((k0 J).trans (Kp.arr scr_stand hp.1))
    unfold rSign at this
    rw [if_pos ⟨h1, h2⟩, ← EH_mp hm known, ← hp.2 s.toNat (by omega)] at this
    exact this
  · have := K _ (k0 J)
    unfold rSign at this
    rw [if_neg (fun q => h2 q.2)] at this
    exact this
  · have := K _ (k0 J)
    unfold rSign at this
    rw [if_neg (fun q => h1 q.1)] at this
    exact this
