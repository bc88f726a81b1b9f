/-! the model: ways are gone through -/
set_option maxRecDepth 100000
theorem gX5_tries_0 {w : Wd} {S : Sh} {J : Jm} {Q : Out → Sh → Jm → Prop} (hL : Lay S) (k : Nat)
    (K : (((k : Nat) : Int) < 7) ∧ V w 2 mX5_tries 9 [some (vR 313), some (vI ((k : Nat) : Int)), some (vI (J 356 k)), some (vI 0)] [] S J Q) :
    V w 2 mX5_tries 0 (ent mX5_tries [vR 313, vI ((k : Nat) : Int)]) [] S J Q := by
  show V w 2 mX5_tries 0 [some (vR 313), some (vI ((k : Nat) : Int)), none, none] [] S J Q
  refine v_aload_n dX5_tries_0 rfl ?_
  refine v_getR dX5_tries_1 frX5_145_5 rfl (L_313 hL).1 (LR_313_65 hL) (Or.inl rfl) ?_
  refine v_iload_n dX5_tries_4 rfl ?_
  obtain ⟨o1, K⟩ := K
  refine ld_356 dX5_tries_5 hL (by omega) o1 ?_
  show V w 2 mX5_tries 6 [some (vR 313), some (vI ((k : Nat) : Int)), none, none] [vI (J 356 k)] S J Q
  refine v_istore_n dX5_tries_6 (Nat.le_of_ble_eq_true rfl) ?_
  show V w 2 mX5_tries 7 [some (vR 313), some (vI ((k : Nat) : Int)), some (vI (J 356 k)), none] [] S J Q
  refine v_iconst dX5_tries_7 (in_lit (by decide)) ?_
  refine v_istore_n dX5_tries_8 (Nat.le_of_ble_eq_true rfl) ?_
  show V w 2 mX5_tries 9 [some (vR 313), some (vI ((k : Nat) : Int)), some (vI (J 356 k)), some (vI 0)] [] S J Q
  exact K
theorem gX5_tries_9 {w : Wd} {S : Sh} {J : Jm} {Q : Out → Sh → Jm → Prop} (hL : Lay S) (k : Nat) (n : Nat) (j : Nat)
    (K : Br (((k : Nat) : Int) ≤ ((j : Nat) : Int)) (V w 2 mX5_tries 59 [some (vR 313), some (vI ((k : Nat) : Int)), some (vI ((n : Nat) : Int)), some (vI 0)] [] S J Q) ((((j : Nat) : Int) < 7) ∧ (0 ≤ J 356 j) ∧ (J 356 j < 7) ∧ (((n : Nat) : Int) < 7) ∧ Br (J 350 (J 356 j).toNat = J 350 n) ((((k : Nat) : Int) < 7) ∧ Br (J 357 j = J 357 k) (Q (.inl (some (vI 0))) S J) ((-2147483648 ≤ ((j : Nat) : Int) + 1 ∧ ((j : Nat) : Int) + 1 ≤ 2147483647) ∧ V w 2 mX5_tries 9 [some (vR 313), some (vI ((k : Nat) : Int)), some (vI ((n : Nat) : Int)), some (vI ((j + 1 : Nat) : Int))] [] S J Q)) ((-2147483648 ≤ ((j : Nat) : Int) + 1 ∧ ((j : Nat) : Int) + 1 ≤ 2147483647) ∧ V w 2 mX5_tries 9 [some (vR 313), some (vI ((k : Nat) : Int)), some (vI ((n : Nat) : Int)), some (vI ((j + 1 : Nat) : Int))] [] S J Q))) :
    V w 2 mX5_tries 9 [some (vR 313), some (vI ((k : Nat) : Int)), some (vI ((n : Nat) : Int)), some (vI ((j : Nat) : Int))] [] S J Q := by
  refine v_iload_n dX5_tries_9 rfl ?_
  refine v_iload_n dX5_tries_10 rfl ?_
  obtain ⟨K1, K2⟩ := K
  refine v_icmp_ge 57 dX5_tries_11 (by decide) (fun c1 => ?_) (fun c1 => ?_)
  · have K := K1 c1
    refine v_iconst dX5_tries_57 (in_lit (by decide)) ?_
    refine v_istore_n dX5_tries_58 (Nat.le_of_ble_eq_true rfl) ?_
    show V w 2 mX5_tries 59 [some (vR 313), some (vI ((k : Nat) : Int)), some (vI ((n : Nat) : Int)), some (vI 0)] [] S J Q
    exact K
  · have K := K2 c1
    refine v_aload_n dX5_tries_14 rfl ?_
    refine v_getR dX5_tries_15 frX5_127_5 rfl (L_313 hL).1 (LR_313_58 hL) (Or.inl rfl) ?_
    refine v_aload_n dX5_tries_18 rfl ?_
    refine v_getR dX5_tries_19 frX5_145_5 rfl (L_313 hL).1 (LR_313_65 hL) (Or.inl rfl) ?_
    refine v_iload_n dX5_tries_22 rfl ?_
    obtain ⟨o1, K⟩ := K
    refine ld_356 dX5_tries_23 hL (by omega) o1 ?_
    show V w 2 mX5_tries 24 [some (vR 313), some (vI ((k : Nat) : Int)), some (vI ((n : Nat) : Int)), some (vI ((j : Nat) : Int))] [vI (J 356 j), vR 350] S J Q
    obtain ⟨o2, K⟩ := K
    obtain ⟨o3, K⟩ := K
    refine ld_350 dX5_tries_24 hL o2 o3 ?_
    refine v_aload_n dX5_tries_25 rfl ?_
    refine v_getR dX5_tries_26 frX5_127_5 rfl (L_313 hL).1 (LR_313_58 hL) (Or.inl rfl) ?_
    refine v_iload_n dX5_tries_29 rfl ?_
    obtain ⟨o4, K⟩ := K
    refine ld_350 dX5_tries_30 hL (by omega) o4 ?_
    show V w 2 mX5_tries 31 [some (vR 313), some (vI ((k : Nat) : Int)), some (vI ((n : Nat) : Int)), some (vI ((j : Nat) : Int))] [vI (J 350 n), vI (J 350 (J 356 j).toNat)] S J Q
    obtain ⟨K1, K2⟩ := K
    refine v_icmp_ne 51 dX5_tries_31 (by decide) (fun c2 => ?_) (fun c2 => ?_)
    · have K := K2 c2
      obtain ⟨o5, K⟩ := K
      refine v_iinc dX5_tries_51 rfl o5 ?_
      show V w 2 mX5_tries 54 [some (vR 313), some (vI ((k : Nat) : Int)), some (vI ((n : Nat) : Int)), some (vI ((j + 1 : Nat) : Int))] [] S J Q
      refine v_goto 9 dX5_tries_54 (by decide) ?_
      exact K
    · have K := K1 c2
      refine v_aload_n dX5_tries_34 rfl ?_
      refine v_getR dX5_tries_35 frX5_148_5 rfl (L_313 hL).1 (LR_313_66 hL) (Or.inl rfl) ?_
      refine v_iload_n dX5_tries_38 rfl ?_
      refine ld_357 dX5_tries_39 hL (by omega) o1 ?_
      show V w 2 mX5_tries 40 [some (vR 313), some (vI ((k : Nat) : Int)), some (vI ((n : Nat) : Int)), some (vI ((j : Nat) : Int))] [vI (J 357 j)] S J Q
      refine v_aload_n dX5_tries_40 rfl ?_
      refine v_getR dX5_tries_41 frX5_148_5 rfl (L_313 hL).1 (LR_313_66 hL) (Or.inl rfl) ?_
      refine v_iload_n dX5_tries_44 rfl ?_
      obtain ⟨o6, K⟩ := K
      refine ld_357 dX5_tries_45 hL (by omega) o6 ?_
      show V w 2 mX5_tries 46 [some (vR 313), some (vI ((k : Nat) : Int)), some (vI ((n : Nat) : Int)), some (vI ((j : Nat) : Int))] [vI (J 357 k), vI (J 357 j)] S J Q
      obtain ⟨K1, K2⟩ := K
      refine v_icmp_ne 51 dX5_tries_46 (by decide) (fun c3 => ?_) (fun c3 => ?_)
      · have K := K2 c3
        obtain ⟨o7, K⟩ := K
        refine v_iinc dX5_tries_51 rfl o7 ?_
        show V w 2 mX5_tries 54 [some (vR 313), some (vI ((k : Nat) : Int)), some (vI ((n : Nat) : Int)), some (vI ((j + 1 : Nat) : Int))] [] S J Q
        refine v_goto 9 dX5_tries_54 (by decide) ?_
        exact K
      · have K := K1 c3
        refine v_iconst dX5_tries_49 (in_lit (by decide)) ?_
        exact v_iret dX5_tries_50 rfl (by decide) K
theorem gX5_tries_59 {w : Wd} {S : Sh} {J : Jm} {Q : Out → Sh → Jm → Prop} (hL : Lay S) (k : Nat) (n : Nat) (x : Nat)
    (K : Br (40 ≤ ((x : Nat) : Int)) ((-2147483648 ≤ ((k : Nat) : Int) + 1 ∧ ((k : Nat) : Int) + 1 ≤ 2147483647) ∧ (((n : Nat) : Int) < 7) ∧ (-2147483648 ≤ 8 * (J 350 n) ∧ 8 * (J 350 n) ≤ 2147483647) ∧ (((k : Nat) : Int) < 7) ∧ (-2147483648 ≤ (8 * (J 350 n)) + (J 357 k) ∧ (8 * (J 350 n)) + (J 357 k) ≤ 2147483647) ∧ V w 1 mX5_agrees 0 (ent mX5_agrees [vR 313, vI ((k + 1 : Nat) : Int), vI ((8 * (J 350 n)) + (J 357 k)), vI ((n : Nat) : Int)]) [] S J (CallQ w 2 mX5_tries 116 [some (vR 313), some (vI ((k : Nat) : Int)), some (vI ((n : Nat) : Int)), some (vI ((x : Nat) : Int))] [] Q)) ((-2147483648 ≤ ((k : Nat) : Int) + 1 ∧ ((k : Nat) : Int) + 1 ≤ 2147483647) ∧ (-2147483648 ≤ 40 * ((k + 1 : Nat) : Int) ∧ 40 * ((k + 1 : Nat) : Int) ≤ 2147483647) ∧ (-2147483648 ≤ ((40 * (k + 1) : Nat) : Int) + ((x : Nat) : Int) ∧ ((40 * (k + 1) : Nat) : Int) + ((x : Nat) : Int) ≤ 2147483647) ∧ (-2147483648 ≤ 40 * ((k : Nat) : Int) ∧ 40 * ((k : Nat) : Int) ≤ 2147483647) ∧ (-2147483648 ≤ ((40 * k : Nat) : Int) + ((x : Nat) : Int) ∧ ((40 * k : Nat) : Int) + ((x : Nat) : Int) ≤ 2147483647) ∧ ((((40 * k) + x : Nat) : Int) < 320) ∧ ((((40 * (k + 1)) + x : Nat) : Int) < 320) ∧ (-2147483648 ≤ ((x : Nat) : Int) + 1 ∧ ((x : Nat) : Int) + 1 ≤ 2147483647) ∧ V w 2 mX5_tries 59 [some (vR 313), some (vI ((k : Nat) : Int)), some (vI ((n : Nat) : Int)), some (vI ((x + 1 : Nat) : Int))] [] S (up J 358 ((40 * (k + 1)) + x) (J 358 ((40 * k) + x))) Q)) :
    V w 2 mX5_tries 59 [some (vR 313), some (vI ((k : Nat) : Int)), some (vI ((n : Nat) : Int)), some (vI ((x : Nat) : Int))] [] S J Q := by
  refine v_iload_n dX5_tries_59 rfl ?_
  refine v_bipush dX5_tries_60 (by decide) (in_lit (by decide)) ?_
  obtain ⟨K1, K2⟩ := K
  refine v_icmp_ge 95 dX5_tries_62 (by decide) (fun c1 => ?_) (fun c1 => ?_)
  · have K := K1 c1
    refine v_aload_n dX5_tries_95 rfl ?_
    refine v_iload_n dX5_tries_96 rfl ?_
    refine v_iconst dX5_tries_97 (in_lit (by decide)) ?_
    obtain ⟨o1, K⟩ := K
    refine v_iadd dX5_tries_98 o1 ?_
    show V w 2 mX5_tries 99 [some (vR 313), some (vI ((k : Nat) : Int)), some (vI ((n : Nat) : Int)), some (vI ((x : Nat) : Int))] [vI ((k + 1 : Nat) : Int), vR 313] S J Q
    refine v_bipush dX5_tries_99 (by decide) (in_lit (by decide)) ?_
    refine v_aload_n dX5_tries_101 rfl ?_
    refine v_getR dX5_tries_102 frX5_127_5 rfl (L_313 hL).1 (LR_313_58 hL) (Or.inl rfl) ?_
    refine v_iload_n dX5_tries_105 rfl ?_
    obtain ⟨o2, K⟩ := K
    refine ld_350 dX5_tries_106 hL (by omega) o2 ?_
    show V w 2 mX5_tries 107 [some (vR 313), some (vI ((k : Nat) : Int)), some (vI ((n : Nat) : Int)), some (vI ((x : Nat) : Int))] [vI (J 350 n), vI 8, vI ((k + 1 : Nat) : Int), vR 313] S J Q
    obtain ⟨o3, K⟩ := K
    refine v_imul dX5_tries_107 o3 ?_
    refine v_aload_n dX5_tries_108 rfl ?_
    refine v_getR dX5_tries_109 frX5_148_5 rfl (L_313 hL).1 (LR_313_66 hL) (Or.inl rfl) ?_
    refine v_iload_n dX5_tries_112 rfl ?_
    obtain ⟨o4, K⟩ := K
    refine ld_357 dX5_tries_113 hL (by omega) o4 ?_
    show V w 2 mX5_tries 114 [some (vR 313), some (vI ((k : Nat) : Int)), some (vI ((n : Nat) : Int)), some (vI ((x : Nat) : Int))] [vI (J 357 k), vI (8 * (J 350 n)), vI ((k + 1 : Nat) : Int), vR 313] S J Q
    obtain ⟨o5, K⟩ := K
    refine v_iadd dX5_tries_114 o5 ?_
    refine v_iload_n dX5_tries_115 rfl ?_
    refine v_callV (d' := 1) (rest := []) [vI ((k + 1 : Nat) : Int), vI ((8 * (J 350 n)) + (J 357 k)), vI ((n : Nat) : Int)] dX5_tries_116 vrX5_408_5 (L_313 hL).1 rfl rfl (one_I (one_I (one_I one_nil))) (Nat.le_of_ble_eq_true rfl) (Nat.le_of_ble_eq_true rfl) (Nat.le_of_ble_eq_true rfl) ?_
    exact K
  · have K := K2 c1
    refine v_aload_n dX5_tries_65 rfl ?_
    refine v_getR dX5_tries_66 frX5_151_5 rfl (L_313 hL).1 (LR_313_67 hL) (Or.inl rfl) ?_
    refine v_bipush dX5_tries_69 (by decide) (in_lit (by decide)) ?_
    refine v_iload_n dX5_tries_71 rfl ?_
    refine v_iconst dX5_tries_72 (in_lit (by decide)) ?_
    obtain ⟨o6, K⟩ := K
    refine v_iadd dX5_tries_73 o6 ?_
    show V w 2 mX5_tries 74 [some (vR 313), some (vI ((k : Nat) : Int)), some (vI ((n : Nat) : Int)), some (vI ((x : Nat) : Int))] [vI ((k + 1 : Nat) : Int), vI 40, vR 358] S J Q
    obtain ⟨o7, K⟩ := K
    refine v_imul dX5_tries_74 o7 ?_
    show V w 2 mX5_tries 75 [some (vR 313), some (vI ((k : Nat) : Int)), some (vI ((n : Nat) : Int)), some (vI ((x : Nat) : Int))] [vI ((40 * (k + 1) : Nat) : Int), vR 358] S J Q
    refine v_iload_n dX5_tries_75 rfl ?_
    obtain ⟨o8, K⟩ := K
    refine v_iadd dX5_tries_76 o8 ?_
    show V w 2 mX5_tries 77 [some (vR 313), some (vI ((k : Nat) : Int)), some (vI ((n : Nat) : Int)), some (vI ((x : Nat) : Int))] [vI (((40 * (k + 1)) + x : Nat) : Int), vR 358] S J Q
    refine v_aload_n dX5_tries_77 rfl ?_
    refine v_getR dX5_tries_78 frX5_151_5 rfl (L_313 hL).1 (LR_313_67 hL) (Or.inl rfl) ?_
    refine v_bipush dX5_tries_81 (by decide) (in_lit (by decide)) ?_
    refine v_iload_n dX5_tries_83 rfl ?_
    obtain ⟨o9, K⟩ := K
    refine v_imul dX5_tries_84 o9 ?_
    show V w 2 mX5_tries 85 [some (vR 313), some (vI ((k : Nat) : Int)), some (vI ((n : Nat) : Int)), some (vI ((x : Nat) : Int))] [vI ((40 * k : Nat) : Int), vR 358, vI (((40 * (k + 1)) + x : Nat) : Int), vR 358] S J Q
    refine v_iload_n dX5_tries_85 rfl ?_
    obtain ⟨o10, K⟩ := K
    refine v_iadd dX5_tries_86 o10 ?_
    show V w 2 mX5_tries 87 [some (vR 313), some (vI ((k : Nat) : Int)), some (vI ((n : Nat) : Int)), some (vI ((x : Nat) : Int))] [vI (((40 * k) + x : Nat) : Int), vR 358, vI (((40 * (k + 1)) + x : Nat) : Int), vR 358] S J Q
    obtain ⟨o11, K⟩ := K
    refine ld_358 dX5_tries_87 hL (by omega) o11 ?_
    show V w 2 mX5_tries 88 [some (vR 313), some (vI ((k : Nat) : Int)), some (vI ((n : Nat) : Int)), some (vI ((x : Nat) : Int))] [vI (J 358 ((40 * k) + x)), vI (((40 * (k + 1)) + x : Nat) : Int), vR 358] S J Q
    obtain ⟨o12, K⟩ := K
    refine st_358 dX5_tries_88 hL (by omega) o12 ?_
    show V w 2 mX5_tries 89 [some (vR 313), some (vI ((k : Nat) : Int)), some (vI ((n : Nat) : Int)), some (vI ((x : Nat) : Int))] [] S (up J 358 ((40 * (k + 1)) + x) (J 358 ((40 * k) + x))) Q
    obtain ⟨o13, K⟩ := K
    refine v_iinc dX5_tries_89 rfl o13 ?_
    show V w 2 mX5_tries 92 [some (vR 313), some (vI ((k : Nat) : Int)), some (vI ((n : Nat) : Int)), some (vI ((x + 1 : Nat) : Int))] [] S (up J 358 ((40 * (k + 1)) + x) (J 358 ((40 * k) + x))) Q
    refine v_goto 59 dX5_tries_92 (by decide) ?_
    exact K
theorem gX5_tries_119 {w : Wd} {S : Sh} {J : Jm} {Q : Out → Sh → Jm → Prop} (hL : Lay S) (r : Int)
    (K : (r = 0 ∨ r = 1) ∧ Q (.inl (some (vI r))) S J) :
    V w 2 mX5_tries 119 [none, none, none, none] [vI r] S J Q := by
  obtain ⟨o1, K⟩ := K
  exact v_iret dX5_tries_119 rfl (zfit_bool o1).1 K
theorem gX5_goesThrough_0 {w : Wd} {S : Sh} {J : Jm} {Q : Out → Sh → Jm → Prop} (hL : Lay S) (how : Int) (known : Int)
    (K : V w 4 mX5_goesThrough 7 [some (vR 313), some (vI how), some (vI known), some (vI 0), none] [] S (up J 313 68 0) Q) :
    V w 4 mX5_goesThrough 0 (ent mX5_goesThrough [vR 313, vI how, vI known]) [] S J Q := by
  show V w 4 mX5_goesThrough 0 [some (vR 313), some (vI how), some (vI known), none, none] [] S J Q
  refine v_aload_n dX5_goesThrough_0 rfl ?_
  refine v_iconst dX5_goesThrough_1 (in_lit (by decide)) ?_
  refine v_putI dX5_goesThrough_2 frX5_411_5 (fun _ _ _ h => by cases h; exact Or.inl rfl) rfl rfl zfit_int (L_313 hL).1 ?_
  show V w 4 mX5_goesThrough 5 [some (vR 313), some (vI how), some (vI known), none, none] [] S (up J 313 68 0) Q
  refine v_iconst dX5_goesThrough_5 (in_lit (by decide)) ?_
  refine v_istore_n dX5_goesThrough_6 (Nat.le_of_ble_eq_true rfl) ?_
  show V w 4 mX5_goesThrough 7 [some (vR 313), some (vI how), some (vI known), some (vI 0), none] [] S (up J 313 68 0) Q
  exact K
theorem gX5_goesThrough_7 {w : Wd} {S : Sh} {J : Jm} {Q : Out → Sh → Jm → Prop} (hL : Lay S) (how : Int) (known : Int) (s : Nat)
    (K : Br (40 ≤ ((s : Nat) : Int)) (Br (J 313 64 = 0) (V w 3 mX5_meets 0 (ent mX5_meets [vR 313, vI how, vI known]) [] S (up J 357 0 (-1)) (CallQ w 4 mX5_goesThrough 48 [some (vR 313), some (vI how), some (vI known), some (vI 0), some (vI 1)] [] Q)) (V w 4 mX5_goesThrough 54 [some (vR 313), some (vI how), some (vI known), some (vI 0), some (vI 1)] [] S (up J 357 0 (-1)) Q)) ((((s : Nat) : Int) < 320) ∧ (-2147483648 ≤ ((s : Nat) : Int) + 1 ∧ ((s : Nat) : Int) + 1 ≤ 2147483647) ∧ V w 4 mX5_goesThrough 7 [some (vR 313), some (vI how), some (vI known), some (vI ((s + 1 : Nat) : Int)), none] [] S (up J 358 s (-1)) Q)) :
    V w 4 mX5_goesThrough 7 [some (vR 313), some (vI how), some (vI known), some (vI ((s : Nat) : Int)), none] [] S J Q := by
  refine v_iload_n dX5_goesThrough_7 rfl ?_
  refine v_bipush dX5_goesThrough_8 (by decide) (in_lit (by decide)) ?_
  obtain ⟨K1, K2⟩ := K
  refine v_icmp_ge 26 dX5_goesThrough_10 (by decide) (fun c1 => ?_) (fun c1 => ?_)
  · have K := K1 c1
    refine v_iconst dX5_goesThrough_26 (in_lit (by decide)) ?_
    refine v_istore_n dX5_goesThrough_27 (Nat.le_of_ble_eq_true rfl) ?_
    show V w 4 mX5_goesThrough 28 [some (vR 313), some (vI how), some (vI known), some (vI 0), none] [] S J Q
    refine v_aload_n dX5_goesThrough_28 rfl ?_
    refine v_getR dX5_goesThrough_29 frX5_148_5 rfl (L_313 hL).1 (LR_313_66 hL) (Or.inl rfl) ?_
    refine v_iconst dX5_goesThrough_32 (in_lit (by decide)) ?_
    refine v_iconst dX5_goesThrough_33 (in_lit (by decide)) ?_
    refine st_357 dX5_goesThrough_34 hL (by omega) (by decide) ?_
    show V w 4 mX5_goesThrough 35 [some (vR 313), some (vI how), some (vI known), some (vI 0), none] [] S (up J 357 0 (-1)) Q
    refine v_iconst dX5_goesThrough_35 (in_lit (by decide)) ?_
    refine v_istore dX5_goesThrough_36 (Nat.le_of_ble_eq_true rfl) ?_
    show V w 4 mX5_goesThrough 38 [some (vR 313), some (vI how), some (vI known), some (vI 0), some (vI 1)] [] S (up J 357 0 (-1)) Q
    refine v_aload_n dX5_goesThrough_38 rfl ?_
    refine v_getI dX5_goesThrough_39 frX5_414_5 rfl rfl (L_313 hL).1 ?_
    show V w 4 mX5_goesThrough 42 [some (vR 313), some (vI how), some (vI known), some (vI 0), some (vI 1)] [vI (J 313 64)] S (up J 357 0 (-1)) Q
    obtain ⟨K1, K2⟩ := K
    refine v_if_ne 54 dX5_goesThrough_42 (by decide) (fun c2 => ?_) (fun c2 => ?_)
    · have K := K2 c2
      exact K
    · have K := K1 c2
      refine v_aload_n dX5_goesThrough_45 rfl ?_
      refine v_iload_n dX5_goesThrough_46 rfl ?_
      refine v_iload_n dX5_goesThrough_47 rfl ?_
      refine v_callV (d' := 3) (rest := []) [vI how, vI known] dX5_goesThrough_48 vrX5_423_5 (L_313 hL).1 rfl rfl (one_I (one_I one_nil)) (Nat.le_of_ble_eq_true rfl) (Nat.le_of_ble_eq_true rfl) (Nat.le_of_ble_eq_true rfl) ?_
      exact K
  · have K := K2 c1
    refine v_aload_n dX5_goesThrough_13 rfl ?_
    refine v_getR dX5_goesThrough_14 frX5_151_5 rfl (L_313 hL).1 (LR_313_67 hL) (Or.inl rfl) ?_
    refine v_iload_n dX5_goesThrough_17 rfl ?_
    refine v_iconst dX5_goesThrough_18 (in_lit (by decide)) ?_
    obtain ⟨o1, K⟩ := K
    refine st_358 dX5_goesThrough_19 hL (by omega) o1 ?_
    show V w 4 mX5_goesThrough 20 [some (vR 313), some (vI how), some (vI known), some (vI ((s : Nat) : Int)), none] [] S (up J 358 s (-1)) Q
    obtain ⟨o2, K⟩ := K
    refine v_iinc dX5_goesThrough_20 rfl o2 ?_
    show V w 4 mX5_goesThrough 23 [some (vR 313), some (vI how), some (vI known), some (vI ((s + 1 : Nat) : Int)), none] [] S (up J 358 s (-1)) Q
    refine v_goto 7 dX5_goesThrough_23 (by decide) ?_
    exact K
theorem gX5_goesThrough_54 {w : Wd} {S : Sh} {J : Jm} {Q : Out → Sh → Jm → Prop} (hL : Lay S) (how : Int) (known : Int) (k : Int) (more : Int)
    (K : Br (k < 0) (Q (.inl none) S J) (Br (more = 0) (Q (.inl none) S J) ((0 ≤ k) ∧ (k < 7) ∧ (-2147483648 ≤ (J 357 k.toNat) + 1 ∧ (J 357 k.toNat) + 1 ≤ 2147483647) ∧ (0 ≤ J 356 k.toNat) ∧ (J 356 k.toNat < 7) ∧ (0 ≤ J 350 (J 356 k.toNat).toNat) ∧ (J 350 (J 356 k.toNat).toNat < 25) ∧ Br ((up J 357 k.toNat ((J 357 k.toNat) + 1)) 357 k.toNat = J 316 (J 350 (J 356 k.toNat).toNat).toNat) ((-2147483648 ≤ k + (-1) ∧ k + (-1) ≤ 2147483647) ∧ V w 4 mX5_goesThrough 54 [some (vR 313), some (vI how), some (vI known), some (vI (k + (-1))), some (vI more)] [] S (up J 357 k.toNat ((J 357 k.toNat) + 1)) Q) (V w 2 mX5_tries 0 (ent mX5_tries [vR 313, vI k]) [] S (up J 357 k.toNat ((J 357 k.toNat) + 1)) (CallQ w 4 mX5_goesThrough 106 [some (vR 313), some (vI how), some (vI known), some (vI k), some (vI more)] [] Q))))) :
    V w 4 mX5_goesThrough 54 [some (vR 313), some (vI how), some (vI known), some (vI k), some (vI more)] [] S J Q := by
  refine v_iload_n dX5_goesThrough_54 rfl ?_
  obtain ⟨K1, K2⟩ := K
  refine v_if_lt 146 dX5_goesThrough_55 (by decide) (fun c1 => ?_) (fun c1 => ?_)
  · have K := K1 c1
    exact v_vret dX5_goesThrough_146 rfl K
  · have K := K2 c1
    refine v_iload dX5_goesThrough_58 rfl ?_
    obtain ⟨K1, K2⟩ := K
    refine v_if_eq 146 dX5_goesThrough_60 (by decide) (fun c2 => ?_) (fun c2 => ?_)
    · have K := K1 c2
      exact v_vret dX5_goesThrough_146 rfl K
    · have K := K2 c2
      refine v_aload_n dX5_goesThrough_63 rfl ?_
      refine v_getR dX5_goesThrough_64 frX5_148_5 rfl (L_313 hL).1 (LR_313_66 hL) (Or.inl rfl) ?_
      refine v_iload_n dX5_goesThrough_67 rfl ?_
      refine v_dup2 dX5_goesThrough_68 trivial trivial ?_
      obtain ⟨o1, K⟩ := K
      obtain ⟨o2, K⟩ := K
      refine ld_357 dX5_goesThrough_69 hL o1 o2 ?_
      refine v_iconst dX5_goesThrough_70 (in_lit (by decide)) ?_
      obtain ⟨o3, K⟩ := K
      refine v_iadd dX5_goesThrough_71 o3 ?_
      refine st_357 dX5_goesThrough_72 hL o1 o2 ?_
      show V w 4 mX5_goesThrough 73 [some (vR 313), some (vI how), some (vI known), some (vI k), some (vI more)] [] S (up J 357 k.toNat ((J 357 k.toNat) + 1)) Q
      refine v_aload_n dX5_goesThrough_73 rfl ?_
      refine v_getR dX5_goesThrough_74 frX5_148_5 rfl (L_313 hL).1 (LR_313_66 hL) (Or.inl rfl) ?_
      refine v_iload_n dX5_goesThrough_77 rfl ?_
      refine ld_357 dX5_goesThrough_78 hL o1 o2 ?_
      show V w 4 mX5_goesThrough 79 [some (vR 313), some (vI how), some (vI known), some (vI k), some (vI more)] [vI ((up J 357 k.toNat ((J 357 k.toNat) + 1)) 357 k.toNat)] S (up J 357 k.toNat ((J 357 k.toNat) + 1)) Q
      refine v_aload_n dX5_goesThrough_79 rfl ?_
      refine v_getR dX5_goesThrough_80 frX5_20_5 rfl (L_313 hL).1 (LR_313_5 hL) (Or.inl rfl) ?_
      refine v_aload_n dX5_goesThrough_83 rfl ?_
      refine v_getR dX5_goesThrough_84 frX5_127_5 rfl (L_313 hL).1 (LR_313_58 hL) (Or.inl rfl) ?_
      refine v_aload_n dX5_goesThrough_87 rfl ?_
      refine v_getR dX5_goesThrough_88 frX5_145_5 rfl (L_313 hL).1 (LR_313_65 hL) (Or.inl rfl) ?_
      refine v_iload_n dX5_goesThrough_91 rfl ?_
      refine ld_356 dX5_goesThrough_92 hL o1 o2 ?_
      show V w 4 mX5_goesThrough 93 [some (vR 313), some (vI how), some (vI known), some (vI k), some (vI more)] [vI (J 356 k.toNat), vR 350, vR 316, vI ((up J 357 k.toNat ((J 357 k.toNat) + 1)) 357 k.toNat)] S (up J 357 k.toNat ((J 357 k.toNat) + 1)) Q
      obtain ⟨o4, K⟩ := K
      obtain ⟨o5, K⟩ := K
      refine ld_350 dX5_goesThrough_93 hL o4 o5 ?_
      show V w 4 mX5_goesThrough 94 [some (vR 313), some (vI how), some (vI known), some (vI k), some (vI more)] [vI (J 350 (J 356 k.toNat).toNat), vR 316, vI ((up J 357 k.toNat ((J 357 k.toNat) + 1)) 357 k.toNat)] S (up J 357 k.toNat ((J 357 k.toNat) + 1)) Q
      obtain ⟨o6, K⟩ := K
      obtain ⟨o7, K⟩ := K
      refine ld_316 dX5_goesThrough_94 hL o6 o7 ?_
      show V w 4 mX5_goesThrough 95 [some (vR 313), some (vI how), some (vI known), some (vI k), some (vI more)] [vI (J 316 (J 350 (J 356 k.toNat).toNat).toNat), vI ((up J 357 k.toNat ((J 357 k.toNat) + 1)) 357 k.toNat)] S (up J 357 k.toNat ((J 357 k.toNat) + 1)) Q
      obtain ⟨K1, K2⟩ := K
      refine v_icmp_ne 104 dX5_goesThrough_95 (by decide) (fun c3 => ?_) (fun c3 => ?_)
      · have K := K2 c3
        refine v_aload_n dX5_goesThrough_104 rfl ?_
        refine v_iload_n dX5_goesThrough_105 rfl ?_
        refine v_callV (d' := 2) (rest := []) [vI k] dX5_goesThrough_106 vrX5_426_5 (L_313 hL).1 rfl rfl (one_I one_nil) (Nat.le_of_ble_eq_true rfl) (Nat.le_of_ble_eq_true rfl) (Nat.le_of_ble_eq_true rfl) ?_
        exact K
      · have K := K1 c3
        obtain ⟨o8, K⟩ := K
        refine v_iinc dX5_goesThrough_98 rfl o8 ?_
        show V w 4 mX5_goesThrough 101 [some (vR 313), some (vI how), some (vI known), some (vI (k + (-1))), some (vI more)] [] S (up J 357 k.toNat ((J 357 k.toNat) + 1)) Q
        refine v_goto 54 dX5_goesThrough_101 (by decide) ?_
        exact K
theorem gX5_goesThrough_109 {w : Wd} {S : Sh} {J : Jm} {Q : Out → Sh → Jm → Prop} (hL : Lay S) (how : Int) (known : Int) (k : Nat) (more : Int) (r : Int)
    (K : Br (r = 0) (V w 4 mX5_goesThrough 54 [some (vR 313), some (vI how), some (vI known), some (vI ((k : Nat) : Int)), some (vI more)] [] S J Q) ((-2147483648 ≤ ((k : Nat) : Int) + 1 ∧ ((k : Nat) : Int) + 1 ≤ 2147483647) ∧ Br (((k + 1 : Nat) : Int) = J 313 64) (V w 3 mX5_meets 0 (ent mX5_meets [vR 313, vI how, vI known]) [] S J (CallQ w 4 mX5_goesThrough 125 [some (vR 313), some (vI how), some (vI known), some (vI ((k : Nat) : Int)), some (vI more)] [] Q)) ((((k + 1 : Nat) : Int) < 7) ∧ V w 4 mX5_goesThrough 54 [some (vR 313), some (vI how), some (vI known), some (vI ((k + 1 : Nat) : Int)), some (vI more)] [] S (up J 357 (k + 1) (-1)) Q))) :
    V w 4 mX5_goesThrough 109 [some (vR 313), some (vI how), some (vI known), some (vI ((k : Nat) : Int)), some (vI more)] [vI r] S J Q := by
  obtain ⟨K1, K2⟩ := K
  refine v_if_eq 54 dX5_goesThrough_109 (by decide) (fun c1 => ?_) (fun c1 => ?_)
  · have K := K1 c1
    exact K
  · have K := K2 c1
    refine v_iload_n dX5_goesThrough_112 rfl ?_
    refine v_iconst dX5_goesThrough_113 (in_lit (by decide)) ?_
    obtain ⟨o1, K⟩ := K
    refine v_iadd dX5_goesThrough_114 o1 ?_
    show V w 4 mX5_goesThrough 115 [some (vR 313), some (vI how), some (vI known), some (vI ((k : Nat) : Int)), some (vI more)] [vI ((k + 1 : Nat) : Int)] S J Q
    refine v_aload_n dX5_goesThrough_115 rfl ?_
    refine v_getI dX5_goesThrough_116 frX5_414_5 rfl rfl (L_313 hL).1 ?_
    obtain ⟨K1, K2⟩ := K
    refine v_icmp_ne 133 dX5_goesThrough_119 (by decide) (fun c2 => ?_) (fun c2 => ?_)
    · have K := K2 c2
      refine v_iinc dX5_goesThrough_133 rfl o1 ?_
      show V w 4 mX5_goesThrough 136 [some (vR 313), some (vI how), some (vI known), some (vI ((k + 1 : Nat) : Int)), some (vI more)] [] S J Q
      refine v_aload_n dX5_goesThrough_136 rfl ?_
      refine v_getR dX5_goesThrough_137 frX5_148_5 rfl (L_313 hL).1 (LR_313_66 hL) (Or.inl rfl) ?_
      refine v_iload_n dX5_goesThrough_140 rfl ?_
      refine v_iconst dX5_goesThrough_141 (in_lit (by decide)) ?_
      obtain ⟨o2, K⟩ := K
      refine st_357 dX5_goesThrough_142 hL (by omega) o2 ?_
      show V w 4 mX5_goesThrough 143 [some (vR 313), some (vI how), some (vI known), some (vI ((k + 1 : Nat) : Int)), some (vI more)] [] S (up J 357 (k + 1) (-1)) Q
      refine v_goto 54 dX5_goesThrough_143 (by decide) ?_
      exact K
    · have K := K1 c2
      refine v_aload_n dX5_goesThrough_122 rfl ?_
      refine v_iload_n dX5_goesThrough_123 rfl ?_
      refine v_iload_n dX5_goesThrough_124 rfl ?_
      refine v_callV (d' := 3) (rest := []) [vI how, vI known] dX5_goesThrough_125 vrX5_423_5 (L_313 hL).1 rfl rfl (one_I (one_I one_nil)) (Nat.le_of_ble_eq_true rfl) (Nat.le_of_ble_eq_true rfl) (Nat.le_of_ble_eq_true rfl) ?_
      exact K
theorem gX5_goesThrough_51 {w : Wd} {S : Sh} {J : Jm} {Q : Out → Sh → Jm → Prop} (hL : Lay S) (r : Int)
    (K : Q (.inl none) S J) :
    V w 4 mX5_goesThrough 51 [none, none, none, none, none] [vI r] S J Q := by
  refine v_istore dX5_goesThrough_51 (Nat.le_of_ble_eq_true rfl) ?_
  show V w 4 mX5_goesThrough 53 [none, none, none, none, some (vI r)] [] S J Q
  exact v_vret dX5_goesThrough_53 rfl K
theorem gX5_goesThrough_128 {w : Wd} {S : Sh} {J : Jm} {Q : Out → Sh → Jm → Prop} (hL : Lay S) (how : Int) (known : Int) (k : Nat) (r : Int)
    (K : V w 4 mX5_goesThrough 54 [some (vR 313), some (vI how), some (vI known), some (vI ((k : Nat) : Int)), some (vI r)] [] S J Q) :
    V w 4 mX5_goesThrough 128 [some (vR 313), some (vI how), some (vI known), some (vI ((k : Nat) : Int)), none] [vI r] S J Q := by
  refine v_istore dX5_goesThrough_128 (Nat.le_of_ble_eq_true rfl) ?_
  show V w 4 mX5_goesThrough 130 [some (vR 313), some (vI how), some (vI known), some (vI ((k : Nat) : Int)), some (vI r)] [] S J Q
  refine v_goto 54 dX5_goesThrough_130 (by decide) ?_
  exact K

/-- what ways rest on: how signs stand, what agrees; of each name taken its number, tablet, cells; of tablets their rows, of rows their lengths and places -/
abbrev WE : Type := (Nat → Nat) × (Nat → Int → Nat → Int → Bool) × (Nat → Nat) × (Nat → Nat) × (Nat → List Int) × (Nat → Nat) × (Nat → Nat) × (Nat → Nat → Int)
abbrev WE.st (E : WE) : Nat → Nat := E.1
abbrev WE.ag (E : WE) : Nat → Int → Nat → Int → Bool := E.2.1
abbrev WE.nm (E : WE) : Nat → Nat := E.2.2.1
abbrev WE.tb (E : WE) : Nat → Nat := E.2.2.2.1
abbrev WE.cl (E : WE) : Nat → List Int := E.2.2.2.2.1
abbrev WE.rw (E : WE) : Nat → Nat := E.2.2.2.2.2.1
abbrev WE.sz (E : WE) : Nat → Nat := E.2.2.2.2.2.2.1
abbrev WE.pl (E : WE) : Nat → Nat → Int := E.2.2.2.2.2.2.2
abbrev Way : Type := List Nat × (Nat → Int)
/-- the j-th name is set into row u of its tablet, behind the rows ch -/
def tryR (E : WE) (j : Nat) (ch : List Nat) (g : Nat → Int) (u : Nat) : Option (Nat → Int) := if 8 * E.tb j + u ∈ ch then none else putR E.ag E.st (E.pl (8 * E.tb j + u)) (E.sz (8 * E.tb j + u)) (E.cl j) g
def rowsF (f : Nat → List Way) : Nat → Nat → List Way
  | 0, _ => []
  | v + 1, u => f u ++ rowsF f v (u + 1)
/-- all ways of m names from the j-th on -/
def wy (E : WE) : Nat → Nat → List Nat → (Nat → Int) → List Way
  | 0, _, ch, g => [(ch, g)]
  | m + 1, j, ch, g => rowsF (fun u => match tryR E j ch g u with
    | none => []
    | some g' => wy E m (j + 1) (ch ++ [8 * E.tb j + u]) g') (E.rw (E.tb j)) 0
def wyU (E : WE) (m j : Nat) (ch : List Nat) (g : Nat → Int) (u : Nat) : List Way := match tryR E j ch g u with
  | none => []
  | some g' => wy E m (j + 1) (ch ++ [8 * E.tb j + u]) g'
theorem wy_succ (E : WE) (m j : Nat) (ch : List Nat) (g : Nat → Int) : wy E (m + 1) j ch g = rowsF (wyU E m j ch g) (E.rw (E.tb j)) 0 := rfl
def EnvAt (J : Jm) (E : WE) (N : Nat) : Prop := J 313 64 = (N : Int) ∧ N ≤ 7 ∧ (∀ j, j < N → (J 356 j = ((E.nm j : Nat) : Int) ∧ E.nm j < 7) ∧ (J 350 (E.nm j) = ((E.tb j : Nat) : Int) ∧ E.tb j < 24) ∧ CsAt J (E.nm j) (E.cl j) ∧ (J 316 (E.tb j) = ((E.rw (E.tb j) : Nat) : Int) ∧ E.rw (E.tb j) ≤ 8) ∧ ∀ u, u < E.rw (E.tb j) → RwAt J (8 * E.tb j + u) (E.pl (8 * E.tb j + u)) (E.sz (8 * E.tb j + u))) ∧ StAt J E.st E.ag
/-- the cells that a walk through all ways may write -/
def gtS (b k : Nat) : Prop := b = 357 ∨ b = 358 ∨ b = 361 ∨ b = 359 ∨ b = 360 ∨ b = 362 ∨ (b = 313 ∧ k = 68)
def gtF (J J' : Jm) : Prop := ∀ b k, ¬ gtS b k → J' b k = J b k
theorem gtF.rfl' {J : Jm} : gtF J J := fun _ _ _ => rfl
theorem gtF.trans {J J1 J2 : Jm} (h : gtF J J1) (h2 : gtF J1 J2) : gtF J J2 := fun b k q => (h2 b k q).trans (h b k q)
theorem gtF.kp {J J' : Jm} (h : gtF J J') : Kp J J' := fun b k q => h b k (fun e => by
  unfold gtS at e
  rcases e with rfl | rfl | rfl | rfl | rfl | rfl | ⟨rfl, rfl⟩ <;> cases q)
theorem gtF.up {J J' : Jm} {a k : Nat} {z : Int} (h : gtF J J') (ha : gtS a k) : gtF J (up J' a k z) := fun b j q => by
  rw [up_ne (fun e => by rw [e.1, e.2] at q; exact q ha)]
  exact h b j q
theorem gvF.gt {J J' : Jm} {k : Nat} (h : gvF J J' k) : gtF J J' := fun b j q => h b j (fun e => q (Or.inr (Or.inl e.1)))
theorem EnvAt.gt {J J' : Jm} {E : WE} {N : Nat} (h : EnvAt J E N) (f : gtF J J') : EnvAt J' E N := by
  have n : ∀ b k, b ≠ 313 → b ≠ 357 → b ≠ 358 → b ≠ 361 → b ≠ 359 → b ≠ 360 → b ≠ 362 → J' b k = J b k := fun b k h0 h1 h2 h3 h4 h5 h6 => f b k (fun e => by unfold gtS at e; omega)
  obtain ⟨h1, h2, h3, h4, h5⟩ := h
  refine ⟨by rw [f _ _ (by unfold gtS; omega)]; exact h1, h2, fun j hj => ?_, fun s hs => ?_, fun s o hs ho c d hc hd => ?_⟩
  · obtain ⟨a1, a2, a3, a4, a5⟩ := h3 j hj
    refine ⟨?_, ?_, ?_, ?_, fun u hu => ?_⟩
    · rw [n 356 _ (by decide) (by decide) (by decide) (by decide) (by decide) (by decide) (by decide)]; exact a1
    · rw [n 350 _ (by decide) (by decide) (by decide) (by decide) (by decide) (by decide) (by decide)]; exact a2
    · unfold CsAt at a3 ⊢
      simp only [n 354 _ (by decide) (by decide) (by decide) (by decide) (by decide) (by decide) (by decide), n 353 _ (by decide) (by decide) (by decide) (by decide) (by decide) (by decide) (by decide)]
      exact a3
    · rw [n 316 _ (by decide) (by decide) (by decide) (by decide) (by decide) (by decide) (by decide)]; exact a4
    · have a6 := a5 u hu
      unfold RwAt at a6 ⊢
      simp only [n 317 _ (by decide) (by decide) (by decide) (by decide) (by decide) (by decide) (by decide), n 318 _ (by decide) (by decide) (by decide) (by decide) (by decide) (by decide) (by decide)]
      exact a6
  · rw [n 332 _ (by decide) (by decide) (by decide) (by decide) (by decide) (by decide) (by decide)]; exact h4 s hs
  · rw [← h5 s o hs ho c d hc hd]
    unfold agJ
    simp only [n 343 _ (by decide) (by decide) (by decide) (by decide) (by decide) (by decide) (by decide), n 342 _ (by decide) (by decide) (by decide) (by decide) (by decide) (by decide) (by decide)]
/-- the rows that are chosen -/
def ChAt (J : Jm) (E : WE) (ch : List Nat) : Prop := ∀ i, i < ch.length → ∃ u : Nat, u < 8 ∧ J 357 i = (u : Int) ∧ ch.getD i 0 = 8 * E.tb i + u
theorem s_tries {w : Wd} {S : Sh} {J : Jm} {Q : Out → Sh → Jm → Prop} (hL : Lay S) (E : WE) (N j : Nat) (ch : List Nat) (g : Nat → Int) (u : Nat) (hE : EnvAt J E N) (hj : j < N) (hch : ch.length = j) (hC : ChAt J E ch) (hu : u < E.rw (E.tb j)) (hr : J 357 j = (u : Int)) (hg : GvAt J j g)
    (K0 : tryR E j ch g u = none → ∀ J', gvF J J' (j + 1) → Q (.inl (some (vI 0))) S J') (K1 : ∀ g', tryR E j ch g u = some g' → ∀ J', gvF J J' (j + 1) → GvAt J' (j + 1) g' → Q (.inl (some (vI 1))) S J') : V w 2 mX5_tries 0 (ent mX5_tries [vR 313, vI (j : Int)]) [] S J Q := by
  obtain ⟨h1, h2, h3, h4⟩ := id hE
  obtain ⟨a1, a2, a3, a4, a5⟩ := h3 j hj
  generalize hres : tryR E j ch g u = res at K0 K1
  unfold tryR at hres
  refine gX5_tries_0 hL j ⟨by omega, ?_⟩
  rw [a1.1]
  have loop : ∀ (m i : Nat), i + m = j → (∀ i', i' < i → ch.getD i' 0 ≠ 8 * E.tb j + u) → V w 2 mX5_tries 9 [some (vR 313), some (vI (j : Int)), some (vI ((E.nm j : Nat) : Int)), some (vI (i : Int))] [] S J Q := by
    intro m
    induction m with
    | zero =>
      intro i hi hne
      have hmem : ¬ (8 * E.tb j + u ∈ ch) := by
        intro q
        obtain ⟨i', hi', e⟩ := List.mem_iff_getElem.mp q
        refine hne i' (by omega) ?_
        rw [List.getD_eq_getElem?_getD, List.getElem?_eq_getElem hi']
        exact e
      rw [if_neg hmem] at hres
      refine gX5_tries_9 hL j (E.nm j) i (br_y (by omega) ?_)
      show V w 2 mX5_tries 59 [some (vR 313), some (vI (j : Int)), some (vI ((E.nm j : Nat) : Int)), some (vI ((0 : Nat) : Int))] [] S J Q
      refine up_loop (P := fun x J1 => gvF J J1 (j + 1) ∧ ∀ y, y < x → J1 358 (40 * (j + 1) + y) = g y) 40 (fun x J1 => V w 2 mX5_tries 59 [some (vR 313), some (vI (j : Int)), some (vI ((E.nm j : Nat) : Int)), some (vI (x : Int))] [] S J1 Q) ?_ ?_ 0 J (by omega) ⟨fun _ _ _ => rfl, fun y hy => absurd hy (Nat.not_lt_zero _)⟩
      · intro x J1 hx ⟨f1, g1⟩ ih
        have e1 : J1 358 (40 * j + x) = g x := by rw [f1 _ _ (by omega)]; exact (hg x hx).1
        refine gX5_tries_59 (J := J1) hL j (E.nm j) x (br_n (by omega) ?_)
        rw [e1]
        (repeat' (first | (refine And.intro ?_ ?_; omega)))
        refine ih _ ⟨fun b k q => ?_, fun y hy => ?_⟩
        · rw [up_ne (fun e => q ⟨e.1, by omega, by omega⟩)]; exact f1 b k q
        · by_cases hyx : y = x
          · rw [hyx, up_self]
          · rw [up_nk (by omega)]; exact g1 y (by omega)
      · intro J1 ⟨f1, g1⟩
        have hE1 : EnvAt J1 E N := hE.gt f1.gt
        obtain ⟨-, -, b3, b4⟩ := id hE1
        obtain ⟨b31, b32, b33, b34, b35⟩ := b3 j hj
        have er : J1 357 j = (u : Int) := by rw [f1 _ _ (by omega)]; exact hr
        refine gX5_tries_59 (J := J1) hL j (E.nm j) 40 (br_y (by omega) ?_)
        rw [b32.1, er, show 8 * ((E.tb j : Nat) : Int) + (u : Int) = ((8 * E.tb j + u : Nat) : Int) by omega]
        (repeat' (first | (refine And.intro ?_ ?_; omega)))
        refine s_agrees hL (j + 1) (8 * E.tb j + u) (E.nm j) (E.pl (8 * E.tb j + u)) (E.sz (8 * E.tb j + u)) (E.cl j) E.st E.ag g (by omega) (by omega) (by omega) (b35 u hu) b33 b4 (fun x hx => ⟨g1 x hx, (hg x hx).2⟩) (fun h J2 f2 => ?_) (fun g' h J2 f2 hg2 => ?_)
        · refine v_forget (fg_none (fg_none (fg_none (fg_none fg_nil)))) (gX5_tries_119 hL 0 ⟨Or.inl rfl, ?_⟩)
          exact K0 (hres.symm.trans h) J2 (fun b k q => (f2 b k q).trans (f1 b k q))
        · refine v_forget (fg_none (fg_none (fg_none (fg_none fg_nil)))) (gX5_tries_119 hL 1 ⟨Or.inr rfl, ?_⟩)
          exact K1 g' (hres.symm.trans h) J2 (fun b k q => (f2 b k q).trans (f1 b k q)) hg2
    | succ m ih =>
      intro i hi hne
      obtain ⟨v, hv8, hv, hvc⟩ := hC i (by omega)
      obtain ⟨c1, c2, c3, c4, c5⟩ := h3 i (by omega)
      refine gX5_tries_9 hL j (E.nm j) i (br_n (by omega) ?_)
      rw [c1.1, Int.toNat_natCast, c2.1, a2.1, hv, hr]
      (repeat' (first | (refine And.intro ?_ ?_; omega)))
      have nxt : ch.getD i 0 ≠ 8 * E.tb j + u → V w 2 mX5_tries 9 [some (vR 313), some (vI (j : Int)), some (vI ((E.nm j : Nat) : Int)), some (vI ((i + 1 : Nat) : Int))] [] S J Q := by
        intro q
        refine ih (i + 1) (by omega) (fun i' hi' => ?_)
        by_cases e : i' = i
        · rw [e]; exact q
        · exact hne i' (by omega)
      refine br_i (fun q1 => ?_) (fun q1 => ⟨by omega, nxt (by omega)⟩)
      (repeat' (first | (refine And.intro ?_ ?_; omega)))
      refine br_i (fun q2 => ?_) (fun q2 => ⟨by omega, nxt (by omega)⟩)
      have hmem : 8 * E.tb j + u ∈ ch := by
        have e1 : ch.getD i 0 = 8 * E.tb j + u := by omega
        rw [List.getD_eq_getElem?_getD, List.getElem?_eq_getElem (show i < ch.length by omega)] at e1
        rw [← e1]
        exact List.getElem_mem _
      rw [if_pos hmem] at hres
      exact K0 hres.symm J (fun _ _ _ => rfl)
  exact loop j 0 (by omega) (fun i' hi' => absurd hi' (Nat.not_lt_zero _))
