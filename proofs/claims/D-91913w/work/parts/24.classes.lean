/-! the model: classes -/
set_option maxRecDepth 100000
theorem gX5_findClasses_0 {w : Wd} {S : Sh} {J : Jm} {Q : Out → Sh → Jm → Prop} (hL : Lay S) 
    (K : V w 0 mX5_findClasses 2 [some (vR 313), some (vI 0), none, none, none, none] [] S J Q) :
    V w 0 mX5_findClasses 0 (ent mX5_findClasses [vR 313]) [] S J Q := by
  show V w 0 mX5_findClasses 0 [some (vR 313), none, none, none, none, none] [] S J Q
  refine v_iconst dX5_findClasses_0 (in_lit (by decide)) ?_
  refine v_istore_n dX5_findClasses_1 (Nat.le_of_ble_eq_true rfl) ?_
  show V w 0 mX5_findClasses 2 [some (vR 313), some (vI 0), none, none, none, none] [] S J Q
  exact K
theorem gX5_findClasses_2 {w : Wd} {S : Sh} {J : Jm} {Q : Out → Sh → Jm → Prop} (hL : Lay S) (o : Nat)
    (K : Br (2 ≤ ((o : Nat) : Int)) (Q (.inl none) S J) (V w 0 mX5_findClasses 9 [some (vR 313), some (vI ((o : Nat) : Int)), some (vI 0), none, none, none] [] S J Q)) :
    V w 0 mX5_findClasses 2 [some (vR 313), some (vI ((o : Nat) : Int)), none, none, none, none] [] S J Q := by
  refine v_iload_n dX5_findClasses_2 rfl ?_
  refine v_iconst dX5_findClasses_3 (in_lit (by decide)) ?_
  obtain ⟨K1, K2⟩ := K
  refine v_icmp_ge 138 dX5_findClasses_4 (by decide) (fun cQ => ?_) (fun cQ => ?_)
  · have K := K1 cQ
    exact v_vret dX5_findClasses_138 rfl K
  · have K := K2 cQ
    refine v_iconst dX5_findClasses_7 (in_lit (by decide)) ?_
    refine v_istore_n dX5_findClasses_8 (Nat.le_of_ble_eq_true rfl) ?_
    show V w 0 mX5_findClasses 9 [some (vR 313), some (vI ((o : Nat) : Int)), some (vI 0), none, none, none] [] S J Q
    exact K
theorem gX5_findClasses_9 {w : Wd} {S : Sh} {J : Jm} {Q : Out → Sh → Jm → Prop} (hL : Lay S) (o : Nat) (s : Nat)
    (K : Br (40 ≤ ((s : Nat) : Int)) (V w 0 mX5_findClasses 35 [some (vR 313), some (vI ((o : Nat) : Int)), some (vI 1), none, none, none] [] S J Q) ((-2147483648 ≤ 40 * ((o : Nat) : Int) ∧ 40 * ((o : Nat) : Int) ≤ 2147483647) ∧ (-2147483648 ≤ ((40 * o : Nat) : Int) + ((s : Nat) : Int) ∧ ((40 * o : Nat) : Int) + ((s : Nat) : Int) ≤ 2147483647) ∧ ((((40 * o) + s : Nat) : Int) < 80) ∧ (-2147483648 ≤ ((s : Nat) : Int) + 1 ∧ ((s : Nat) : Int) + 1 ≤ 2147483647) ∧ V w 0 mX5_findClasses 9 [some (vR 313), some (vI ((o : Nat) : Int)), some (vI ((s + 1 : Nat) : Int)), none, none, none] [] S (up J 343 ((40 * o) + s) ((s : Nat) : Int)) Q)) :
    V w 0 mX5_findClasses 9 [some (vR 313), some (vI ((o : Nat) : Int)), some (vI ((s : Nat) : Int)), none, none, none] [] S J Q := by
  refine v_iload_n dX5_findClasses_9 rfl ?_
  refine v_bipush dX5_findClasses_10 (by decide) (in_lit (by decide)) ?_
  obtain ⟨K1, K2⟩ := K
  refine v_icmp_ge 33 dX5_findClasses_12 (by decide) (fun cQ => ?_) (fun cQ => ?_)
  · have K := K1 cQ
    refine v_iconst dX5_findClasses_33 (in_lit (by decide)) ?_
    refine v_istore_n dX5_findClasses_34 (Nat.le_of_ble_eq_true rfl) ?_
    show V w 0 mX5_findClasses 35 [some (vR 313), some (vI ((o : Nat) : Int)), some (vI 1), none, none, none] [] S J Q
    exact K
  · have K := K2 cQ
    refine v_aload_n dX5_findClasses_15 rfl ?_
    refine v_getR dX5_findClasses_16 frX5_106_5 rfl (L_313 hL).1 (LR_313_44 hL) (Or.inl rfl) ?_
    refine v_bipush dX5_findClasses_19 (by decide) (in_lit (by decide)) ?_
    refine v_iload_n dX5_findClasses_21 rfl ?_
    obtain ⟨o1, K⟩ := K
    refine v_imul dX5_findClasses_22 o1 ?_
    show V w 0 mX5_findClasses 23 [some (vR 313), some (vI ((o : Nat) : Int)), some (vI ((s : Nat) : Int)), none, none, none] [vI ((40 * o : Nat) : Int), vR 343] S J Q
    refine v_iload_n dX5_findClasses_23 rfl ?_
    obtain ⟨o2, K⟩ := K
    refine v_iadd dX5_findClasses_24 o2 ?_
    show V w 0 mX5_findClasses 25 [some (vR 313), some (vI ((o : Nat) : Int)), some (vI ((s : Nat) : Int)), none, none, none] [vI (((40 * o) + s : Nat) : Int), vR 343] S J Q
    refine v_iload_n dX5_findClasses_25 rfl ?_
    obtain ⟨o3, K⟩ := K
    refine st_343 dX5_findClasses_26 hL (by omega) o3 ?_
    show V w 0 mX5_findClasses 27 [some (vR 313), some (vI ((o : Nat) : Int)), some (vI ((s : Nat) : Int)), none, none, none] [] S (up J 343 ((40 * o) + s) ((s : Nat) : Int)) Q
    obtain ⟨o4, K⟩ := K
    refine v_iinc dX5_findClasses_27 rfl o4 ?_
    show V w 0 mX5_findClasses 30 [some (vR 313), some (vI ((o : Nat) : Int)), some (vI ((s + 1 : Nat) : Int)), none, none, none] [] S (up J 343 ((40 * o) + s) ((s : Nat) : Int)) Q
    refine v_goto 9 dX5_findClasses_30 (by decide) ?_
    exact K
theorem gX5_findClasses_35 {w : Wd} {S : Sh} {J : Jm} {Q : Out → Sh → Jm → Prop} (hL : Lay S) (o : Nat) (more : Int)
    (K : Br (more = 0) ((-2147483648 ≤ ((o : Nat) : Int) + 1 ∧ ((o : Nat) : Int) + 1 ≤ 2147483647) ∧ V w 0 mX5_findClasses 2 [some (vR 313), some (vI ((o + 1 : Nat) : Int)), none, none, none, none] [] S J Q) (V w 0 mX5_findClasses 43 [some (vR 313), some (vI ((o : Nat) : Int)), some (vI 0), some (vI 0), none, none] [] S J Q)) :
    V w 0 mX5_findClasses 35 [some (vR 313), some (vI ((o : Nat) : Int)), some (vI more), none, none, none] [] S J Q := by
  refine v_iload_n dX5_findClasses_35 rfl ?_
  obtain ⟨K1, K2⟩ := K
  refine v_if_eq 132 dX5_findClasses_36 (by decide) (fun cQ => ?_) (fun cQ => ?_)
  · have K := K1 cQ
    obtain ⟨o1, K⟩ := K
    refine v_iinc dX5_findClasses_132 rfl o1 ?_
    show V w 0 mX5_findClasses 135 [some (vR 313), some (vI ((o + 1 : Nat) : Int)), some (vI more), none, none, none] [] S J Q
    refine v_goto 2 dX5_findClasses_135 (by decide) ?_
    exact v_forget (fg_some (fg_some (fg_none (fg_none (fg_none (fg_none fg_nil)))))) K
  · have K := K2 cQ
    refine v_iconst dX5_findClasses_39 (in_lit (by decide)) ?_
    refine v_istore_n dX5_findClasses_40 (Nat.le_of_ble_eq_true rfl) ?_
    show V w 0 mX5_findClasses 41 [some (vR 313), some (vI ((o : Nat) : Int)), some (vI 0), none, none, none] [] S J Q
    refine v_iconst dX5_findClasses_41 (in_lit (by decide)) ?_
    refine v_istore_n dX5_findClasses_42 (Nat.le_of_ble_eq_true rfl) ?_
    show V w 0 mX5_findClasses 43 [some (vR 313), some (vI ((o : Nat) : Int)), some (vI 0), some (vI 0), none, none] [] S J Q
    exact K
theorem gX5_findClasses_43 {w : Wd} {S : Sh} {J : Jm} {Q : Out → Sh → Jm → Prop} (hL : Lay S) (o : Nat) (more : Int) (k : Nat)
    (K : Br (1600 ≤ ((k : Nat) : Int)) (V w 0 mX5_findClasses 35 [some (vR 313), some (vI ((o : Nat) : Int)), some (vI more), none, none, none] [] S J Q) ((-2147483648 ≤ 40 * ((o : Nat) : Int) ∧ 40 * ((o : Nat) : Int) ≤ 2147483647) ∧ (-2147483648 ≤ ((40 * o : Nat) : Int) + ((k / 40 : Nat) : Int) ∧ ((40 * o : Nat) : Int) + ((k / 40 : Nat) : Int) ≤ 2147483647) ∧ (-2147483648 ≤ 40 * ((o : Nat) : Int) ∧ 40 * ((o : Nat) : Int) ≤ 2147483647) ∧ (-2147483648 ≤ ((40 * o : Nat) : Int) + ((k % 40 : Nat) : Int) ∧ ((40 * o : Nat) : Int) + ((k % 40 : Nat) : Int) ≤ 2147483647) ∧ (-2147483648 ≤ 1600 * ((o : Nat) : Int) ∧ 1600 * ((o : Nat) : Int) ≤ 2147483647) ∧ (-2147483648 ≤ ((1600 * o : Nat) : Int) + ((k : Nat) : Int) ∧ ((1600 * o : Nat) : Int) + ((k : Nat) : Int) ≤ 2147483647) ∧ ((((1600 * o) + k : Nat) : Int) < 3200) ∧ Br (J 341 ((1600 * o) + k) = 0) ((-2147483648 ≤ ((k : Nat) : Int) + 1 ∧ ((k : Nat) : Int) + 1 ≤ 2147483647) ∧ V w 0 mX5_findClasses 43 [some (vR 313), some (vI ((o : Nat) : Int)), some (vI more), some (vI ((k + 1 : Nat) : Int)), none, none] [] S J Q) (((((40 * o) + (k / 40) : Nat) : Int) < 80) ∧ ((((40 * o) + (k % 40) : Nat) : Int) < 80) ∧ Br (J 343 ((40 * o) + (k % 40)) < J 343 ((40 * o) + (k / 40))) (((((40 * o) + (k % 40) : Nat) : Int) < 80) ∧ ((((40 * o) + (k / 40) : Nat) : Int) < 80) ∧ (-2147483648 ≤ ((k : Nat) : Int) + 1 ∧ ((k : Nat) : Int) + 1 ≤ 2147483647) ∧ V w 0 mX5_findClasses 43 [some (vR 313), some (vI ((o : Nat) : Int)), some (vI 1), some (vI ((k + 1 : Nat) : Int)), none, none] [] S (up J 343 ((40 * o) + (k / 40)) (J 343 ((40 * o) + (k % 40)))) Q) ((-2147483648 ≤ ((k : Nat) : Int) + 1 ∧ ((k : Nat) : Int) + 1 ≤ 2147483647) ∧ V w 0 mX5_findClasses 43 [some (vR 313), some (vI ((o : Nat) : Int)), some (vI more), some (vI ((k + 1 : Nat) : Int)), none, none] [] S J Q)))) :
    V w 0 mX5_findClasses 43 [some (vR 313), some (vI ((o : Nat) : Int)), some (vI more), some (vI ((k : Nat) : Int)), none, none] [] S J Q := by
  refine v_iload_n dX5_findClasses_43 rfl ?_
  refine v_sipush dX5_findClasses_44 (by decide) (in_lit (by decide)) ?_
  obtain ⟨K1, K2⟩ := K
  refine v_icmp_ge 129 dX5_findClasses_47 (by decide) (fun cQ => ?_) (fun cQ => ?_)
  · have K := K1 cQ
    refine v_goto 35 dX5_findClasses_129 (by decide) ?_
    exact v_forget (fg_some (fg_some (fg_some (fg_none (fg_none (fg_none fg_nil)))))) K
  · have K := K2 cQ
    refine v_bipush dX5_findClasses_50 (by decide) (in_lit (by decide)) ?_
    refine v_iload_n dX5_findClasses_52 rfl ?_
    obtain ⟨o1, K⟩ := K
    refine v_imul dX5_findClasses_53 o1 ?_
    show V w 0 mX5_findClasses 54 [some (vR 313), some (vI ((o : Nat) : Int)), some (vI more), some (vI ((k : Nat) : Int)), none, none] [vI ((40 * o : Nat) : Int)] S J Q
    refine v_iload_n dX5_findClasses_54 rfl ?_
    refine v_bipush dX5_findClasses_55 (by decide) (in_lit (by decide)) ?_
    refine v_idiv dX5_findClasses_57 (by omega) (by decide) ?_
    show V w 0 mX5_findClasses 58 [some (vR 313), some (vI ((o : Nat) : Int)), some (vI more), some (vI ((k : Nat) : Int)), none, none] [vI ((k / 40 : Nat) : Int), vI ((40 * o : Nat) : Int)] S J Q
    obtain ⟨o2, K⟩ := K
    refine v_iadd dX5_findClasses_58 o2 ?_
    show V w 0 mX5_findClasses 59 [some (vR 313), some (vI ((o : Nat) : Int)), some (vI more), some (vI ((k : Nat) : Int)), none, none] [vI (((40 * o) + (k / 40) : Nat) : Int)] S J Q
    refine v_istore dX5_findClasses_59 (Nat.le_of_ble_eq_true rfl) ?_
    show V w 0 mX5_findClasses 61 [some (vR 313), some (vI ((o : Nat) : Int)), some (vI more), some (vI ((k : Nat) : Int)), some (vI (((40 * o) + (k / 40) : Nat) : Int)), none] [] S J Q
    refine v_bipush dX5_findClasses_61 (by decide) (in_lit (by decide)) ?_
    refine v_iload_n dX5_findClasses_63 rfl ?_
    obtain ⟨o3, K⟩ := K
    refine v_imul dX5_findClasses_64 o3 ?_
    show V w 0 mX5_findClasses 65 [some (vR 313), some (vI ((o : Nat) : Int)), some (vI more), some (vI ((k : Nat) : Int)), some (vI (((40 * o) + (k / 40) : Nat) : Int)), none] [vI ((40 * o : Nat) : Int)] S J Q
    refine v_iload_n dX5_findClasses_65 rfl ?_
    refine v_bipush dX5_findClasses_66 (by decide) (in_lit (by decide)) ?_
    refine v_irem dX5_findClasses_68 (by omega) (by decide) ?_
    show V w 0 mX5_findClasses 69 [some (vR 313), some (vI ((o : Nat) : Int)), some (vI more), some (vI ((k : Nat) : Int)), some (vI (((40 * o) + (k / 40) : Nat) : Int)), none] [vI ((k % 40 : Nat) : Int), vI ((40 * o : Nat) : Int)] S J Q
    obtain ⟨o4, K⟩ := K
    refine v_iadd dX5_findClasses_69 o4 ?_
    show V w 0 mX5_findClasses 70 [some (vR 313), some (vI ((o : Nat) : Int)), some (vI more), some (vI ((k : Nat) : Int)), some (vI (((40 * o) + (k / 40) : Nat) : Int)), none] [vI (((40 * o) + (k % 40) : Nat) : Int)] S J Q
    refine v_istore dX5_findClasses_70 (Nat.le_of_ble_eq_true rfl) ?_
    show V w 0 mX5_findClasses 72 [some (vR 313), some (vI ((o : Nat) : Int)), some (vI more), some (vI ((k : Nat) : Int)), some (vI (((40 * o) + (k / 40) : Nat) : Int)), some (vI (((40 * o) + (k % 40) : Nat) : Int))] [] S J Q
    refine v_aload_n dX5_findClasses_72 rfl ?_
    refine v_getR dX5_findClasses_73 frX5_100_5 rfl (L_313 hL).1 (LR_313_42 hL) (Or.inl rfl) ?_
    refine v_sipush dX5_findClasses_76 (by decide) (in_lit (by decide)) ?_
    refine v_iload_n dX5_findClasses_79 rfl ?_
    obtain ⟨o5, K⟩ := K
    refine v_imul dX5_findClasses_80 o5 ?_
    show V w 0 mX5_findClasses 81 [some (vR 313), some (vI ((o : Nat) : Int)), some (vI more), some (vI ((k : Nat) : Int)), some (vI (((40 * o) + (k / 40) : Nat) : Int)), some (vI (((40 * o) + (k % 40) : Nat) : Int))] [vI ((1600 * o : Nat) : Int), vR 341] S J Q
    refine v_iload_n dX5_findClasses_81 rfl ?_
    obtain ⟨o6, K⟩ := K
    refine v_iadd dX5_findClasses_82 o6 ?_
    show V w 0 mX5_findClasses 83 [some (vR 313), some (vI ((o : Nat) : Int)), some (vI more), some (vI ((k : Nat) : Int)), some (vI (((40 * o) + (k / 40) : Nat) : Int)), some (vI (((40 * o) + (k % 40) : Nat) : Int))] [vI (((1600 * o) + k : Nat) : Int), vR 341] S J Q
    obtain ⟨o7, K⟩ := K
    refine ld_341 dX5_findClasses_83 hL (by omega) o7 ?_
    show V w 0 mX5_findClasses 84 [some (vR 313), some (vI ((o : Nat) : Int)), some (vI more), some (vI ((k : Nat) : Int)), some (vI (((40 * o) + (k / 40) : Nat) : Int)), some (vI (((40 * o) + (k % 40) : Nat) : Int))] [vI (J 341 ((1600 * o) + k))] S J Q
    obtain ⟨K1, K2⟩ := K
    refine v_if_eq 123 dX5_findClasses_84 (by decide) (fun cQ => ?_) (fun cQ => ?_)
    · have K := K1 cQ
      obtain ⟨o8, K⟩ := K
      refine v_iinc dX5_findClasses_123 rfl o8 ?_
      show V w 0 mX5_findClasses 126 [some (vR 313), some (vI ((o : Nat) : Int)), some (vI more), some (vI ((k + 1 : Nat) : Int)), some (vI (((40 * o) + (k / 40) : Nat) : Int)), some (vI (((40 * o) + (k % 40) : Nat) : Int))] [] S J Q
      refine v_goto 43 dX5_findClasses_126 (by decide) ?_
      exact v_forget (fg_some (fg_some (fg_some (fg_some (fg_none (fg_none fg_nil)))))) K
    · have K := K2 cQ
      refine v_aload_n dX5_findClasses_87 rfl ?_
      refine v_getR dX5_findClasses_88 frX5_106_5 rfl (L_313 hL).1 (LR_313_44 hL) (Or.inl rfl) ?_
      refine v_iload dX5_findClasses_91 rfl ?_
      obtain ⟨o9, K⟩ := K
      refine ld_343 dX5_findClasses_93 hL (by omega) o9 ?_
      show V w 0 mX5_findClasses 94 [some (vR 313), some (vI ((o : Nat) : Int)), some (vI more), some (vI ((k : Nat) : Int)), some (vI (((40 * o) + (k / 40) : Nat) : Int)), some (vI (((40 * o) + (k % 40) : Nat) : Int))] [vI (J 343 ((40 * o) + (k / 40)))] S J Q
      refine v_aload_n dX5_findClasses_94 rfl ?_
      refine v_getR dX5_findClasses_95 frX5_106_5 rfl (L_313 hL).1 (LR_313_44 hL) (Or.inl rfl) ?_
      refine v_iload dX5_findClasses_98 rfl ?_
      obtain ⟨o10, K⟩ := K
      refine ld_343 dX5_findClasses_100 hL (by omega) o10 ?_
      show V w 0 mX5_findClasses 101 [some (vR 313), some (vI ((o : Nat) : Int)), some (vI more), some (vI ((k : Nat) : Int)), some (vI (((40 * o) + (k / 40) : Nat) : Int)), some (vI (((40 * o) + (k % 40) : Nat) : Int))] [vI (J 343 ((40 * o) + (k % 40))), vI (J 343 ((40 * o) + (k / 40)))] S J Q
      obtain ⟨K1, K2⟩ := K
      refine v_icmp_gt 107 dX5_findClasses_101 (by decide) (fun cQ => ?_) (fun cQ => ?_)
      · have K := K1 cQ
        refine v_aload_n dX5_findClasses_107 rfl ?_
        refine v_getR dX5_findClasses_108 frX5_106_5 rfl (L_313 hL).1 (LR_313_44 hL) (Or.inl rfl) ?_
        refine v_iload dX5_findClasses_111 rfl ?_
        refine v_aload_n dX5_findClasses_113 rfl ?_
        refine v_getR dX5_findClasses_114 frX5_106_5 rfl (L_313 hL).1 (LR_313_44 hL) (Or.inl rfl) ?_
        refine v_iload dX5_findClasses_117 rfl ?_
        obtain ⟨o11, K⟩ := K
        refine ld_343 dX5_findClasses_119 hL (by omega) o11 ?_
        show V w 0 mX5_findClasses 120 [some (vR 313), some (vI ((o : Nat) : Int)), some (vI more), some (vI ((k : Nat) : Int)), some (vI (((40 * o) + (k / 40) : Nat) : Int)), some (vI (((40 * o) + (k % 40) : Nat) : Int))] [vI (J 343 ((40 * o) + (k % 40))), vI (((40 * o) + (k / 40) : Nat) : Int), vR 343] S J Q
        obtain ⟨o12, K⟩ := K
        refine st_343 dX5_findClasses_120 hL (by omega) o12 ?_
        show V w 0 mX5_findClasses 121 [some (vR 313), some (vI ((o : Nat) : Int)), some (vI more), some (vI ((k : Nat) : Int)), some (vI (((40 * o) + (k / 40) : Nat) : Int)), some (vI (((40 * o) + (k % 40) : Nat) : Int))] [] S (up J 343 ((40 * o) + (k / 40)) (J 343 ((40 * o) + (k % 40)))) Q
        refine v_iconst dX5_findClasses_121 (in_lit (by decide)) ?_
        refine v_istore_n dX5_findClasses_122 (Nat.le_of_ble_eq_true rfl) ?_
        show V w 0 mX5_findClasses 123 [some (vR 313), some (vI ((o : Nat) : Int)), some (vI 1), some (vI ((k : Nat) : Int)), some (vI (((40 * o) + (k / 40) : Nat) : Int)), some (vI (((40 * o) + (k % 40) : Nat) : Int))] [] S (up J 343 ((40 * o) + (k / 40)) (J 343 ((40 * o) + (k % 40)))) Q
        obtain ⟨o13, K⟩ := K
        refine v_iinc dX5_findClasses_123 rfl o13 ?_
        show V w 0 mX5_findClasses 126 [some (vR 313), some (vI ((o : Nat) : Int)), some (vI 1), some (vI ((k + 1 : Nat) : Int)), some (vI (((40 * o) + (k / 40) : Nat) : Int)), some (vI (((40 * o) + (k % 40) : Nat) : Int))] [] S (up J 343 ((40 * o) + (k / 40)) (J 343 ((40 * o) + (k % 40)))) Q
        refine v_goto 43 dX5_findClasses_126 (by decide) ?_
        exact v_forget (fg_some (fg_some (fg_some (fg_some (fg_none (fg_none fg_nil)))))) K
      · have K := K2 cQ
        refine v_goto 123 dX5_findClasses_104 (by decide) ?_
        obtain ⟨o14, K⟩ := K
        refine v_iinc dX5_findClasses_123 rfl o14 ?_
        show V w 0 mX5_findClasses 126 [some (vR 313), some (vI ((o : Nat) : Int)), some (vI more), some (vI ((k + 1 : Nat) : Int)), some (vI (((40 * o) + (k / 40) : Nat) : Int)), some (vI (((40 * o) + (k % 40) : Nat) : Int))] [] S J Q
        refine v_goto 43 dX5_findClasses_126 (by decide) ?_
        exact v_forget (fg_some (fg_some (fg_some (fg_some (fg_none (fg_none fg_nil)))))) K

def sumL (L : Nat → Nat) : Nat → Nat
  | 0 => 0
  | n + 1 => sumL L n + L n
theorem sumL_lt {L L' : Nat → Nat} {u : Nat} (hu : L' u < L u) (ho : ∀ s, s ≠ u → L' s = L s) : ∀ n, (u < n → sumL L' n < sumL L n) ∧ (n ≤ u → sumL L' n = sumL L n)
  | 0 => ⟨fun h => absurd h (by omega), fun _ => rfl⟩
  | n + 1 => by
    have ih := sumL_lt hu ho n
    refine ⟨fun h => ?_, fun h => ?_⟩
    · unfold sumL
      rcases Nat.lt_or_ge u n with q | q
      · have := ih.1 q
        rw [ho n (by omega)]
        omega
      · obtain rfl : u = n := by omega
        have := ih.2 (Nat.le_refl _)
        omega
    · unfold sumL
      rw [ih.2 (by omega), ho n (by omega)]
def FCl (J J' : Jm) : Prop := ∀ a k, a ≠ 343 → J' a k = J a k
/-- the links of a sort, as they stand in the memory -/
def lkE (J : Jm) (o u v : Nat) : Prop := u < 40 ∧ v < 40 ∧ J 341 (1600 * o + 40 * u + v) = 1
theorem s_findClasses {w : Wd} {S : Sh} {J : Jm} {Q : Out → Sh → Jm → Prop} (hL : Lay S) (h01 : ∀ p : Nat, p < 3200 → J 341 p = 0 ∨ J 341 p = 1) (hsy : ∀ o u v, o < 2 → lkE J o u v → lkE J o v u)
    (K : ∀ J', FCl J J' → (∀ o s : Nat, o < 2 → s < 40 → J' 343 (40 * o + s) = (labOf (lkE J o) s : Nat)) → Q (.inl none) S J') : V w 0 mX5_findClasses 0 (ent mX5_findClasses [vR 313]) [] S J Q := by
  refine gX5_findClasses_0 hL ?_
  refine up_loop (P := fun o J1 => FCl J J1 ∧ ∀ o' s : Nat, o' < o → s < 40 → J1 343 (40 * o' + s) = (labOf (lkE J o') s : Nat)) 2
    (fun o J1 => V w 0 mX5_findClasses 2 [some (vR 313), some (vI (o : Int)), none, none, none, none] [] S J1 Q) ?_ ?_ 0 J (by omega) ⟨fun _ _ _ => rfl, fun o' s h => absurd h (by omega)⟩
  · intro o J1 ho ⟨f1, c1⟩ ih
    refine gX5_findClasses_2 (J := J1) hL o (br_n (by omega) ?_)
    -- a state of the labels: rounds until nothing moves
    have rounds : ∀ (M : Nat) (L : Nat → Nat) (J2 : Jm), sumL L 40 < M → LabW (lkE J o) (fun _ _ => False) L → FCl J J2 → (∀ o' s : Nat, o' < o → s < 40 → J2 343 (40 * o' + s) = (labOf (lkE J o') s : Nat)) → (∀ s : Nat, s < 40 → J2 343 (40 * o + s) = (L s : Nat)) → V w 0 mX5_findClasses 35 [some (vR 313), some (vI (o : Int)), some (vI 1), none, none, none] [] S J2 Q := by
      intro M
      induction M with
      | zero =>
        intro L J2 hM
        exact absurd hM (by omega)
      | succ M ihM =>
        intro L J2 hM hW f2 c2 l2
        refine gX5_findClasses_35 (J := J2) hL o 1 (br_n (by omega) ?_)
        have inner : ∀ (n k : Nat) (more : Int) (L' : Nat → Nat) (J3 : Jm), k + n = 1600 → LabW (lkE J o) (fun _ _ => False) L' → FCl J J3 → (∀ o' s : Nat, o' < o → s < 40 → J3 343 (40 * o' + s) = (labOf (lkE J o') s : Nat)) → (∀ s : Nat, s < 40 → J3 343 (40 * o + s) = (L' s : Nat)) → ((more = 0 ∧ sumL L' 40 = sumL L 40 ∧ ∀ u v, 40 * u + v < k → lkE J o u v → L' u ≤ L' v) ∨ (more = 1 ∧ sumL L' 40 < sumL L 40)) → V w 0 mX5_findClasses 43 [some (vR 313), some (vI (o : Int)), some (vI more), some (vI (k : Int)), none, none] [] S J3 Q := by
          intro n
          induction n with
          | zero =>
            intro k more L' J3 hk hW' f3 c3 l3 hI
            refine gX5_findClasses_43 (J := J3) hL o more k (br_y (by omega) ?_)
            rcases hI with ⟨rfl, -, hE⟩ | ⟨rfl, hs⟩
            · refine gX5_findClasses_35 (J := J3) hL o 0 (br_y rfl ⟨by omega, ih J3 ⟨f3, fun o' s h1 h2 => ?_⟩⟩)
              rcases Nat.lt_or_ge o' o with q | q
              · exact c3 o' s q h2
              · obtain rfl : o' = o := by omega
                have hlab : IsLab (lkE J o') L' := ⟨fun x y hxy => Nat.le_antisymm (hE x y (by have := hxy.1; have := hxy.2.1; omega) hxy) (hE y x (by have := hxy.1; have := hxy.2.1; omega) (hsy _ _ _ (by omega) hxy)), hW'.2.1, hW'.2.2⟩
                rw [l3 s h2, labOf_eq hlab h2]
            · exact ihM L' J3 (by omega) hW' f3 c3 l3
          | succ n ihn =>
            intro k more L' J3 hk hW' f3 c3 l3 hI
            have eL : J3 341 (1600 * o + k) = J 341 (1600 * o + k) := f3 _ _ (by decide)
            have z01 := h01 (1600 * o + k) (by omega)
            have hkk : 40 * (k / 40) + k % 40 = k := by omega
            have eu := l3 (k / 40) (by omega)
            have ev := l3 (k % 40) (by omega)
            have hu3 := hW'.2.2 (k / 40) (by omega)
            refine gX5_findClasses_43 (J := J3) hL o more k (br_n (by omega) ?_)
            repeat' (first | (refine And.intro ?_ ?_; omega))
            rw [eL]
            refine br_i (fun hb => ?_) (fun hb => ?_)
            · refine And.intro (by omega) ?_
              refine ihn (k + 1) more L' J3 (by omega) hW' f3 c3 l3 ?_
              rcases hI with ⟨q1, q2, hE⟩ | q
              · refine Or.inl ⟨q1, q2, fun u v huv hl => ?_⟩
                rcases Nat.lt_or_ge (40 * u + v) k with q | q
                · exact hE u v q hl
                · exfalso
                  have := hl.2.2
                  rw [show 1600 * o + 40 * u + v = 1600 * o + k by omega] at this
                  omega
              · exact Or.inr q
            · have hedge : lkE J o (k / 40) (k % 40) := ⟨by omega, by omega, by rw [show 1600 * o + 40 * (k / 40) + k % 40 = 1600 * o + k by omega]; omega⟩
              repeat' (first | (refine And.intro ?_ ?_; omega))
              rw [eu, ev]
              refine br_i (fun hb2 => ?_) (fun hb2 => ?_)
              · repeat' (first | (refine And.intro ?_ ?_; omega))
                refine ihn (k + 1) 1 (fun s => if s = k / 40 then L' (k % 40) else L' s) _ (by omega) ⟨fun _ _ h => h.elim, fun s hs => ?_, fun s hs => ?_⟩ (fun a j ha => by rw [up_na ha]; exact f3 a j ha) (fun o' s h1 h2 => by rw [up_nk (by omega)]; exact c3 o' s h1 h2) (fun s hs => ?_) (Or.inr ⟨rfl, ?_⟩)
                · dsimp only
                  by_cases hsu : s = k / 40
                  · rw [if_pos hsu, hsu]
                    exact (hW'.2.1 (k % 40) (by omega)).trans (Conn.edge hedge).symm
                  · rw [if_neg hsu]; exact hW'.2.1 s hs
                · dsimp only
                  by_cases hsu : s = k / 40
                  · rw [if_pos hsu, hsu]; omega
                  · rw [if_neg hsu]; exact hW'.2.2 s hs
                · by_cases hsu : s = k / 40
                  · rw [if_pos hsu, hsu, up_self]
                  · rw [if_neg hsu, up_nk (by omega)]; exact l3 s hs
                · have h9 := (sumL_lt (L := L') (L' := fun s => if s = k / 40 then L' (k % 40) else L' s) (u := k / 40) (by rw [if_pos rfl]; omega) (fun s hs => if_neg hs) 40).1 (by omega)
                  rcases hI with ⟨-, q, -⟩ | ⟨-, q⟩ <;> omega
              · refine And.intro (by omega) ?_
                refine ihn (k + 1) more L' J3 (by omega) hW' f3 c3 l3 ?_
                rcases hI with ⟨q1, q2, hE⟩ | q
                · refine Or.inl ⟨q1, q2, fun u v huv hl => ?_⟩
                  rcases Nat.lt_or_ge (40 * u + v) k with q | q
                  · exact hE u v q hl
                  · have h8 := hl.1
                    have h7 := hl.2.1
                    obtain rfl : u = k / 40 := by omega
                    obtain rfl : v = k % 40 := by omega
                    omega
                · exact Or.inr q
        exact inner 1600 0 0 L J2 (by omega) hW f2 c2 l2 (Or.inl ⟨rfl, rfl, fun u v h => absurd h (by omega)⟩)
    refine up_loop (P := fun s J2 => FCl J J2 ∧ (∀ o' s : Nat, o' < o → s < 40 → J2 343 (40 * o' + s) = (labOf (lkE J o') s : Nat)) ∧ ∀ j : Nat, j < s → J2 343 (40 * o + j) = (j : Nat)) 40
      (fun s J2 => V w 0 mX5_findClasses 9 [some (vR 313), some (vI (o : Int)), some (vI (s : Int)), none, none, none] [] S J2 Q) ?_ ?_ 0 J1 (by omega) ⟨f1, c1, fun j hj => absurd hj (by omega)⟩
    · intro s J2 hs ⟨f2, c2, l2⟩ ih2
      refine gX5_findClasses_9 (J := J2) hL o s (br_n (by omega) ?_)
      repeat' (first | (refine And.intro ?_ ?_; omega))
      refine ih2 _ ⟨fun a k ha => by rw [up_na ha]; exact f2 a k ha, fun o' s' h1 h2 => by rw [up_nk (by omega)]; exact c2 o' s' h1 h2, fun j hj => ?_⟩
      by_cases hjs : j = s
      · rw [hjs, up_self]
      · rw [up_nk (by omega)]; exact l2 j (by omega)
    · intro J2 ⟨f2, c2, l2⟩
      refine gX5_findClasses_9 (J := J2) hL o 40 (br_y (by omega) ?_)
      exact rounds (sumL (fun s => s) 40 + 1) (fun s => s) J2 (Nat.lt_succ_self _) (LabW.start _) f2 c2 l2
  · intro J1 ⟨f1, c1⟩
    exact gX5_findClasses_2 (J := J1) hL 2 (br_y (by omega) (K J1 f1 c1))
