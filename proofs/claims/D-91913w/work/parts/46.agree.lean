/-! the model: whether cells agree -/
set_option maxRecDepth 100000
theorem gX5_agree_0 {w : Wd} {S : Sh} {J : Jm} {Q : Out → Sh → Jm → Prop} (hL : Lay S) (s : Nat) (c : Int) (o : Nat) (d9 : Int)
    (K : Br (c = d9) (Q (.inl (some (vI 0))) S J) ((((s : Nat) : Int) < 80) ∧ (((o : Nat) : Int) < 80) ∧ Br (J 343 s = J 343 o) ((0 ≤ c) ∧ (0 ≤ d9) ∧ Br (c / 5 = d9 / 5) ((-2147483648 ≤ 40 + ((s : Nat) : Int) ∧ 40 + ((s : Nat) : Int) ≤ 2147483647) ∧ (((40 + s : Nat) : Int) < 80) ∧ (-2147483648 ≤ 40 + ((o : Nat) : Int) ∧ 40 + ((o : Nat) : Int) ≤ 2147483647) ∧ (((40 + o : Nat) : Int) < 80) ∧ Br (J 343 (40 + s) = J 343 (40 + o)) (Br (c % 5 = d9 % 5) ((-2147483648 ≤ 40 * ((s : Nat) : Int) ∧ 40 * ((s : Nat) : Int) ≤ 2147483647) ∧ (-2147483648 ≤ ((40 * s : Nat) : Int) + ((o : Nat) : Int) ∧ ((40 * s : Nat) : Int) + ((o : Nat) : Int) ≤ 2147483647) ∧ ((((40 * s) + o : Nat) : Int) < 3200) ∧ Br (J 342 ((40 * s) + o) = 0) ((-2147483648 ≤ 1600 + ((40 * s : Nat) : Int) ∧ 1600 + ((40 * s : Nat) : Int) ≤ 2147483647) ∧ (-2147483648 ≤ ((1600 + (40 * s) : Nat) : Int) + ((o : Nat) : Int) ∧ ((1600 + (40 * s) : Nat) : Int) + ((o : Nat) : Int) ≤ 2147483647) ∧ ((((1600 + (40 * s)) + o : Nat) : Int) < 3200) ∧ Br (J 342 ((1600 + (40 * s)) + o) = 0) (Q (.inl (some (vI 1))) S J) (Q (.inl (some (vI 0))) S J)) (Q (.inl (some (vI 0))) S J)) (Q (.inl (some (vI 0))) S J)) ((-2147483648 ≤ 40 * ((s : Nat) : Int) ∧ 40 * ((s : Nat) : Int) ≤ 2147483647) ∧ (-2147483648 ≤ ((40 * s : Nat) : Int) + ((o : Nat) : Int) ∧ ((40 * s : Nat) : Int) + ((o : Nat) : Int) ≤ 2147483647) ∧ ((((40 * s) + o : Nat) : Int) < 3200) ∧ Br (J 342 ((40 * s) + o) = 0) ((-2147483648 ≤ 1600 + ((40 * s : Nat) : Int) ∧ 1600 + ((40 * s : Nat) : Int) ≤ 2147483647) ∧ (-2147483648 ≤ ((1600 + (40 * s) : Nat) : Int) + ((o : Nat) : Int) ∧ ((1600 + (40 * s) : Nat) : Int) + ((o : Nat) : Int) ≤ 2147483647) ∧ ((((1600 + (40 * s)) + o : Nat) : Int) < 3200) ∧ Br (J 342 ((1600 + (40 * s)) + o) = 0) (Q (.inl (some (vI 1))) S J) (Br (c % 5 = d9 % 5) (Q (.inl (some (vI 0))) S J) (Q (.inl (some (vI 1))) S J))) (Q (.inl (some (vI 0))) S J))) (Q (.inl (some (vI 0))) S J)) ((-2147483648 ≤ 40 + ((s : Nat) : Int) ∧ 40 + ((s : Nat) : Int) ≤ 2147483647) ∧ (((40 + s : Nat) : Int) < 80) ∧ (-2147483648 ≤ 40 + ((o : Nat) : Int) ∧ 40 + ((o : Nat) : Int) ≤ 2147483647) ∧ (((40 + o : Nat) : Int) < 80) ∧ Br (J 343 (40 + s) = J 343 (40 + o)) ((0 ≤ c) ∧ (0 ≤ d9) ∧ Br (c % 5 = d9 % 5) ((-2147483648 ≤ 40 * ((s : Nat) : Int) ∧ 40 * ((s : Nat) : Int) ≤ 2147483647) ∧ (-2147483648 ≤ ((40 * s : Nat) : Int) + ((o : Nat) : Int) ∧ ((40 * s : Nat) : Int) + ((o : Nat) : Int) ≤ 2147483647) ∧ ((((40 * s) + o : Nat) : Int) < 3200) ∧ Br (J 342 ((40 * s) + o) = 0) ((-2147483648 ≤ 1600 + ((40 * s : Nat) : Int) ∧ 1600 + ((40 * s : Nat) : Int) ≤ 2147483647) ∧ (-2147483648 ≤ ((1600 + (40 * s) : Nat) : Int) + ((o : Nat) : Int) ∧ ((1600 + (40 * s) : Nat) : Int) + ((o : Nat) : Int) ≤ 2147483647) ∧ ((((1600 + (40 * s)) + o : Nat) : Int) < 3200) ∧ Br (J 342 ((1600 + (40 * s)) + o) = 0) (Q (.inl (some (vI 1))) S J) (Q (.inl (some (vI 0))) S J)) (Br (c / 5 = d9 / 5) (Q (.inl (some (vI 0))) S J) ((-2147483648 ≤ 1600 + ((40 * s : Nat) : Int) ∧ 1600 + ((40 * s : Nat) : Int) ≤ 2147483647) ∧ (-2147483648 ≤ ((1600 + (40 * s) : Nat) : Int) + ((o : Nat) : Int) ∧ ((1600 + (40 * s) : Nat) : Int) + ((o : Nat) : Int) ≤ 2147483647) ∧ ((((1600 + (40 * s)) + o : Nat) : Int) < 3200) ∧ Br (J 342 ((1600 + (40 * s)) + o) = 0) (Q (.inl (some (vI 1))) S J) (Q (.inl (some (vI 0))) S J)))) (Q (.inl (some (vI 0))) S J)) ((-2147483648 ≤ 40 * ((s : Nat) : Int) ∧ 40 * ((s : Nat) : Int) ≤ 2147483647) ∧ (-2147483648 ≤ ((40 * s : Nat) : Int) + ((o : Nat) : Int) ∧ ((40 * s : Nat) : Int) + ((o : Nat) : Int) ≤ 2147483647) ∧ ((((40 * s) + o : Nat) : Int) < 3200) ∧ Br (J 342 ((40 * s) + o) = 0) ((-2147483648 ≤ 1600 + ((40 * s : Nat) : Int) ∧ 1600 + ((40 * s : Nat) : Int) ≤ 2147483647) ∧ (-2147483648 ≤ ((1600 + (40 * s) : Nat) : Int) + ((o : Nat) : Int) ∧ ((1600 + (40 * s) : Nat) : Int) + ((o : Nat) : Int) ≤ 2147483647) ∧ ((((1600 + (40 * s)) + o : Nat) : Int) < 3200) ∧ Br (J 342 ((1600 + (40 * s)) + o) = 0) (Q (.inl (some (vI 1))) S J) ((0 ≤ c) ∧ (0 ≤ d9) ∧ Br (c % 5 = d9 % 5) (Q (.inl (some (vI 0))) S J) (Q (.inl (some (vI 1))) S J))) ((0 ≤ c) ∧ (0 ≤ d9) ∧ Br (c / 5 = d9 / 5) (Q (.inl (some (vI 0))) S J) ((-2147483648 ≤ 1600 + ((40 * s : Nat) : Int) ∧ 1600 + ((40 * s : Nat) : Int) ≤ 2147483647) ∧ (-2147483648 ≤ ((1600 + (40 * s) : Nat) : Int) + ((o : Nat) : Int) ∧ ((1600 + (40 * s) : Nat) : Int) + ((o : Nat) : Int) ≤ 2147483647) ∧ ((((1600 + (40 * s)) + o : Nat) : Int) < 3200) ∧ Br (J 342 ((1600 + (40 * s)) + o) = 0) (Q (.inl (some (vI 1))) S J) (Br (c % 5 = d9 % 5) (Q (.inl (some (vI 0))) S J) (Q (.inl (some (vI 1))) S J)))))))) :
    V w 0 mX5_agree 0 (ent mX5_agree [vR 313, vI ((s : Nat) : Int), vI c, vI ((o : Nat) : Int), vI d9]) [] S J Q := by
  show V w 0 mX5_agree 0 [some (vR 313), some (vI ((s : Nat) : Int)), some (vI c), some (vI ((o : Nat) : Int)), some (vI d9)] [] S J Q
  refine v_iload_n dX5_agree_0 rfl ?_
  refine v_iload dX5_agree_1 rfl ?_
  obtain ⟨K1, K2⟩ := K
  refine v_icmp_ne 8 dX5_agree_3 (by decide) (fun c1 => ?_) (fun c1 => ?_)
  · have K := K2 c1
    refine v_aload_n dX5_agree_8 rfl ?_
    refine v_getR dX5_agree_9 frX5_106_5 rfl (L_313 hL).1 (LR_313_44 hL) (Or.inl rfl) ?_
    refine v_iload_n dX5_agree_12 rfl ?_
    obtain ⟨o1, K⟩ := K
    refine ld_343 dX5_agree_13 hL (by omega) o1 ?_
    show V w 0 mX5_agree 14 [some (vR 313), some (vI ((s : Nat) : Int)), some (vI c), some (vI ((o : Nat) : Int)), some (vI d9)] [vI (J 343 s)] S J Q
    refine v_aload_n dX5_agree_14 rfl ?_
    refine v_getR dX5_agree_15 frX5_106_5 rfl (L_313 hL).1 (LR_313_44 hL) (Or.inl rfl) ?_
    refine v_iload_n dX5_agree_18 rfl ?_
    obtain ⟨o2, K⟩ := K
    refine ld_343 dX5_agree_19 hL (by omega) o2 ?_
    show V w 0 mX5_agree 20 [some (vR 313), some (vI ((s : Nat) : Int)), some (vI c), some (vI ((o : Nat) : Int)), some (vI d9)] [vI (J 343 o), vI (J 343 s)] S J Q
    obtain ⟨K1, K2⟩ := K
    refine v_icmp_ne 35 dX5_agree_20 (by decide) (fun c2 => ?_) (fun c2 => ?_)
    · have K := K2 c2
      refine v_aload_n dX5_agree_35 rfl ?_
      refine v_getR dX5_agree_36 frX5_106_5 rfl (L_313 hL).1 (LR_313_44 hL) (Or.inl rfl) ?_
      refine v_bipush dX5_agree_39 (by decide) (in_lit (by decide)) ?_
      refine v_iload_n dX5_agree_41 rfl ?_
      obtain ⟨o3, K⟩ := K
      refine v_iadd dX5_agree_42 o3 ?_
      show V w 0 mX5_agree 43 [some (vR 313), some (vI ((s : Nat) : Int)), some (vI c), some (vI ((o : Nat) : Int)), some (vI d9)] [vI ((40 + s : Nat) : Int), vR 343] S J Q
      obtain ⟨o4, K⟩ := K
      refine ld_343 dX5_agree_43 hL (by omega) o4 ?_
      show V w 0 mX5_agree 44 [some (vR 313), some (vI ((s : Nat) : Int)), some (vI c), some (vI ((o : Nat) : Int)), some (vI d9)] [vI (J 343 (40 + s))] S J Q
      refine v_aload_n dX5_agree_44 rfl ?_
      refine v_getR dX5_agree_45 frX5_106_5 rfl (L_313 hL).1 (LR_313_44 hL) (Or.inl rfl) ?_
      refine v_bipush dX5_agree_48 (by decide) (in_lit (by decide)) ?_
      refine v_iload_n dX5_agree_50 rfl ?_
      obtain ⟨o5, K⟩ := K
      refine v_iadd dX5_agree_51 o5 ?_
      show V w 0 mX5_agree 52 [some (vR 313), some (vI ((s : Nat) : Int)), some (vI c), some (vI ((o : Nat) : Int)), some (vI d9)] [vI ((40 + o : Nat) : Int), vR 343, vI (J 343 (40 + s))] S J Q
      obtain ⟨o6, K⟩ := K
      refine ld_343 dX5_agree_52 hL (by omega) o6 ?_
      show V w 0 mX5_agree 53 [some (vR 313), some (vI ((s : Nat) : Int)), some (vI c), some (vI ((o : Nat) : Int)), some (vI d9)] [vI (J 343 (40 + o)), vI (J 343 (40 + s))] S J Q
      obtain ⟨K1, K2⟩ := K
      refine v_icmp_ne 68 dX5_agree_53 (by decide) (fun c3 => ?_) (fun c3 => ?_)
      · have K := K2 c3
        refine v_aload_n dX5_agree_68 rfl ?_
        refine v_getR dX5_agree_69 frX5_103_5 rfl (L_313 hL).1 (LR_313_43 hL) (Or.inl rfl) ?_
        refine v_bipush dX5_agree_72 (by decide) (in_lit (by decide)) ?_
        refine v_iload_n dX5_agree_74 rfl ?_
        obtain ⟨o7, K⟩ := K
        refine v_imul dX5_agree_75 o7 ?_
        show V w 0 mX5_agree 76 [some (vR 313), some (vI ((s : Nat) : Int)), some (vI c), some (vI ((o : Nat) : Int)), some (vI d9)] [vI ((40 * s : Nat) : Int), vR 342] S J Q
        refine v_iload_n dX5_agree_76 rfl ?_
        obtain ⟨o8, K⟩ := K
        refine v_iadd dX5_agree_77 o8 ?_
        show V w 0 mX5_agree 78 [some (vR 313), some (vI ((s : Nat) : Int)), some (vI c), some (vI ((o : Nat) : Int)), some (vI d9)] [vI (((40 * s) + o : Nat) : Int), vR 342] S J Q
        obtain ⟨o9, K⟩ := K
        refine ld_342 dX5_agree_78 hL (by omega) o9 ?_
        show V w 0 mX5_agree 79 [some (vR 313), some (vI ((s : Nat) : Int)), some (vI c), some (vI ((o : Nat) : Int)), some (vI d9)] [vI (J 342 ((40 * s) + o))] S J Q
        obtain ⟨K1, K2⟩ := K
        refine v_if_eq 94 dX5_agree_79 (by decide) (fun c4 => ?_) (fun c4 => ?_)
        · have K := K1 c4
          refine v_aload_n dX5_agree_94 rfl ?_
          refine v_getR dX5_agree_95 frX5_103_5 rfl (L_313 hL).1 (LR_313_43 hL) (Or.inl rfl) ?_
          refine v_sipush dX5_agree_98 (by decide) (in_lit (by decide)) ?_
          refine v_bipush dX5_agree_101 (by decide) (in_lit (by decide)) ?_
          refine v_iload_n dX5_agree_103 rfl ?_
          refine v_imul dX5_agree_104 o7 ?_
          show V w 0 mX5_agree 105 [some (vR 313), some (vI ((s : Nat) : Int)), some (vI c), some (vI ((o : Nat) : Int)), some (vI d9)] [vI ((40 * s : Nat) : Int), vI 1600, vR 342] S J Q
          obtain ⟨o10, K⟩ := K
          refine v_iadd dX5_agree_105 o10 ?_
          show V w 0 mX5_agree 106 [some (vR 313), some (vI ((s : Nat) : Int)), some (vI c), some (vI ((o : Nat) : Int)), some (vI d9)] [vI ((1600 + (40 * s) : Nat) : Int), vR 342] S J Q
          refine v_iload_n dX5_agree_106 rfl ?_
          obtain ⟨o11, K⟩ := K
          refine v_iadd dX5_agree_107 o11 ?_
          show V w 0 mX5_agree 108 [some (vR 313), some (vI ((s : Nat) : Int)), some (vI c), some (vI ((o : Nat) : Int)), some (vI d9)] [vI (((1600 + (40 * s)) + o : Nat) : Int), vR 342] S J Q
          obtain ⟨o12, K⟩ := K
          refine ld_342 dX5_agree_108 hL (by omega) o12 ?_
          show V w 0 mX5_agree 109 [some (vR 313), some (vI ((s : Nat) : Int)), some (vI c), some (vI ((o : Nat) : Int)), some (vI d9)] [vI (J 342 ((1600 + (40 * s)) + o))] S J Q
          obtain ⟨K1, K2⟩ := K
          refine v_if_eq 122 dX5_agree_109 (by decide) (fun c5 => ?_) (fun c5 => ?_)
          · have K := K1 c5
            refine v_iconst dX5_agree_122 (in_lit (by decide)) ?_
            refine v_goto 127 dX5_agree_123 (by decide) ?_
            exact v_iret dX5_agree_127 rfl (by decide) K
          · have K := K2 c5
            refine v_iload_n dX5_agree_112 rfl ?_
            refine v_iconst dX5_agree_113 (in_lit (by decide)) ?_
            obtain ⟨o13, K⟩ := K
            refine v_irem dX5_agree_114 o13 (by decide) ?_
            refine v_iload dX5_agree_115 rfl ?_
            refine v_iconst dX5_agree_117 (in_lit (by decide)) ?_
            obtain ⟨o14, K⟩ := K
            refine v_irem dX5_agree_118 o14 (by decide) ?_
            obtain ⟨K1, K2⟩ := K
            refine v_icmp_eq 126 dX5_agree_119 (by decide) (fun c6 => ?_) (fun c6 => ?_)
            · have K := K1 c6
              refine v_iconst dX5_agree_126 (in_lit (by decide)) ?_
              exact v_iret dX5_agree_127 rfl (by decide) K
            · have K := K2 c6
              refine v_iconst dX5_agree_122 (in_lit (by decide)) ?_
              refine v_goto 127 dX5_agree_123 (by decide) ?_
              exact v_iret dX5_agree_127 rfl (by decide) K
        · have K := K2 c4
          refine v_iload_n dX5_agree_82 rfl ?_
          refine v_iconst dX5_agree_83 (in_lit (by decide)) ?_
          obtain ⟨o15, K⟩ := K
          refine v_idiv dX5_agree_84 o15 (by decide) ?_
          refine v_iload dX5_agree_85 rfl ?_
          refine v_iconst dX5_agree_87 (in_lit (by decide)) ?_
          obtain ⟨o16, K⟩ := K
          refine v_idiv dX5_agree_88 o16 (by decide) ?_
          obtain ⟨K1, K2⟩ := K
          refine v_icmp_ne 94 dX5_agree_89 (by decide) (fun c7 => ?_) (fun c7 => ?_)
          · have K := K2 c7
            refine v_aload_n dX5_agree_94 rfl ?_
            refine v_getR dX5_agree_95 frX5_103_5 rfl (L_313 hL).1 (LR_313_43 hL) (Or.inl rfl) ?_
            refine v_sipush dX5_agree_98 (by decide) (in_lit (by decide)) ?_
            refine v_bipush dX5_agree_101 (by decide) (in_lit (by decide)) ?_
            refine v_iload_n dX5_agree_103 rfl ?_
            refine v_imul dX5_agree_104 o7 ?_
            show V w 0 mX5_agree 105 [some (vR 313), some (vI ((s : Nat) : Int)), some (vI c), some (vI ((o : Nat) : Int)), some (vI d9)] [vI ((40 * s : Nat) : Int), vI 1600, vR 342] S J Q
            obtain ⟨o17, K⟩ := K
            refine v_iadd dX5_agree_105 o17 ?_
            show V w 0 mX5_agree 106 [some (vR 313), some (vI ((s : Nat) : Int)), some (vI c), some (vI ((o : Nat) : Int)), some (vI d9)] [vI ((1600 + (40 * s) : Nat) : Int), vR 342] S J Q
            refine v_iload_n dX5_agree_106 rfl ?_
            obtain ⟨o18, K⟩ := K
            refine v_iadd dX5_agree_107 o18 ?_
            show V w 0 mX5_agree 108 [some (vR 313), some (vI ((s : Nat) : Int)), some (vI c), some (vI ((o : Nat) : Int)), some (vI d9)] [vI (((1600 + (40 * s)) + o : Nat) : Int), vR 342] S J Q
            obtain ⟨o19, K⟩ := K
            refine ld_342 dX5_agree_108 hL (by omega) o19 ?_
            show V w 0 mX5_agree 109 [some (vR 313), some (vI ((s : Nat) : Int)), some (vI c), some (vI ((o : Nat) : Int)), some (vI d9)] [vI (J 342 ((1600 + (40 * s)) + o))] S J Q
            obtain ⟨K1, K2⟩ := K
            refine v_if_eq 122 dX5_agree_109 (by decide) (fun c8 => ?_) (fun c8 => ?_)
            · have K := K1 c8
              refine v_iconst dX5_agree_122 (in_lit (by decide)) ?_
              refine v_goto 127 dX5_agree_123 (by decide) ?_
              exact v_iret dX5_agree_127 rfl (by decide) K
            · have K := K2 c8
              refine v_iload_n dX5_agree_112 rfl ?_
              refine v_iconst dX5_agree_113 (in_lit (by decide)) ?_
              refine v_irem dX5_agree_114 o15 (by decide) ?_
              refine v_iload dX5_agree_115 rfl ?_
              refine v_iconst dX5_agree_117 (in_lit (by decide)) ?_
              refine v_irem dX5_agree_118 o16 (by decide) ?_
              obtain ⟨K1, K2⟩ := K
              refine v_icmp_eq 126 dX5_agree_119 (by decide) (fun c9 => ?_) (fun c9 => ?_)
              · have K := K1 c9
                refine v_iconst dX5_agree_126 (in_lit (by decide)) ?_
                exact v_iret dX5_agree_127 rfl (by decide) K
              · have K := K2 c9
                refine v_iconst dX5_agree_122 (in_lit (by decide)) ?_
                refine v_goto 127 dX5_agree_123 (by decide) ?_
                exact v_iret dX5_agree_127 rfl (by decide) K
          · have K := K1 c7
            refine v_iconst dX5_agree_92 (in_lit (by decide)) ?_
            exact v_iret dX5_agree_93 rfl (by decide) K
      · have K := K1 c3
        refine v_iload_n dX5_agree_56 rfl ?_
        refine v_iconst dX5_agree_57 (in_lit (by decide)) ?_
        obtain ⟨o20, K⟩ := K
        refine v_irem dX5_agree_58 o20 (by decide) ?_
        refine v_iload dX5_agree_59 rfl ?_
        refine v_iconst dX5_agree_61 (in_lit (by decide)) ?_
        obtain ⟨o21, K⟩ := K
        refine v_irem dX5_agree_62 o21 (by decide) ?_
        obtain ⟨K1, K2⟩ := K
        refine v_icmp_eq 68 dX5_agree_63 (by decide) (fun c10 => ?_) (fun c10 => ?_)
        · have K := K1 c10
          refine v_aload_n dX5_agree_68 rfl ?_
          refine v_getR dX5_agree_69 frX5_103_5 rfl (L_313 hL).1 (LR_313_43 hL) (Or.inl rfl) ?_
          refine v_bipush dX5_agree_72 (by decide) (in_lit (by decide)) ?_
          refine v_iload_n dX5_agree_74 rfl ?_
          obtain ⟨o22, K⟩ := K
          refine v_imul dX5_agree_75 o22 ?_
          show V w 0 mX5_agree 76 [some (vR 313), some (vI ((s : Nat) : Int)), some (vI c), some (vI ((o : Nat) : Int)), some (vI d9)] [vI ((40 * s : Nat) : Int), vR 342] S J Q
          refine v_iload_n dX5_agree_76 rfl ?_
          obtain ⟨o23, K⟩ := K
          refine v_iadd dX5_agree_77 o23 ?_
          show V w 0 mX5_agree 78 [some (vR 313), some (vI ((s : Nat) : Int)), some (vI c), some (vI ((o : Nat) : Int)), some (vI d9)] [vI (((40 * s) + o : Nat) : Int), vR 342] S J Q
          obtain ⟨o24, K⟩ := K
          refine ld_342 dX5_agree_78 hL (by omega) o24 ?_
          show V w 0 mX5_agree 79 [some (vR 313), some (vI ((s : Nat) : Int)), some (vI c), some (vI ((o : Nat) : Int)), some (vI d9)] [vI (J 342 ((40 * s) + o))] S J Q
          obtain ⟨K1, K2⟩ := K
          refine v_if_eq 94 dX5_agree_79 (by decide) (fun c11 => ?_) (fun c11 => ?_)
          · have K := K1 c11
            refine v_aload_n dX5_agree_94 rfl ?_
            refine v_getR dX5_agree_95 frX5_103_5 rfl (L_313 hL).1 (LR_313_43 hL) (Or.inl rfl) ?_
            refine v_sipush dX5_agree_98 (by decide) (in_lit (by decide)) ?_
            refine v_bipush dX5_agree_101 (by decide) (in_lit (by decide)) ?_
            refine v_iload_n dX5_agree_103 rfl ?_
            refine v_imul dX5_agree_104 o22 ?_
            show V w 0 mX5_agree 105 [some (vR 313), some (vI ((s : Nat) : Int)), some (vI c), some (vI ((o : Nat) : Int)), some (vI d9)] [vI ((40 * s : Nat) : Int), vI 1600, vR 342] S J Q
            obtain ⟨o25, K⟩ := K
            refine v_iadd dX5_agree_105 o25 ?_
            show V w 0 mX5_agree 106 [some (vR 313), some (vI ((s : Nat) : Int)), some (vI c), some (vI ((o : Nat) : Int)), some (vI d9)] [vI ((1600 + (40 * s) : Nat) : Int), vR 342] S J Q
            refine v_iload_n dX5_agree_106 rfl ?_
            obtain ⟨o26, K⟩ := K
            refine v_iadd dX5_agree_107 o26 ?_
            show V w 0 mX5_agree 108 [some (vR 313), some (vI ((s : Nat) : Int)), some (vI c), some (vI ((o : Nat) : Int)), some (vI d9)] [vI (((1600 + (40 * s)) + o : Nat) : Int), vR 342] S J Q
            obtain ⟨o27, K⟩ := K
            refine ld_342 dX5_agree_108 hL (by omega) o27 ?_
            show V w 0 mX5_agree 109 [some (vR 313), some (vI ((s : Nat) : Int)), some (vI c), some (vI ((o : Nat) : Int)), some (vI d9)] [vI (J 342 ((1600 + (40 * s)) + o))] S J Q
            obtain ⟨K1, K2⟩ := K
            refine v_if_eq 122 dX5_agree_109 (by decide) (fun c12 => ?_) (fun c12 => ?_)
            · have K := K1 c12
              refine v_iconst dX5_agree_122 (in_lit (by decide)) ?_
              refine v_goto 127 dX5_agree_123 (by decide) ?_
              exact v_iret dX5_agree_127 rfl (by decide) K
            · have K := K2 c12
              refine v_iload_n dX5_agree_112 rfl ?_
              refine v_iconst dX5_agree_113 (in_lit (by decide)) ?_
              refine v_irem dX5_agree_114 o20 (by decide) ?_
              refine v_iload dX5_agree_115 rfl ?_
              refine v_iconst dX5_agree_117 (in_lit (by decide)) ?_
              refine v_irem dX5_agree_118 o21 (by decide) ?_
              refine v_icmp_eq 126 dX5_agree_119 (by decide) (fun _ => ?_) (fun cQ => absurd c10 cQ)
              refine v_iconst dX5_agree_126 (in_lit (by decide)) ?_
              exact v_iret dX5_agree_127 rfl (by decide) K
          · have K := K2 c11
            refine v_iload_n dX5_agree_82 rfl ?_
            refine v_iconst dX5_agree_83 (in_lit (by decide)) ?_
            refine v_idiv dX5_agree_84 o20 (by decide) ?_
            refine v_iload dX5_agree_85 rfl ?_
            refine v_iconst dX5_agree_87 (in_lit (by decide)) ?_
            refine v_idiv dX5_agree_88 o21 (by decide) ?_
            obtain ⟨K1, K2⟩ := K
            refine v_icmp_ne 94 dX5_agree_89 (by decide) (fun c13 => ?_) (fun c13 => ?_)
            · have K := K2 c13
              refine v_aload_n dX5_agree_94 rfl ?_
              refine v_getR dX5_agree_95 frX5_103_5 rfl (L_313 hL).1 (LR_313_43 hL) (Or.inl rfl) ?_
              refine v_sipush dX5_agree_98 (by decide) (in_lit (by decide)) ?_
              refine v_bipush dX5_agree_101 (by decide) (in_lit (by decide)) ?_
              refine v_iload_n dX5_agree_103 rfl ?_
              refine v_imul dX5_agree_104 o22 ?_
              show V w 0 mX5_agree 105 [some (vR 313), some (vI ((s : Nat) : Int)), some (vI c), some (vI ((o : Nat) : Int)), some (vI d9)] [vI ((40 * s : Nat) : Int), vI 1600, vR 342] S J Q
              obtain ⟨o28, K⟩ := K
              refine v_iadd dX5_agree_105 o28 ?_
              show V w 0 mX5_agree 106 [some (vR 313), some (vI ((s : Nat) : Int)), some (vI c), some (vI ((o : Nat) : Int)), some (vI d9)] [vI ((1600 + (40 * s) : Nat) : Int), vR 342] S J Q
              refine v_iload_n dX5_agree_106 rfl ?_
              obtain ⟨o29, K⟩ := K
              refine v_iadd dX5_agree_107 o29 ?_
              show V w 0 mX5_agree 108 [some (vR 313), some (vI ((s : Nat) : Int)), some (vI c), some (vI ((o : Nat) : Int)), some (vI d9)] [vI (((1600 + (40 * s)) + o : Nat) : Int), vR 342] S J Q
              obtain ⟨o30, K⟩ := K
              refine ld_342 dX5_agree_108 hL (by omega) o30 ?_
              show V w 0 mX5_agree 109 [some (vR 313), some (vI ((s : Nat) : Int)), some (vI c), some (vI ((o : Nat) : Int)), some (vI d9)] [vI (J 342 ((1600 + (40 * s)) + o))] S J Q
              obtain ⟨K1, K2⟩ := K
              refine v_if_eq 122 dX5_agree_109 (by decide) (fun c14 => ?_) (fun c14 => ?_)
              · have K := K1 c14
                refine v_iconst dX5_agree_122 (in_lit (by decide)) ?_
                refine v_goto 127 dX5_agree_123 (by decide) ?_
                exact v_iret dX5_agree_127 rfl (by decide) K
              · have K := K2 c14
                refine v_iload_n dX5_agree_112 rfl ?_
                refine v_iconst dX5_agree_113 (in_lit (by decide)) ?_
                refine v_irem dX5_agree_114 o20 (by decide) ?_
                refine v_iload dX5_agree_115 rfl ?_
                refine v_iconst dX5_agree_117 (in_lit (by decide)) ?_
                refine v_irem dX5_agree_118 o21 (by decide) ?_
                refine v_icmp_eq 126 dX5_agree_119 (by decide) (fun _ => ?_) (fun cQ => absurd c10 cQ)
                refine v_iconst dX5_agree_126 (in_lit (by decide)) ?_
                exact v_iret dX5_agree_127 rfl (by decide) K
            · have K := K1 c13
              refine v_iconst dX5_agree_92 (in_lit (by decide)) ?_
              exact v_iret dX5_agree_93 rfl (by decide) K
        · have K := K2 c10
          refine v_iconst dX5_agree_66 (in_lit (by decide)) ?_
          exact v_iret dX5_agree_67 rfl (by decide) K
    · have K := K1 c2
      refine v_iload_n dX5_agree_23 rfl ?_
      refine v_iconst dX5_agree_24 (in_lit (by decide)) ?_
      obtain ⟨o31, K⟩ := K
      refine v_idiv dX5_agree_25 o31 (by decide) ?_
      refine v_iload dX5_agree_26 rfl ?_
      refine v_iconst dX5_agree_28 (in_lit (by decide)) ?_
      obtain ⟨o32, K⟩ := K
      refine v_idiv dX5_agree_29 o32 (by decide) ?_
      obtain ⟨K1, K2⟩ := K
      refine v_icmp_eq 35 dX5_agree_30 (by decide) (fun c15 => ?_) (fun c15 => ?_)
      · have K := K1 c15
        refine v_aload_n dX5_agree_35 rfl ?_
        refine v_getR dX5_agree_36 frX5_106_5 rfl (L_313 hL).1 (LR_313_44 hL) (Or.inl rfl) ?_
        refine v_bipush dX5_agree_39 (by decide) (in_lit (by decide)) ?_
        refine v_iload_n dX5_agree_41 rfl ?_
        obtain ⟨o33, K⟩ := K
        refine v_iadd dX5_agree_42 o33 ?_
        show V w 0 mX5_agree 43 [some (vR 313), some (vI ((s : Nat) : Int)), some (vI c), some (vI ((o : Nat) : Int)), some (vI d9)] [vI ((40 + s : Nat) : Int), vR 343] S J Q
        obtain ⟨o34, K⟩ := K
        refine ld_343 dX5_agree_43 hL (by omega) o34 ?_
        show V w 0 mX5_agree 44 [some (vR 313), some (vI ((s : Nat) : Int)), some (vI c), some (vI ((o : Nat) : Int)), some (vI d9)] [vI (J 343 (40 + s))] S J Q
        refine v_aload_n dX5_agree_44 rfl ?_
        refine v_getR dX5_agree_45 frX5_106_5 rfl (L_313 hL).1 (LR_313_44 hL) (Or.inl rfl) ?_
        refine v_bipush dX5_agree_48 (by decide) (in_lit (by decide)) ?_
        refine v_iload_n dX5_agree_50 rfl ?_
        obtain ⟨o35, K⟩ := K
        refine v_iadd dX5_agree_51 o35 ?_
        show V w 0 mX5_agree 52 [some (vR 313), some (vI ((s : Nat) : Int)), some (vI c), some (vI ((o : Nat) : Int)), some (vI d9)] [vI ((40 + o : Nat) : Int), vR 343, vI (J 343 (40 + s))] S J Q
        obtain ⟨o36, K⟩ := K
        refine ld_343 dX5_agree_52 hL (by omega) o36 ?_
        show V w 0 mX5_agree 53 [some (vR 313), some (vI ((s : Nat) : Int)), some (vI c), some (vI ((o : Nat) : Int)), some (vI d9)] [vI (J 343 (40 + o)), vI (J 343 (40 + s))] S J Q
        obtain ⟨K1, K2⟩ := K
        refine v_icmp_ne 68 dX5_agree_53 (by decide) (fun c16 => ?_) (fun c16 => ?_)
        · have K := K2 c16
          refine v_aload_n dX5_agree_68 rfl ?_
          refine v_getR dX5_agree_69 frX5_103_5 rfl (L_313 hL).1 (LR_313_43 hL) (Or.inl rfl) ?_
          refine v_bipush dX5_agree_72 (by decide) (in_lit (by decide)) ?_
          refine v_iload_n dX5_agree_74 rfl ?_
          obtain ⟨o37, K⟩ := K
          refine v_imul dX5_agree_75 o37 ?_
          show V w 0 mX5_agree 76 [some (vR 313), some (vI ((s : Nat) : Int)), some (vI c), some (vI ((o : Nat) : Int)), some (vI d9)] [vI ((40 * s : Nat) : Int), vR 342] S J Q
          refine v_iload_n dX5_agree_76 rfl ?_
          obtain ⟨o38, K⟩ := K
          refine v_iadd dX5_agree_77 o38 ?_
          show V w 0 mX5_agree 78 [some (vR 313), some (vI ((s : Nat) : Int)), some (vI c), some (vI ((o : Nat) : Int)), some (vI d9)] [vI (((40 * s) + o : Nat) : Int), vR 342] S J Q
          obtain ⟨o39, K⟩ := K
          refine ld_342 dX5_agree_78 hL (by omega) o39 ?_
          show V w 0 mX5_agree 79 [some (vR 313), some (vI ((s : Nat) : Int)), some (vI c), some (vI ((o : Nat) : Int)), some (vI d9)] [vI (J 342 ((40 * s) + o))] S J Q
          obtain ⟨K1, K2⟩ := K
          refine v_if_eq 94 dX5_agree_79 (by decide) (fun c17 => ?_) (fun c17 => ?_)
          · have K := K1 c17
            refine v_aload_n dX5_agree_94 rfl ?_
            refine v_getR dX5_agree_95 frX5_103_5 rfl (L_313 hL).1 (LR_313_43 hL) (Or.inl rfl) ?_
            refine v_sipush dX5_agree_98 (by decide) (in_lit (by decide)) ?_
            refine v_bipush dX5_agree_101 (by decide) (in_lit (by decide)) ?_
            refine v_iload_n dX5_agree_103 rfl ?_
            refine v_imul dX5_agree_104 o37 ?_
            show V w 0 mX5_agree 105 [some (vR 313), some (vI ((s : Nat) : Int)), some (vI c), some (vI ((o : Nat) : Int)), some (vI d9)] [vI ((40 * s : Nat) : Int), vI 1600, vR 342] S J Q
            obtain ⟨o40, K⟩ := K
            refine v_iadd dX5_agree_105 o40 ?_
            show V w 0 mX5_agree 106 [some (vR 313), some (vI ((s : Nat) : Int)), some (vI c), some (vI ((o : Nat) : Int)), some (vI d9)] [vI ((1600 + (40 * s) : Nat) : Int), vR 342] S J Q
            refine v_iload_n dX5_agree_106 rfl ?_
            obtain ⟨o41, K⟩ := K
            refine v_iadd dX5_agree_107 o41 ?_
            show V w 0 mX5_agree 108 [some (vR 313), some (vI ((s : Nat) : Int)), some (vI c), some (vI ((o : Nat) : Int)), some (vI d9)] [vI (((1600 + (40 * s)) + o : Nat) : Int), vR 342] S J Q
            obtain ⟨o42, K⟩ := K
            refine ld_342 dX5_agree_108 hL (by omega) o42 ?_
            show V w 0 mX5_agree 109 [some (vR 313), some (vI ((s : Nat) : Int)), some (vI c), some (vI ((o : Nat) : Int)), some (vI d9)] [vI (J 342 ((1600 + (40 * s)) + o))] S J Q
            obtain ⟨K1, K2⟩ := K
            refine v_if_eq 122 dX5_agree_109 (by decide) (fun c18 => ?_) (fun c18 => ?_)
            · have K := K1 c18
              refine v_iconst dX5_agree_122 (in_lit (by decide)) ?_
              refine v_goto 127 dX5_agree_123 (by decide) ?_
              exact v_iret dX5_agree_127 rfl (by decide) K
            · have K := K2 c18
              refine v_iload_n dX5_agree_112 rfl ?_
              refine v_iconst dX5_agree_113 (in_lit (by decide)) ?_
              refine v_irem dX5_agree_114 o31 (by decide) ?_
              refine v_iload dX5_agree_115 rfl ?_
              refine v_iconst dX5_agree_117 (in_lit (by decide)) ?_
              refine v_irem dX5_agree_118 o32 (by decide) ?_
              obtain ⟨K1, K2⟩ := K
              refine v_icmp_eq 126 dX5_agree_119 (by decide) (fun c19 => ?_) (fun c19 => ?_)
              · have K := K1 c19
                refine v_iconst dX5_agree_126 (in_lit (by decide)) ?_
                exact v_iret dX5_agree_127 rfl (by decide) K
              · have K := K2 c19
                refine v_iconst dX5_agree_122 (in_lit (by decide)) ?_
                refine v_goto 127 dX5_agree_123 (by decide) ?_
                exact v_iret dX5_agree_127 rfl (by decide) K
          · have K := K2 c17
            refine v_iload_n dX5_agree_82 rfl ?_
            refine v_iconst dX5_agree_83 (in_lit (by decide)) ?_
            refine v_idiv dX5_agree_84 o31 (by decide) ?_
            refine v_iload dX5_agree_85 rfl ?_
            refine v_iconst dX5_agree_87 (in_lit (by decide)) ?_
            refine v_idiv dX5_agree_88 o32 (by decide) ?_
            refine v_icmp_ne 94 dX5_agree_89 (by decide) (fun cQ => absurd c15 cQ) (fun _ => ?_)
            refine v_iconst dX5_agree_92 (in_lit (by decide)) ?_
            exact v_iret dX5_agree_93 rfl (by decide) K
        · have K := K1 c16
          refine v_iload_n dX5_agree_56 rfl ?_
          refine v_iconst dX5_agree_57 (in_lit (by decide)) ?_
          refine v_irem dX5_agree_58 o31 (by decide) ?_
          refine v_iload dX5_agree_59 rfl ?_
          refine v_iconst dX5_agree_61 (in_lit (by decide)) ?_
          refine v_irem dX5_agree_62 o32 (by decide) ?_
          obtain ⟨K1, K2⟩ := K
          refine v_icmp_eq 68 dX5_agree_63 (by decide) (fun c20 => ?_) (fun c20 => ?_)
          · have K := K1 c20
            refine v_aload_n dX5_agree_68 rfl ?_
            refine v_getR dX5_agree_69 frX5_103_5 rfl (L_313 hL).1 (LR_313_43 hL) (Or.inl rfl) ?_
            refine v_bipush dX5_agree_72 (by decide) (in_lit (by decide)) ?_
            refine v_iload_n dX5_agree_74 rfl ?_
            obtain ⟨o43, K⟩ := K
            refine v_imul dX5_agree_75 o43 ?_
            show V w 0 mX5_agree 76 [some (vR 313), some (vI ((s : Nat) : Int)), some (vI c), some (vI ((o : Nat) : Int)), some (vI d9)] [vI ((40 * s : Nat) : Int), vR 342] S J Q
            refine v_iload_n dX5_agree_76 rfl ?_
            obtain ⟨o44, K⟩ := K
            refine v_iadd dX5_agree_77 o44 ?_
            show V w 0 mX5_agree 78 [some (vR 313), some (vI ((s : Nat) : Int)), some (vI c), some (vI ((o : Nat) : Int)), some (vI d9)] [vI (((40 * s) + o : Nat) : Int), vR 342] S J Q
            obtain ⟨o45, K⟩ := K
            refine ld_342 dX5_agree_78 hL (by omega) o45 ?_
            show V w 0 mX5_agree 79 [some (vR 313), some (vI ((s : Nat) : Int)), some (vI c), some (vI ((o : Nat) : Int)), some (vI d9)] [vI (J 342 ((40 * s) + o))] S J Q
            obtain ⟨K1, K2⟩ := K
            refine v_if_eq 94 dX5_agree_79 (by decide) (fun c21 => ?_) (fun c21 => ?_)
            · have K := K1 c21
              refine v_aload_n dX5_agree_94 rfl ?_
              refine v_getR dX5_agree_95 frX5_103_5 rfl (L_313 hL).1 (LR_313_43 hL) (Or.inl rfl) ?_
              refine v_sipush dX5_agree_98 (by decide) (in_lit (by decide)) ?_
              refine v_bipush dX5_agree_101 (by decide) (in_lit (by decide)) ?_
              refine v_iload_n dX5_agree_103 rfl ?_
              refine v_imul dX5_agree_104 o43 ?_
              show V w 0 mX5_agree 105 [some (vR 313), some (vI ((s : Nat) : Int)), some (vI c), some (vI ((o : Nat) : Int)), some (vI d9)] [vI ((40 * s : Nat) : Int), vI 1600, vR 342] S J Q
              obtain ⟨o46, K⟩ := K
              refine v_iadd dX5_agree_105 o46 ?_
              show V w 0 mX5_agree 106 [some (vR 313), some (vI ((s : Nat) : Int)), some (vI c), some (vI ((o : Nat) : Int)), some (vI d9)] [vI ((1600 + (40 * s) : Nat) : Int), vR 342] S J Q
              refine v_iload_n dX5_agree_106 rfl ?_
              obtain ⟨o47, K⟩ := K
              refine v_iadd dX5_agree_107 o47 ?_
              show V w 0 mX5_agree 108 [some (vR 313), some (vI ((s : Nat) : Int)), some (vI c), some (vI ((o : Nat) : Int)), some (vI d9)] [vI (((1600 + (40 * s)) + o : Nat) : Int), vR 342] S J Q
              obtain ⟨o48, K⟩ := K
              refine ld_342 dX5_agree_108 hL (by omega) o48 ?_
              show V w 0 mX5_agree 109 [some (vR 313), some (vI ((s : Nat) : Int)), some (vI c), some (vI ((o : Nat) : Int)), some (vI d9)] [vI (J 342 ((1600 + (40 * s)) + o))] S J Q
              obtain ⟨K1, K2⟩ := K
              refine v_if_eq 122 dX5_agree_109 (by decide) (fun c22 => ?_) (fun c22 => ?_)
              · have K := K1 c22
                refine v_iconst dX5_agree_122 (in_lit (by decide)) ?_
                refine v_goto 127 dX5_agree_123 (by decide) ?_
                exact v_iret dX5_agree_127 rfl (by decide) K
              · have K := K2 c22
                refine v_iload_n dX5_agree_112 rfl ?_
                refine v_iconst dX5_agree_113 (in_lit (by decide)) ?_
                refine v_irem dX5_agree_114 o31 (by decide) ?_
                refine v_iload dX5_agree_115 rfl ?_
                refine v_iconst dX5_agree_117 (in_lit (by decide)) ?_
                refine v_irem dX5_agree_118 o32 (by decide) ?_
                refine v_icmp_eq 126 dX5_agree_119 (by decide) (fun _ => ?_) (fun cQ => absurd c20 cQ)
                refine v_iconst dX5_agree_126 (in_lit (by decide)) ?_
                exact v_iret dX5_agree_127 rfl (by decide) K
            · have K := K2 c21
              refine v_iload_n dX5_agree_82 rfl ?_
              refine v_iconst dX5_agree_83 (in_lit (by decide)) ?_
              refine v_idiv dX5_agree_84 o31 (by decide) ?_
              refine v_iload dX5_agree_85 rfl ?_
              refine v_iconst dX5_agree_87 (in_lit (by decide)) ?_
              refine v_idiv dX5_agree_88 o32 (by decide) ?_
              refine v_icmp_ne 94 dX5_agree_89 (by decide) (fun cQ => absurd c15 cQ) (fun _ => ?_)
              refine v_iconst dX5_agree_92 (in_lit (by decide)) ?_
              exact v_iret dX5_agree_93 rfl (by decide) K
          · have K := K2 c20
            refine v_iconst dX5_agree_66 (in_lit (by decide)) ?_
            exact v_iret dX5_agree_67 rfl (by decide) K
      · have K := K2 c15
        refine v_iconst dX5_agree_33 (in_lit (by decide)) ?_
        exact v_iret dX5_agree_34 rfl (by decide) K
  · have K := K1 c1
    refine v_iconst dX5_agree_6 (in_lit (by decide)) ?_
    exact v_iret dX5_agree_7 rfl (by decide) K

/-- two signs with cells agree, by the memory -/
def agJ (J : Jm) (s : Nat) (c : Int) (o : Nat) (d : Int) : Bool := decide (¬ c = d ∧ (J 343 s = J 343 o → c / 5 = d / 5) ∧ (J 343 (40 + s) = J 343 (40 + o) → c % 5 = d % 5) ∧ (¬ J 342 (40 * s + o) = 0 → ¬ c / 5 = d / 5) ∧ (¬ J 342 (1600 + 40 * s + o) = 0 → ¬ c % 5 = d % 5))
theorem s_agree {w : Wd} {S : Sh} {J : Jm} {Q : Out → Sh → Jm → Prop} (hL : Lay S) (s c o d9 : Int) (hs : 0 ≤ s ∧ s < 40) (ho : 0 ≤ o ∧ o < 40) (hc : 0 ≤ c) (hd : 0 ≤ d9) (K1 : agJ J s.toNat c o.toNat d9 = true → Q (.inl (some (vI 1))) S J) (K2 : ¬ agJ J s.toNat c o.toNat d9 = true → Q (.inl (some (vI 0))) S J) : V w 0 mX5_agree 0 (ent mX5_agree [vR 313, vI s, vI c, vI o, vI d9]) [] S J Q := by
  obtain ⟨s, rfl⟩ : ∃ m : Nat, s = m := ⟨s.toNat, by omega⟩
  obtain ⟨o, rfl⟩ : ∃ m : Nat, o = m := ⟨o.toNat, by omega⟩
  rw [Int.toNat_natCast, Int.toNat_natCast] at K1 K2
  unfold agJ at K1 K2
  rw [decide_eq_true_iff] at K1 K2
  refine gX5_agree_0 hL s c o d9 ?_
  repeat' (first | refine br_i (fun hb => ?_) (fun hb => ?_) | (refine And.intro ?_ ?_; omega))
  all_goals (first | exact K1 (by omega) | exact K2 (by omega))
theorem gX5_agrees_0 {w : Wd} {S : Sh} {J : Jm} {Q : Out → Sh → Jm → Prop} (hL : Lay S) (st : Int) (r : Nat) (n : Nat)
    (K : (-2147483648 ≤ 40 * st ∧ 40 * st ≤ 2147483647) ∧ (((r : Nat) : Int) < 200) ∧ (((n : Nat) : Int) < 7) ∧ Br (J 317 r = J 354 n) (Br (J 354 n = 0) (Q (.inl (some (vI 0))) S J) (V w 1 mX5_agrees 35 [some (vR 313), none, some (vI ((r : Nat) : Int)), some (vI ((n : Nat) : Int)), some (vI (40 * st)), some (vI 0), none, none, none, none] [] S J Q)) (Q (.inl (some (vI 0))) S J)) :
    V w 1 mX5_agrees 0 (ent mX5_agrees [vR 313, vI st, vI ((r : Nat) : Int), vI ((n : Nat) : Int)]) [] S J Q := by
  show V w 1 mX5_agrees 0 [some (vR 313), some (vI st), some (vI ((r : Nat) : Int)), some (vI ((n : Nat) : Int)), none, none, none, none, none, none] [] S J Q
  refine v_bipush dX5_agrees_0 (by decide) (in_lit (by decide)) ?_
  refine v_iload_n dX5_agrees_2 rfl ?_
  obtain ⟨o1, K⟩ := K
  refine v_imul dX5_agrees_3 o1 ?_
  refine v_istore dX5_agrees_4 (Nat.le_of_ble_eq_true rfl) ?_
  show V w 1 mX5_agrees 6 [some (vR 313), some (vI st), some (vI ((r : Nat) : Int)), some (vI ((n : Nat) : Int)), some (vI (40 * st)), none, none, none, none, none] [] S J Q
  refine v_aload_n dX5_agrees_6 rfl ?_
  refine v_getR dX5_agrees_7 frX5_23_5 rfl (L_313 hL).1 (LR_313_6 hL) (Or.inl rfl) ?_
  refine v_iload_n dX5_agrees_10 rfl ?_
  obtain ⟨o2, K⟩ := K
  refine ld_317 dX5_agrees_11 hL (by omega) o2 ?_
  show V w 1 mX5_agrees 12 [some (vR 313), some (vI st), some (vI ((r : Nat) : Int)), some (vI ((n : Nat) : Int)), some (vI (40 * st)), none, none, none, none, none] [vI (J 317 r)] S J Q
  refine v_aload_n dX5_agrees_12 rfl ?_
  refine v_getR dX5_agrees_13 frX5_139_5 rfl (L_313 hL).1 (LR_313_62 hL) (Or.inl rfl) ?_
  refine v_iload_n dX5_agrees_16 rfl ?_
  obtain ⟨o3, K⟩ := K
  refine ld_354 dX5_agrees_17 hL (by omega) o3 ?_
  show V w 1 mX5_agrees 18 [some (vR 313), some (vI st), some (vI ((r : Nat) : Int)), some (vI ((n : Nat) : Int)), some (vI (40 * st)), none, none, none, none, none] [vI (J 354 n), vI (J 317 r)] S J Q
  obtain ⟨K1, K2⟩ := K
  refine v_icmp_ne 30 dX5_agrees_18 (by decide) (fun c1 => ?_) (fun c1 => ?_)
  · have K := K2 c1
    refine v_iconst dX5_agrees_30 (in_lit (by decide)) ?_
    exact v_iret dX5_agrees_31 rfl (by decide) K
  · have K := K1 c1
    refine v_aload_n dX5_agrees_21 rfl ?_
    refine v_getR dX5_agrees_22 frX5_139_5 rfl (L_313 hL).1 (LR_313_62 hL) (Or.inl rfl) ?_
    refine v_iload_n dX5_agrees_25 rfl ?_
    refine ld_354 dX5_agrees_26 hL (by omega) o3 ?_
    show V w 1 mX5_agrees 27 [some (vR 313), some (vI st), some (vI ((r : Nat) : Int)), some (vI ((n : Nat) : Int)), some (vI (40 * st)), none, none, none, none, none] [vI (J 354 n)] S J Q
    obtain ⟨K1, K2⟩ := K
    refine v_if_ne 32 dX5_agrees_27 (by decide) (fun c2 => ?_) (fun c2 => ?_)
    · have K := K2 c2
      refine v_iconst dX5_agrees_32 (in_lit (by decide)) ?_
      refine v_istore dX5_agrees_33 (Nat.le_of_ble_eq_true rfl) ?_
      show V w 1 mX5_agrees 35 [some (vR 313), some (vI st), some (vI ((r : Nat) : Int)), some (vI ((n : Nat) : Int)), some (vI (40 * st)), some (vI 0), none, none, none, none] [] S J Q
      exact v_forget (fg_some (fg_none (fg_some (fg_some (fg_some (fg_some (fg_none (fg_none (fg_none (fg_none fg_nil)))))))))) K
    · have K := K1 c2
      refine v_iconst dX5_agrees_30 (in_lit (by decide)) ?_
      exact v_iret dX5_agrees_31 rfl (by decide) K
theorem gX5_agrees_35 {w : Wd} {S : Sh} {J : Jm} {Q : Out → Sh → Jm → Prop} (hL : Lay S) (r : Nat) (n : Nat) (b : Nat) (i : Nat)
    (K : (((r : Nat) : Int) < 200) ∧ Br (J 317 r ≤ ((i : Nat) : Int)) (Q (.inl (some (vI 1))) S J) ((-2147483648 ≤ 6 * ((r : Nat) : Int) ∧ 6 * ((r : Nat) : Int) ≤ 2147483647) ∧ (-2147483648 ≤ ((6 * r : Nat) : Int) + ((i : Nat) : Int) ∧ ((6 * r : Nat) : Int) + ((i : Nat) : Int) ≤ 2147483647) ∧ ((((6 * r) + i : Nat) : Int) < 1200) ∧ Br (J 318 ((6 * r) + i) = (-1)) ((-2147483648 ≤ ((i : Nat) : Int) + 1 ∧ ((i : Nat) : Int) + 1 ≤ 2147483647) ∧ V w 1 mX5_agrees 35 [some (vR 313), none, some (vI ((r : Nat) : Int)), some (vI ((n : Nat) : Int)), some (vI ((b : Nat) : Int)), some (vI ((i + 1 : Nat) : Int)), none, none, none, none] [] S J Q) ((0 ≤ J 318 ((6 * r) + i)) ∧ (J 318 ((6 * r) + i) < 40) ∧ (-2147483648 ≤ 8 * ((n : Nat) : Int) ∧ 8 * ((n : Nat) : Int) ≤ 2147483647) ∧ (-2147483648 ≤ ((8 * n : Nat) : Int) + ((i : Nat) : Int) ∧ ((8 * n : Nat) : Int) + ((i : Nat) : Int) ≤ 2147483647) ∧ ((((8 * n) + i : Nat) : Int) < 56) ∧ (-2147483648 ≤ ((b : Nat) : Int) + (J 332 (J 318 ((6 * r) + i)).toNat) ∧ ((b : Nat) : Int) + (J 332 (J 318 ((6 * r) + i)).toNat) ≤ 2147483647) ∧ (0 ≤ ((b : Nat) : Int) + (J 332 (J 318 ((6 * r) + i)).toNat)) ∧ (((b : Nat) : Int) + (J 332 (J 318 ((6 * r) + i)).toNat) < 320) ∧ Br (J 358 (((b : Nat) : Int) + (J 332 (J 318 ((6 * r) + i)).toNat)).toNat = (-1)) (Br (J 358 (((b : Nat) : Int) + (J 332 (J 318 ((6 * r) + i)).toNat)).toNat = J 353 ((8 * n) + i)) ((-2147483648 ≤ ((i : Nat) : Int) + 1 ∧ ((i : Nat) : Int) + 1 ≤ 2147483647) ∧ V w 1 mX5_agrees 35 [some (vR 313), none, some (vI ((r : Nat) : Int)), some (vI ((n : Nat) : Int)), some (vI ((b : Nat) : Int)), some (vI ((i + 1 : Nat) : Int)), none, none, none, none] [] S J Q) (V w 1 mX5_agrees 144 [some (vR 313), none, some (vI ((r : Nat) : Int)), some (vI ((n : Nat) : Int)), some (vI ((b : Nat) : Int)), some (vI ((i : Nat) : Int)), none, some (vI (J 332 (J 318 ((6 * r) + i)).toNat)), some (vI (J 353 ((8 * n) + i))), some (vI 0)] [] S J Q)) (Br (J 358 (((b : Nat) : Int) + (J 332 (J 318 ((6 * r) + i)).toNat)).toNat = J 353 ((8 * n) + i)) ((-2147483648 ≤ ((i : Nat) : Int) + 1 ∧ ((i : Nat) : Int) + 1 ≤ 2147483647) ∧ V w 1 mX5_agrees 35 [some (vR 313), none, some (vI ((r : Nat) : Int)), some (vI ((n : Nat) : Int)), some (vI ((b : Nat) : Int)), some (vI ((i + 1 : Nat) : Int)), none, none, none, none] [] S J Q) (Q (.inl (some (vI 0))) S J))))) :
    V w 1 mX5_agrees 35 [some (vR 313), none, some (vI ((r : Nat) : Int)), some (vI ((n : Nat) : Int)), some (vI ((b : Nat) : Int)), some (vI ((i : Nat) : Int)), none, none, none, none] [] S J Q := by
  refine v_iload dX5_agrees_35 rfl ?_
  refine v_aload_n dX5_agrees_37 rfl ?_
  refine v_getR dX5_agrees_38 frX5_23_5 rfl (L_313 hL).1 (LR_313_6 hL) (Or.inl rfl) ?_
  refine v_iload_n dX5_agrees_41 rfl ?_
  obtain ⟨o1, K⟩ := K
  refine ld_317 dX5_agrees_42 hL (by omega) o1 ?_
  show V w 1 mX5_agrees 43 [some (vR 313), none, some (vI ((r : Nat) : Int)), some (vI ((n : Nat) : Int)), some (vI ((b : Nat) : Int)), some (vI ((i : Nat) : Int)), none, none, none, none] [vI (J 317 r), vI ((i : Nat) : Int)] S J Q
  obtain ⟨K1, K2⟩ := K
  refine v_icmp_ge 214 dX5_agrees_43 (by decide) (fun c1 => ?_) (fun c1 => ?_)
  · have K := K1 c1
    refine v_iconst dX5_agrees_214 (in_lit (by decide)) ?_
    exact v_iret dX5_agrees_215 rfl (by decide) K
  · have K := K2 c1
    refine v_aload_n dX5_agrees_46 rfl ?_
    refine v_getR dX5_agrees_47 frX5_26_5 rfl (L_313 hL).1 (LR_313_7 hL) (Or.inl rfl) ?_
    refine v_bipush dX5_agrees_50 (by decide) (in_lit (by decide)) ?_
    refine v_iload_n dX5_agrees_52 rfl ?_
    obtain ⟨o2, K⟩ := K
    refine v_imul dX5_agrees_53 o2 ?_
    show V w 1 mX5_agrees 54 [some (vR 313), none, some (vI ((r : Nat) : Int)), some (vI ((n : Nat) : Int)), some (vI ((b : Nat) : Int)), some (vI ((i : Nat) : Int)), none, none, none, none] [vI ((6 * r : Nat) : Int), vR 318] S J Q
    refine v_iload dX5_agrees_54 rfl ?_
    obtain ⟨o3, K⟩ := K
    refine v_iadd dX5_agrees_56 o3 ?_
    show V w 1 mX5_agrees 57 [some (vR 313), none, some (vI ((r : Nat) : Int)), some (vI ((n : Nat) : Int)), some (vI ((b : Nat) : Int)), some (vI ((i : Nat) : Int)), none, none, none, none] [vI (((6 * r) + i : Nat) : Int), vR 318] S J Q
    obtain ⟨o4, K⟩ := K
    refine ld_318 dX5_agrees_57 hL (by omega) o4 ?_
    show V w 1 mX5_agrees 58 [some (vR 313), none, some (vI ((r : Nat) : Int)), some (vI ((n : Nat) : Int)), some (vI ((b : Nat) : Int)), some (vI ((i : Nat) : Int)), none, none, none, none] [vI (J 318 ((6 * r) + i))] S J Q
    refine v_istore dX5_agrees_58 (Nat.le_of_ble_eq_true rfl) ?_
    show V w 1 mX5_agrees 60 [some (vR 313), none, some (vI ((r : Nat) : Int)), some (vI ((n : Nat) : Int)), some (vI ((b : Nat) : Int)), some (vI ((i : Nat) : Int)), some (vI (J 318 ((6 * r) + i))), none, none, none] [] S J Q
    refine v_iload dX5_agrees_60 rfl ?_
    refine v_iconst dX5_agrees_62 (in_lit (by decide)) ?_
    obtain ⟨K1, K2⟩ := K
    refine v_icmp_ne 69 dX5_agrees_63 (by decide) (fun c2 => ?_) (fun c2 => ?_)
    · have K := K2 c2
      refine v_aload_n dX5_agrees_69 rfl ?_
      refine v_getR dX5_agrees_70 frX5_72_5 rfl (L_313 hL).1 (LR_313_31 hL) (Or.inl rfl) ?_
      refine v_iload dX5_agrees_73 rfl ?_
      obtain ⟨o5, K⟩ := K
      obtain ⟨o6, K⟩ := K
      refine ld_332 dX5_agrees_75 hL o5 o6 ?_
      refine v_istore dX5_agrees_76 (Nat.le_of_ble_eq_true rfl) ?_
      show V w 1 mX5_agrees 78 [some (vR 313), none, some (vI ((r : Nat) : Int)), some (vI ((n : Nat) : Int)), some (vI ((b : Nat) : Int)), some (vI ((i : Nat) : Int)), some (vI (J 318 ((6 * r) + i))), some (vI (J 332 (J 318 ((6 * r) + i)).toNat)), none, none] [] S J Q
      refine v_aload_n dX5_agrees_78 rfl ?_
      refine v_getR dX5_agrees_79 frX5_136_5 rfl (L_313 hL).1 (LR_313_61 hL) (Or.inl rfl) ?_
      refine v_bipush dX5_agrees_82 (by decide) (in_lit (by decide)) ?_
      refine v_iload_n dX5_agrees_84 rfl ?_
      obtain ⟨o7, K⟩ := K
      refine v_imul dX5_agrees_85 o7 ?_
      show V w 1 mX5_agrees 86 [some (vR 313), none, some (vI ((r : Nat) : Int)), some (vI ((n : Nat) : Int)), some (vI ((b : Nat) : Int)), some (vI ((i : Nat) : Int)), some (vI (J 318 ((6 * r) + i))), some (vI (J 332 (J 318 ((6 * r) + i)).toNat)), none, none] [vI ((8 * n : Nat) : Int), vR 353] S J Q
      refine v_iload dX5_agrees_86 rfl ?_
      obtain ⟨o8, K⟩ := K
      refine v_iadd dX5_agrees_88 o8 ?_
      show V w 1 mX5_agrees 89 [some (vR 313), none, some (vI ((r : Nat) : Int)), some (vI ((n : Nat) : Int)), some (vI ((b : Nat) : Int)), some (vI ((i : Nat) : Int)), some (vI (J 318 ((6 * r) + i))), some (vI (J 332 (J 318 ((6 * r) + i)).toNat)), none, none] [vI (((8 * n) + i : Nat) : Int), vR 353] S J Q
      obtain ⟨o9, K⟩ := K
      refine ld_353 dX5_agrees_89 hL (by omega) o9 ?_
      show V w 1 mX5_agrees 90 [some (vR 313), none, some (vI ((r : Nat) : Int)), some (vI ((n : Nat) : Int)), some (vI ((b : Nat) : Int)), some (vI ((i : Nat) : Int)), some (vI (J 318 ((6 * r) + i))), some (vI (J 332 (J 318 ((6 * r) + i)).toNat)), none, none] [vI (J 353 ((8 * n) + i))] S J Q
      refine v_istore dX5_agrees_90 (Nat.le_of_ble_eq_true rfl) ?_
      show V w 1 mX5_agrees 92 [some (vR 313), none, some (vI ((r : Nat) : Int)), some (vI ((n : Nat) : Int)), some (vI ((b : Nat) : Int)), some (vI ((i : Nat) : Int)), some (vI (J 318 ((6 * r) + i))), some (vI (J 332 (J 318 ((6 * r) + i)).toNat)), some (vI (J 353 ((8 * n) + i))), none] [] S J Q
      refine v_aload_n dX5_agrees_92 rfl ?_
      refine v_getR dX5_agrees_93 frX5_151_5 rfl (L_313 hL).1 (LR_313_67 hL) (Or.inl rfl) ?_
      refine v_iload dX5_agrees_96 rfl ?_
      refine v_iload dX5_agrees_98 rfl ?_
      obtain ⟨o10, K⟩ := K
      refine v_iadd dX5_agrees_100 o10 ?_
      obtain ⟨o11, K⟩ := K
      obtain ⟨o12, K⟩ := K
      refine ld_358 dX5_agrees_101 hL o11 o12 ?_
      refine v_iconst dX5_agrees_102 (in_lit (by decide)) ?_
      obtain ⟨K1, K2⟩ := K
      refine v_icmp_eq 123 dX5_agrees_103 (by decide) (fun c3 => ?_) (fun c3 => ?_)
      · have K := K1 c3
        refine v_aload_n dX5_agrees_123 rfl ?_
        refine v_getR dX5_agrees_124 frX5_151_5 rfl (L_313 hL).1 (LR_313_67 hL) (Or.inl rfl) ?_
        refine v_iload dX5_agrees_127 rfl ?_
        refine v_iload dX5_agrees_129 rfl ?_
        refine v_iadd dX5_agrees_131 o10 ?_
        refine ld_358 dX5_agrees_132 hL o11 o12 ?_
        refine v_iload dX5_agrees_133 rfl ?_
        obtain ⟨K1, K2⟩ := K
        refine v_icmp_ne 141 dX5_agrees_135 (by decide) (fun c4 => ?_) (fun c4 => ?_)
        · have K := K2 c4
          refine v_iconst dX5_agrees_141 (in_lit (by decide)) ?_
          refine v_istore dX5_agrees_142 (Nat.le_of_ble_eq_true rfl) ?_
          show V w 1 mX5_agrees 144 [some (vR 313), none, some (vI ((r : Nat) : Int)), some (vI ((n : Nat) : Int)), some (vI ((b : Nat) : Int)), some (vI ((i : Nat) : Int)), some (vI (J 318 ((6 * r) + i))), some (vI (J 332 (J 318 ((6 * r) + i)).toNat)), some (vI (J 353 ((8 * n) + i))), some (vI 0)] [] S J Q
          exact v_forget (fg_some (fg_none (fg_some (fg_some (fg_some (fg_some (fg_none (fg_some (fg_some (fg_some fg_nil)))))))))) K
        · have K := K1 c4
          refine v_goto 208 dX5_agrees_138 (by decide) ?_
          obtain ⟨o13, K⟩ := K
          refine v_iinc dX5_agrees_208 rfl o13 ?_
          show V w 1 mX5_agrees 211 [some (vR 313), none, some (vI ((r : Nat) : Int)), some (vI ((n : Nat) : Int)), some (vI ((b : Nat) : Int)), some (vI ((i + 1 : Nat) : Int)), some (vI (J 318 ((6 * r) + i))), some (vI (J 332 (J 318 ((6 * r) + i)).toNat)), some (vI (J 353 ((8 * n) + i))), none] [] S J Q
          refine v_goto 35 dX5_agrees_211 (by decide) ?_
          exact v_forget (fg_some (fg_none (fg_some (fg_some (fg_some (fg_some (fg_none (fg_none (fg_none (fg_none fg_nil)))))))))) K
      · have K := K2 c3
        refine v_aload_n dX5_agrees_106 rfl ?_
        refine v_getR dX5_agrees_107 frX5_151_5 rfl (L_313 hL).1 (LR_313_67 hL) (Or.inl rfl) ?_
        refine v_iload dX5_agrees_110 rfl ?_
        refine v_iload dX5_agrees_112 rfl ?_
        refine v_iadd dX5_agrees_114 o10 ?_
        refine ld_358 dX5_agrees_115 hL o11 o12 ?_
        refine v_iload dX5_agrees_116 rfl ?_
        obtain ⟨K1, K2⟩ := K
        refine v_icmp_eq 123 dX5_agrees_118 (by decide) (fun c5 => ?_) (fun c5 => ?_)
        · have K := K1 c5
          refine v_aload_n dX5_agrees_123 rfl ?_
          refine v_getR dX5_agrees_124 frX5_151_5 rfl (L_313 hL).1 (LR_313_67 hL) (Or.inl rfl) ?_
          refine v_iload dX5_agrees_127 rfl ?_
          refine v_iload dX5_agrees_129 rfl ?_
          refine v_iadd dX5_agrees_131 o10 ?_
          refine ld_358 dX5_agrees_132 hL o11 o12 ?_
          refine v_iload dX5_agrees_133 rfl ?_
          refine v_icmp_ne 141 dX5_agrees_135 (by decide) (fun cQ => absurd c5 cQ) (fun _ => ?_)
          refine v_goto 208 dX5_agrees_138 (by decide) ?_
          obtain ⟨o14, K⟩ := K
          refine v_iinc dX5_agrees_208 rfl o14 ?_
          show V w 1 mX5_agrees 211 [some (vR 313), none, some (vI ((r : Nat) : Int)), some (vI ((n : Nat) : Int)), some (vI ((b : Nat) : Int)), some (vI ((i + 1 : Nat) : Int)), some (vI (J 318 ((6 * r) + i))), some (vI (J 332 (J 318 ((6 * r) + i)).toNat)), some (vI (J 353 ((8 * n) + i))), none] [] S J Q
          refine v_goto 35 dX5_agrees_211 (by decide) ?_
          exact v_forget (fg_some (fg_none (fg_some (fg_some (fg_some (fg_some (fg_none (fg_none (fg_none (fg_none fg_nil)))))))))) K
        · have K := K2 c5
          refine v_iconst dX5_agrees_121 (in_lit (by decide)) ?_
          exact v_iret dX5_agrees_122 rfl (by decide) K
    · have K := K1 c2
      refine v_goto 208 dX5_agrees_66 (by decide) ?_
      obtain ⟨o15, K⟩ := K
      refine v_iinc dX5_agrees_208 rfl o15 ?_
      show V w 1 mX5_agrees 211 [some (vR 313), none, some (vI ((r : Nat) : Int)), some (vI ((n : Nat) : Int)), some (vI ((b : Nat) : Int)), some (vI ((i + 1 : Nat) : Int)), some (vI (J 318 ((6 * r) + i))), none, none, none] [] S J Q
      refine v_goto 35 dX5_agrees_211 (by decide) ?_
      exact v_forget (fg_some (fg_none (fg_some (fg_some (fg_some (fg_some (fg_none (fg_none (fg_none (fg_none fg_nil)))))))))) K
theorem gX5_agrees_144 {w : Wd} {S : Sh} {J : Jm} {Q : Out → Sh → Jm → Prop} (hL : Lay S) (r : Nat) (n : Nat) (b : Nat) (i : Nat) (s : Nat) (c : Int) (o : Nat)
    (K : Br (40 ≤ ((o : Nat) : Int)) ((-2147483648 ≤ ((b : Nat) : Int) + ((s : Nat) : Int) ∧ ((b : Nat) : Int) + ((s : Nat) : Int) ≤ 2147483647) ∧ (((b + s : Nat) : Int) < 320) ∧ (-2147483648 ≤ ((i : Nat) : Int) + 1 ∧ ((i : Nat) : Int) + 1 ≤ 2147483647) ∧ V w 1 mX5_agrees 35 [some (vR 313), none, some (vI ((r : Nat) : Int)), some (vI ((n : Nat) : Int)), some (vI ((b : Nat) : Int)), some (vI ((i + 1 : Nat) : Int)), none, none, none, none] [] S (up J 358 (b + s) c) Q) ((-2147483648 ≤ ((b : Nat) : Int) + ((o : Nat) : Int) ∧ ((b : Nat) : Int) + ((o : Nat) : Int) ≤ 2147483647) ∧ (((b + o : Nat) : Int) < 320) ∧ Br (J 358 (b + o) = (-1)) ((-2147483648 ≤ ((o : Nat) : Int) + 1 ∧ ((o : Nat) : Int) + 1 ≤ 2147483647) ∧ V w 1 mX5_agrees 144 [some (vR 313), none, some (vI ((r : Nat) : Int)), some (vI ((n : Nat) : Int)), some (vI ((b : Nat) : Int)), some (vI ((i : Nat) : Int)), none, some (vI ((s : Nat) : Int)), some (vI c), some (vI ((o + 1 : Nat) : Int))] [] S J Q) ((0 ≤ ((s : Nat) : Int) ∧ ((s : Nat) : Int) < 40) ∧ (0 ≤ ((o : Nat) : Int) ∧ ((o : Nat) : Int) < 40) ∧ (0 ≤ c) ∧ (0 ≤ (J 358 (b + o))) ∧ Br (agJ J ((s : Nat) : Int).toNat c ((o : Nat) : Int).toNat (J 358 (b + o)) = true) ((-2147483648 ≤ ((o : Nat) : Int) + 1 ∧ ((o : Nat) : Int) + 1 ≤ 2147483647) ∧ V w 1 mX5_agrees 144 [some (vR 313), none, some (vI ((r : Nat) : Int)), some (vI ((n : Nat) : Int)), some (vI ((b : Nat) : Int)), some (vI ((i : Nat) : Int)), none, some (vI ((s : Nat) : Int)), some (vI c), some (vI ((o + 1 : Nat) : Int))] [] S J Q) (Q (.inl (some (vI 0))) S J)))) :
    V w 1 mX5_agrees 144 [some (vR 313), none, some (vI ((r : Nat) : Int)), some (vI ((n : Nat) : Int)), some (vI ((b : Nat) : Int)), some (vI ((i : Nat) : Int)), none, some (vI ((s : Nat) : Int)), some (vI c), some (vI ((o : Nat) : Int))] [] S J Q := by
  refine v_iload dX5_agrees_144 rfl ?_
  refine v_bipush dX5_agrees_146 (by decide) (in_lit (by decide)) ?_
  obtain ⟨K1, K2⟩ := K
  refine v_icmp_ge 196 dX5_agrees_148 (by decide) (fun c1 => ?_) (fun c1 => ?_)
  · have K := K1 c1
    refine v_aload_n dX5_agrees_196 rfl ?_
    refine v_getR dX5_agrees_197 frX5_151_5 rfl (L_313 hL).1 (LR_313_67 hL) (Or.inl rfl) ?_
    refine v_iload dX5_agrees_200 rfl ?_
    refine v_iload dX5_agrees_202 rfl ?_
    obtain ⟨o1, K⟩ := K
    refine v_iadd dX5_agrees_204 o1 ?_
    show V w 1 mX5_agrees 205 [some (vR 313), none, some (vI ((r : Nat) : Int)), some (vI ((n : Nat) : Int)), some (vI ((b : Nat) : Int)), some (vI ((i : Nat) : Int)), none, some (vI ((s : Nat) : Int)), some (vI c), some (vI ((o : Nat) : Int))] [vI ((b + s : Nat) : Int), vR 358] S J Q
    refine v_iload dX5_agrees_205 rfl ?_
    obtain ⟨o2, K⟩ := K
    refine st_358 dX5_agrees_207 hL (by omega) o2 ?_
    show V w 1 mX5_agrees 208 [some (vR 313), none, some (vI ((r : Nat) : Int)), some (vI ((n : Nat) : Int)), some (vI ((b : Nat) : Int)), some (vI ((i : Nat) : Int)), none, some (vI ((s : Nat) : Int)), some (vI c), some (vI ((o : Nat) : Int))] [] S (up J 358 (b + s) c) Q
    obtain ⟨o3, K⟩ := K
    refine v_iinc dX5_agrees_208 rfl o3 ?_
    show V w 1 mX5_agrees 211 [some (vR 313), none, some (vI ((r : Nat) : Int)), some (vI ((n : Nat) : Int)), some (vI ((b : Nat) : Int)), some (vI ((i + 1 : Nat) : Int)), none, some (vI ((s : Nat) : Int)), some (vI c), some (vI ((o : Nat) : Int))] [] S (up J 358 (b + s) c) Q
    refine v_goto 35 dX5_agrees_211 (by decide) ?_
    exact v_forget (fg_some (fg_none (fg_some (fg_some (fg_some (fg_some (fg_none (fg_none (fg_none (fg_none fg_nil)))))))))) K
  · have K := K2 c1
    refine v_aload_n dX5_agrees_151 rfl ?_
    refine v_getR dX5_agrees_152 frX5_151_5 rfl (L_313 hL).1 (LR_313_67 hL) (Or.inl rfl) ?_
    refine v_iload dX5_agrees_155 rfl ?_
    refine v_iload dX5_agrees_157 rfl ?_
    obtain ⟨o4, K⟩ := K
    refine v_iadd dX5_agrees_159 o4 ?_
    show V w 1 mX5_agrees 160 [some (vR 313), none, some (vI ((r : Nat) : Int)), some (vI ((n : Nat) : Int)), some (vI ((b : Nat) : Int)), some (vI ((i : Nat) : Int)), none, some (vI ((s : Nat) : Int)), some (vI c), some (vI ((o : Nat) : Int))] [vI ((b + o : Nat) : Int), vR 358] S J Q
    obtain ⟨o5, K⟩ := K
    refine ld_358 dX5_agrees_160 hL (by omega) o5 ?_
    show V w 1 mX5_agrees 161 [some (vR 313), none, some (vI ((r : Nat) : Int)), some (vI ((n : Nat) : Int)), some (vI ((b : Nat) : Int)), some (vI ((i : Nat) : Int)), none, some (vI ((s : Nat) : Int)), some (vI c), some (vI ((o : Nat) : Int))] [vI (J 358 (b + o))] S J Q
    refine v_iconst dX5_agrees_161 (in_lit (by decide)) ?_
    obtain ⟨K1, K2⟩ := K
    refine v_icmp_eq 190 dX5_agrees_162 (by decide) (fun c2 => ?_) (fun c2 => ?_)
    · have K := K1 c2
      obtain ⟨o6, K⟩ := K
      refine v_iinc dX5_agrees_190 rfl o6 ?_
      show V w 1 mX5_agrees 193 [some (vR 313), none, some (vI ((r : Nat) : Int)), some (vI ((n : Nat) : Int)), some (vI ((b : Nat) : Int)), some (vI ((i : Nat) : Int)), none, some (vI ((s : Nat) : Int)), some (vI c), some (vI ((o + 1 : Nat) : Int))] [] S J Q
      refine v_goto 144 dX5_agrees_193 (by decide) ?_
      exact K
    · have K := K2 c2
      refine v_aload_n dX5_agrees_165 rfl ?_
      refine v_iload dX5_agrees_166 rfl ?_
      refine v_iload dX5_agrees_168 rfl ?_
      refine v_iload dX5_agrees_170 rfl ?_
      refine v_aload_n dX5_agrees_172 rfl ?_
      refine v_getR dX5_agrees_173 frX5_151_5 rfl (L_313 hL).1 (LR_313_67 hL) (Or.inl rfl) ?_
      refine v_iload dX5_agrees_176 rfl ?_
      refine v_iload dX5_agrees_178 rfl ?_
      refine v_iadd dX5_agrees_180 o4 ?_
      show V w 1 mX5_agrees 181 [some (vR 313), none, some (vI ((r : Nat) : Int)), some (vI ((n : Nat) : Int)), some (vI ((b : Nat) : Int)), some (vI ((i : Nat) : Int)), none, some (vI ((s : Nat) : Int)), some (vI c), some (vI ((o : Nat) : Int))] [vI ((b + o : Nat) : Int), vR 358, vI ((o : Nat) : Int), vI c, vI ((s : Nat) : Int), vR 313] S J Q
      refine ld_358 dX5_agrees_181 hL (by omega) o5 ?_
      show V w 1 mX5_agrees 182 [some (vR 313), none, some (vI ((r : Nat) : Int)), some (vI ((n : Nat) : Int)), some (vI ((b : Nat) : Int)), some (vI ((i : Nat) : Int)), none, some (vI ((s : Nat) : Int)), some (vI c), some (vI ((o : Nat) : Int))] [vI (J 358 (b + o)), vI ((o : Nat) : Int), vI c, vI ((s : Nat) : Int), vR 313] S J Q
      refine v_callV (d' := 0) (rest := []) [vI ((s : Nat) : Int), vI c, vI ((o : Nat) : Int), vI (J 358 (b + o))] dX5_agrees_182 vrX5_404_5 (L_313 hL).1 rfl rfl (one_I (one_I (one_I (one_I one_nil)))) (Nat.le_of_ble_eq_true rfl) (Nat.le_of_ble_eq_true rfl) (Nat.le_of_ble_eq_true rfl) ?_
      obtain ⟨o7, K⟩ := K
      obtain ⟨o8, K⟩ := K
      obtain ⟨o9, K⟩ := K
      obtain ⟨o10, K⟩ := K
      obtain ⟨K1, K2⟩ := K
      refine s_agree hL ((s : Nat) : Int) c ((o : Nat) : Int) (J 358 (b + o)) o7 o8 o9 o10 (fun c3 => ?_) (fun c3 => ?_)
      · have K := K1 c3
        show V w 1 mX5_agrees 185 [some (vR 313), none, some (vI ((r : Nat) : Int)), some (vI ((n : Nat) : Int)), some (vI ((b : Nat) : Int)), some (vI ((i : Nat) : Int)), none, some (vI ((s : Nat) : Int)), some (vI c), some (vI ((o : Nat) : Int))] [vI 1] S J Q
        refine v_if_ne 190 dX5_agrees_185 (by decide) (fun _ => ?_) (fun cQ => absurd cQ (by decide))
        obtain ⟨o11, K⟩ := K
        refine v_iinc dX5_agrees_190 rfl o11 ?_
        show V w 1 mX5_agrees 193 [some (vR 313), none, some (vI ((r : Nat) : Int)), some (vI ((n : Nat) : Int)), some (vI ((b : Nat) : Int)), some (vI ((i : Nat) : Int)), none, some (vI ((s : Nat) : Int)), some (vI c), some (vI ((o + 1 : Nat) : Int))] [] S J Q
        refine v_goto 144 dX5_agrees_193 (by decide) ?_
        exact K
      · have K := K2 c3
        show V w 1 mX5_agrees 185 [some (vR 313), none, some (vI ((r : Nat) : Int)), some (vI ((n : Nat) : Int)), some (vI ((b : Nat) : Int)), some (vI ((i : Nat) : Int)), none, some (vI ((s : Nat) : Int)), some (vI c), some (vI ((o : Nat) : Int))] [vI 0] S J Q
        refine v_if_ne 190 dX5_agrees_185 (by decide) (fun cQ => absurd cQ (by decide)) (fun _ => ?_)
        refine v_iconst dX5_agrees_188 (in_lit (by decide)) ?_
        exact v_iret dX5_agrees_189 rfl (by decide) K
