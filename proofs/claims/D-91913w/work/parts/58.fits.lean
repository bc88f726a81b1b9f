/-! the model: fits -/
set_option maxRecDepth 100000
theorem gX5_marksFits_0 {w : Wd} {S : Sh} {J : Jm} {Q : Out → Sh → Jm → Prop} (hL : Lay S) (known : Int)
    (K : V w 2 mX5_marksFits 2 [some (vR 313), some (vI known), some (vI 0), none, none, none] [] S J Q) :
    V w 2 mX5_marksFits 0 (ent mX5_marksFits [vR 313, vI known]) [] S J Q := by
  show V w 2 mX5_marksFits 0 [some (vR 313), some (vI known), none, none, none, none] [] S J Q
  refine v_iconst dX5_marksFits_0 (in_lit (by decide)) ?_
  refine v_istore_n dX5_marksFits_1 (Nat.le_of_ble_eq_true rfl) ?_
  show V w 2 mX5_marksFits 2 [some (vR 313), some (vI known), some (vI 0), none, none, none] [] S J Q
  exact K
theorem gX5_marksFits_2 {w : Wd} {S : Sh} {J : Jm} {Q : Out → Sh → Jm → Prop} (hL : Lay S) (known : Int) (r : Nat)
    (K : (-2147483648 ≤ 8 * (J 313 2) ∧ 8 * (J 313 2) ≤ 2147483647) ∧ Br (8 * (J 313 2) ≤ ((r : Nat) : Int)) (Q (.inl none) S J) ((((r : Nat) : Int) < 192) ∧ Br (J 362 r = 0) ((((r / 8 : Nat) : Int) < 25) ∧ Br (J 316 (r / 8) ≤ ((r % 8 : Nat) : Int)) ((-2147483648 ≤ ((r : Nat) : Int) + 1 ∧ ((r : Nat) : Int) + 1 ≤ 2147483647) ∧ V w 2 mX5_marksFits 2 [some (vR 313), some (vI known), some (vI ((r + 1 : Nat) : Int)), none, none, none] [] S J Q) ((0 ≤ ((r / 8 : Nat) : Int) ∧ ((r / 8 : Nat) : Int) < 24) ∧ Br (J 314 ((r / 8 : Nat) : Int).toNat ≤ known ∧ known < J 315 ((r / 8 : Nat) : Int).toNat) (V w 2 mX5_marksFits 58 [some (vR 313), some (vI known), some (vI ((r : Nat) : Int)), some (vI ((r / 8 : Nat) : Int)), some (vI 0), some (vI 0)] [] S J Q) ((-2147483648 ≤ ((r : Nat) : Int) + 1 ∧ ((r : Nat) : Int) + 1 ≤ 2147483647) ∧ V w 2 mX5_marksFits 2 [some (vR 313), some (vI known), some (vI ((r + 1 : Nat) : Int)), none, none, none] [] S J Q))) ((-2147483648 ≤ ((r : Nat) : Int) + 1 ∧ ((r : Nat) : Int) + 1 ≤ 2147483647) ∧ V w 2 mX5_marksFits 2 [some (vR 313), some (vI known), some (vI ((r + 1 : Nat) : Int)), none, none, none] [] S J Q))) :
    V w 2 mX5_marksFits 2 [some (vR 313), some (vI known), some (vI ((r : Nat) : Int)), none, none, none] [] S J Q := by
  refine v_iload_n dX5_marksFits_2 rfl ?_
  refine v_bipush dX5_marksFits_3 (by decide) (in_lit (by decide)) ?_
  refine v_aload_n dX5_marksFits_5 rfl ?_
  refine v_getI dX5_marksFits_6 frX5_243_5 rfl rfl (L_313 hL).1 ?_
  obtain ⟨o1, K⟩ := K
  refine v_imul dX5_marksFits_9 o1 ?_
  obtain ⟨K1, K2⟩ := K
  refine v_icmp_ge 186 dX5_marksFits_10 (by decide) (fun c1 => ?_) (fun c1 => ?_)
  · have K := K1 c1
    exact v_vret dX5_marksFits_186 rfl K
  · have K := K2 c1
    refine v_iload_n dX5_marksFits_13 rfl ?_
    refine v_bipush dX5_marksFits_14 (by decide) (in_lit (by decide)) ?_
    refine v_idiv dX5_marksFits_16 (by omega) (by decide) ?_
    show V w 2 mX5_marksFits 17 [some (vR 313), some (vI known), some (vI ((r : Nat) : Int)), none, none, none] [vI ((r / 8 : Nat) : Int)] S J Q
    refine v_istore_n dX5_marksFits_17 (Nat.le_of_ble_eq_true rfl) ?_
    show V w 2 mX5_marksFits 18 [some (vR 313), some (vI known), some (vI ((r : Nat) : Int)), some (vI ((r / 8 : Nat) : Int)), none, none] [] S J Q
    refine v_aload_n dX5_marksFits_18 rfl ?_
    refine v_getR dX5_marksFits_19 frX5_163_5 rfl (L_313 hL).1 (LR_313_73 hL) (Or.inl rfl) ?_
    refine v_iload_n dX5_marksFits_22 rfl ?_
    obtain ⟨o2, K⟩ := K
    refine ld_362 dX5_marksFits_23 hL (by omega) o2 ?_
    show V w 2 mX5_marksFits 24 [some (vR 313), some (vI known), some (vI ((r : Nat) : Int)), some (vI ((r / 8 : Nat) : Int)), none, none] [vI (J 362 r)] S J Q
    obtain ⟨K1, K2⟩ := K
    refine v_if_ne 180 dX5_marksFits_24 (by decide) (fun c2 => ?_) (fun c2 => ?_)
    · have K := K2 c2
      obtain ⟨o3, K⟩ := K
      refine v_iinc dX5_marksFits_180 rfl o3 ?_
      show V w 2 mX5_marksFits 183 [some (vR 313), some (vI known), some (vI ((r + 1 : Nat) : Int)), some (vI ((r / 8 : Nat) : Int)), none, none] [] S J Q
      refine v_goto 2 dX5_marksFits_183 (by decide) ?_
      exact v_forget (fg_some (fg_some (fg_some (fg_none (fg_none (fg_none fg_nil)))))) K
    · have K := K1 c2
      refine v_iload_n dX5_marksFits_27 rfl ?_
      refine v_bipush dX5_marksFits_28 (by decide) (in_lit (by decide)) ?_
      refine v_irem dX5_marksFits_30 (by omega) (by decide) ?_
      show V w 2 mX5_marksFits 31 [some (vR 313), some (vI known), some (vI ((r : Nat) : Int)), some (vI ((r / 8 : Nat) : Int)), none, none] [vI ((r % 8 : Nat) : Int)] S J Q
      refine v_aload_n dX5_marksFits_31 rfl ?_
      refine v_getR dX5_marksFits_32 frX5_20_5 rfl (L_313 hL).1 (LR_313_5 hL) (Or.inl rfl) ?_
      refine v_iload_n dX5_marksFits_35 rfl ?_
      obtain ⟨o4, K⟩ := K
      refine ld_316 dX5_marksFits_36 hL (by omega) o4 ?_
      show V w 2 mX5_marksFits 37 [some (vR 313), some (vI known), some (vI ((r : Nat) : Int)), some (vI ((r / 8 : Nat) : Int)), none, none] [vI (J 316 (r / 8)), vI ((r % 8 : Nat) : Int)] S J Q
      obtain ⟨K1, K2⟩ := K
      refine v_icmp_ge 180 dX5_marksFits_37 (by decide) (fun c3 => ?_) (fun c3 => ?_)
      · have K := K1 c3
        obtain ⟨o5, K⟩ := K
        refine v_iinc dX5_marksFits_180 rfl o5 ?_
        show V w 2 mX5_marksFits 183 [some (vR 313), some (vI known), some (vI ((r + 1 : Nat) : Int)), some (vI ((r / 8 : Nat) : Int)), none, none] [] S J Q
        refine v_goto 2 dX5_marksFits_183 (by decide) ?_
        exact v_forget (fg_some (fg_some (fg_some (fg_none (fg_none (fg_none fg_nil)))))) K
      · have K := K2 c3
        refine v_aload_n dX5_marksFits_40 rfl ?_
        refine v_iload_n dX5_marksFits_41 rfl ?_
        refine v_iload_n dX5_marksFits_42 rfl ?_
        refine v_callV (d' := 1) (rest := []) [vI ((r / 8 : Nat) : Int), vI known] dX5_marksFits_43 vrX5_314_5 (L_313 hL).1 rfl rfl (one_I (one_I one_nil)) (Nat.le_of_ble_eq_true rfl) (Nat.le_of_ble_eq_true rfl) (Nat.le_of_ble_eq_true rfl) ?_
        obtain ⟨o6, K⟩ := K
        obtain ⟨K1, K2⟩ := K
        refine sX5_tabletCounts hL ((r / 8 : Nat) : Int) known o6 (fun c4 => ?_) (fun c4 => ?_)
        · have K := K1 c4
          show V w 2 mX5_marksFits 46 [some (vR 313), some (vI known), some (vI ((r : Nat) : Int)), some (vI ((r / 8 : Nat) : Int)), none, none] [vI 1] S J Q
          refine v_if_ne 52 dX5_marksFits_46 (by decide) (fun _ => ?_) (fun cQ => absurd cQ (by decide))
          refine v_iconst dX5_marksFits_52 (in_lit (by decide)) ?_
          refine v_istore dX5_marksFits_53 (Nat.le_of_ble_eq_true rfl) ?_
          show V w 2 mX5_marksFits 55 [some (vR 313), some (vI known), some (vI ((r : Nat) : Int)), some (vI ((r / 8 : Nat) : Int)), some (vI 0), none] [] S J Q
          refine v_iconst dX5_marksFits_55 (in_lit (by decide)) ?_
          refine v_istore dX5_marksFits_56 (Nat.le_of_ble_eq_true rfl) ?_
          show V w 2 mX5_marksFits 58 [some (vR 313), some (vI known), some (vI ((r : Nat) : Int)), some (vI ((r / 8 : Nat) : Int)), some (vI 0), some (vI 0)] [] S J Q
          exact K
        · have K := K2 c4
          show V w 2 mX5_marksFits 46 [some (vR 313), some (vI known), some (vI ((r : Nat) : Int)), some (vI ((r / 8 : Nat) : Int)), none, none] [vI 0] S J Q
          refine v_if_ne 52 dX5_marksFits_46 (by decide) (fun cQ => absurd cQ (by decide)) (fun _ => ?_)
          refine v_goto 180 dX5_marksFits_49 (by decide) ?_
          obtain ⟨o7, K⟩ := K
          refine v_iinc dX5_marksFits_180 rfl o7 ?_
          show V w 2 mX5_marksFits 183 [some (vR 313), some (vI known), some (vI ((r + 1 : Nat) : Int)), some (vI ((r / 8 : Nat) : Int)), none, none] [] S J Q
          refine v_goto 2 dX5_marksFits_183 (by decide) ?_
          exact v_forget (fg_some (fg_some (fg_some (fg_none (fg_none (fg_none fg_nil)))))) K
theorem gX5_marksFits_58 {w : Wd} {S : Sh} {J : Jm} {Q : Out → Sh → Jm → Prop} (hL : Lay S) (known : Int) (r : Nat) (t : Int) (own : Int) (k : Nat)
    (K : Br (J 313 64 ≤ ((k : Nat) : Int)) (Br (own = 0) (V w 2 mX5_marksFits 126 [some (vR 313), some (vI known), some (vI ((r : Nat) : Int)), none, none, some (vI 0)] [] S J Q) ((-2147483648 ≤ ((r : Nat) : Int) + 1 ∧ ((r : Nat) : Int) + 1 ≤ 2147483647) ∧ V w 2 mX5_marksFits 2 [some (vR 313), some (vI known), some (vI ((r + 1 : Nat) : Int)), none, none, none] [] S J Q)) (Br (own = 0) ((((k : Nat) : Int) < 7) ∧ (0 ≤ J 356 k) ∧ (J 356 k < 7) ∧ Br (J 350 (J 356 k).toNat = t) (Br (J 357 k = ((r % 8 : Nat) : Int)) ((-2147483648 ≤ ((k : Nat) : Int) + 1 ∧ ((k : Nat) : Int) + 1 ≤ 2147483647) ∧ V w 2 mX5_marksFits 58 [some (vR 313), some (vI known), some (vI ((r : Nat) : Int)), some (vI t), some (vI 1), some (vI ((k + 1 : Nat) : Int))] [] S J Q) ((-2147483648 ≤ ((k : Nat) : Int) + 1 ∧ ((k : Nat) : Int) + 1 ≤ 2147483647) ∧ V w 2 mX5_marksFits 58 [some (vR 313), some (vI known), some (vI ((r : Nat) : Int)), some (vI t), some (vI 0), some (vI ((k + 1 : Nat) : Int))] [] S J Q)) ((-2147483648 ≤ ((k : Nat) : Int) + 1 ∧ ((k : Nat) : Int) + 1 ≤ 2147483647) ∧ V w 2 mX5_marksFits 58 [some (vR 313), some (vI known), some (vI ((r : Nat) : Int)), some (vI t), some (vI 0), some (vI ((k + 1 : Nat) : Int))] [] S J Q)) ((-2147483648 ≤ ((k : Nat) : Int) + 1 ∧ ((k : Nat) : Int) + 1 ≤ 2147483647) ∧ V w 2 mX5_marksFits 58 [some (vR 313), some (vI known), some (vI ((r : Nat) : Int)), some (vI t), some (vI 1), some (vI ((k + 1 : Nat) : Int))] [] S J Q))) :
    V w 2 mX5_marksFits 58 [some (vR 313), some (vI known), some (vI ((r : Nat) : Int)), some (vI t), some (vI own), some (vI ((k : Nat) : Int))] [] S J Q := by
  refine v_iload dX5_marksFits_58 rfl ?_
  refine v_aload_n dX5_marksFits_60 rfl ?_
  refine v_getI dX5_marksFits_61 frX5_414_5 rfl rfl (L_313 hL).1 ?_
  obtain ⟨K1, K2⟩ := K
  refine v_icmp_ge 115 dX5_marksFits_64 (by decide) (fun c1 => ?_) (fun c1 => ?_)
  · have K := K1 c1
    refine v_iload dX5_marksFits_115 rfl ?_
    obtain ⟨K1, K2⟩ := K
    refine v_if_eq 123 dX5_marksFits_117 (by decide) (fun c2 => ?_) (fun c2 => ?_)
    · have K := K1 c2
      refine v_iconst dX5_marksFits_123 (in_lit (by decide)) ?_
      refine v_istore dX5_marksFits_124 (Nat.le_of_ble_eq_true rfl) ?_
      show V w 2 mX5_marksFits 126 [some (vR 313), some (vI known), some (vI ((r : Nat) : Int)), some (vI t), some (vI own), some (vI 0)] [] S J Q
      exact v_forget (fg_some (fg_some (fg_some (fg_none (fg_none (fg_some fg_nil)))))) K
    · have K := K2 c2
      refine v_goto 180 dX5_marksFits_120 (by decide) ?_
      obtain ⟨o1, K⟩ := K
      refine v_iinc dX5_marksFits_180 rfl o1 ?_
      show V w 2 mX5_marksFits 183 [some (vR 313), some (vI known), some (vI ((r + 1 : Nat) : Int)), some (vI t), some (vI own), some (vI ((k : Nat) : Int))] [] S J Q
      refine v_goto 2 dX5_marksFits_183 (by decide) ?_
      exact v_forget (fg_some (fg_some (fg_some (fg_none (fg_none (fg_none fg_nil)))))) K
  · have K := K2 c1
    refine v_iload dX5_marksFits_67 rfl ?_
    obtain ⟨K1, K2⟩ := K
    refine v_if_ne 102 dX5_marksFits_69 (by decide) (fun c3 => ?_) (fun c3 => ?_)
    · have K := K2 c3
      refine v_iconst dX5_marksFits_102 (in_lit (by decide)) ?_
      refine v_goto 107 dX5_marksFits_103 (by decide) ?_
      refine v_istore dX5_marksFits_107 (Nat.le_of_ble_eq_true rfl) ?_
      show V w 2 mX5_marksFits 109 [some (vR 313), some (vI known), some (vI ((r : Nat) : Int)), some (vI t), some (vI 1), some (vI ((k : Nat) : Int))] [] S J Q
      obtain ⟨o2, K⟩ := K
      refine v_iinc dX5_marksFits_109 rfl o2 ?_
      show V w 2 mX5_marksFits 112 [some (vR 313), some (vI known), some (vI ((r : Nat) : Int)), some (vI t), some (vI 1), some (vI ((k + 1 : Nat) : Int))] [] S J Q
      refine v_goto 58 dX5_marksFits_112 (by decide) ?_
      exact K
    · have K := K1 c3
      refine v_aload_n dX5_marksFits_72 rfl ?_
      refine v_getR dX5_marksFits_73 frX5_127_5 rfl (L_313 hL).1 (LR_313_58 hL) (Or.inl rfl) ?_
      refine v_aload_n dX5_marksFits_76 rfl ?_
      refine v_getR dX5_marksFits_77 frX5_145_5 rfl (L_313 hL).1 (LR_313_65 hL) (Or.inl rfl) ?_
      refine v_iload dX5_marksFits_80 rfl ?_
      obtain ⟨o3, K⟩ := K
      refine ld_356 dX5_marksFits_82 hL (by omega) o3 ?_
      show V w 2 mX5_marksFits 83 [some (vR 313), some (vI known), some (vI ((r : Nat) : Int)), some (vI t), some (vI own), some (vI ((k : Nat) : Int))] [vI (J 356 k), vR 350] S J Q
      obtain ⟨o4, K⟩ := K
      obtain ⟨o5, K⟩ := K
      refine ld_350 dX5_marksFits_83 hL o4 o5 ?_
      refine v_iload_n dX5_marksFits_84 rfl ?_
      obtain ⟨K1, K2⟩ := K
      refine v_icmp_ne 106 dX5_marksFits_85 (by decide) (fun c4 => ?_) (fun c4 => ?_)
      · have K := K2 c4
        refine v_iconst dX5_marksFits_106 (in_lit (by decide)) ?_
        refine v_istore dX5_marksFits_107 (Nat.le_of_ble_eq_true rfl) ?_
        show V w 2 mX5_marksFits 109 [some (vR 313), some (vI known), some (vI ((r : Nat) : Int)), some (vI t), some (vI 0), some (vI ((k : Nat) : Int))] [] S J Q
        obtain ⟨o6, K⟩ := K
        refine v_iinc dX5_marksFits_109 rfl o6 ?_
        show V w 2 mX5_marksFits 112 [some (vR 313), some (vI known), some (vI ((r : Nat) : Int)), some (vI t), some (vI 0), some (vI ((k + 1 : Nat) : Int))] [] S J Q
        refine v_goto 58 dX5_marksFits_112 (by decide) ?_
        exact K
      · have K := K1 c4
        refine v_aload_n dX5_marksFits_88 rfl ?_
        refine v_getR dX5_marksFits_89 frX5_148_5 rfl (L_313 hL).1 (LR_313_66 hL) (Or.inl rfl) ?_
        refine v_iload dX5_marksFits_92 rfl ?_
        refine ld_357 dX5_marksFits_94 hL (by omega) o3 ?_
        show V w 2 mX5_marksFits 95 [some (vR 313), some (vI known), some (vI ((r : Nat) : Int)), some (vI t), some (vI own), some (vI ((k : Nat) : Int))] [vI (J 357 k)] S J Q
        refine v_iload_n dX5_marksFits_95 rfl ?_
        refine v_bipush dX5_marksFits_96 (by decide) (in_lit (by decide)) ?_
        refine v_irem dX5_marksFits_98 (by omega) (by decide) ?_
        show V w 2 mX5_marksFits 99 [some (vR 313), some (vI known), some (vI ((r : Nat) : Int)), some (vI t), some (vI own), some (vI ((k : Nat) : Int))] [vI ((r % 8 : Nat) : Int), vI (J 357 k)] S J Q
        obtain ⟨K1, K2⟩ := K
        refine v_icmp_ne 106 dX5_marksFits_99 (by decide) (fun c5 => ?_) (fun c5 => ?_)
        · have K := K2 c5
          refine v_iconst dX5_marksFits_106 (in_lit (by decide)) ?_
          refine v_istore dX5_marksFits_107 (Nat.le_of_ble_eq_true rfl) ?_
          show V w 2 mX5_marksFits 109 [some (vR 313), some (vI known), some (vI ((r : Nat) : Int)), some (vI t), some (vI 0), some (vI ((k : Nat) : Int))] [] S J Q
          obtain ⟨o7, K⟩ := K
          refine v_iinc dX5_marksFits_109 rfl o7 ?_
          show V w 2 mX5_marksFits 112 [some (vR 313), some (vI known), some (vI ((r : Nat) : Int)), some (vI t), some (vI 0), some (vI ((k + 1 : Nat) : Int))] [] S J Q
          refine v_goto 58 dX5_marksFits_112 (by decide) ?_
          exact K
        · have K := K1 c5
          refine v_iconst dX5_marksFits_102 (in_lit (by decide)) ?_
          refine v_goto 107 dX5_marksFits_103 (by decide) ?_
          refine v_istore dX5_marksFits_107 (Nat.le_of_ble_eq_true rfl) ?_
          show V w 2 mX5_marksFits 109 [some (vR 313), some (vI known), some (vI ((r : Nat) : Int)), some (vI t), some (vI 1), some (vI ((k : Nat) : Int))] [] S J Q
          obtain ⟨o8, K⟩ := K
          refine v_iinc dX5_marksFits_109 rfl o8 ?_
          show V w 2 mX5_marksFits 112 [some (vR 313), some (vI known), some (vI ((r : Nat) : Int)), some (vI t), some (vI 1), some (vI ((k + 1 : Nat) : Int))] [] S J Q
          refine v_goto 58 dX5_marksFits_112 (by decide) ?_
          exact K
theorem gX5_marksFits_126 {w : Wd} {S : Sh} {J : Jm} {Q : Out → Sh → Jm → Prop} (hL : Lay S) (known : Int) (r : Nat) (s : Nat)
    (K : Br (40 ≤ ((s : Nat) : Int)) (V w 1 mX5_agrees 0 (ent mX5_agrees [vR 313, vI 7, vI ((r : Nat) : Int), vI 6]) [] S J (CallQ w 2 mX5_marksFits 176 [some (vR 313), some (vI known), some (vI ((r : Nat) : Int)), none, none, some (vI ((s : Nat) : Int))] [vI ((r : Nat) : Int), vR 362] Q)) ((-2147483648 ≤ 280 + ((s : Nat) : Int) ∧ 280 + ((s : Nat) : Int) ≤ 2147483647) ∧ (-2147483648 ≤ 40 * (J 313 64) ∧ 40 * (J 313 64) ≤ 2147483647) ∧ (-2147483648 ≤ (40 * (J 313 64)) + ((s : Nat) : Int) ∧ (40 * (J 313 64)) + ((s : Nat) : Int) ≤ 2147483647) ∧ (0 ≤ (40 * (J 313 64)) + ((s : Nat) : Int)) ∧ ((40 * (J 313 64)) + ((s : Nat) : Int) < 320) ∧ (((280 + s : Nat) : Int) < 320) ∧ (-2147483648 ≤ ((s : Nat) : Int) + 1 ∧ ((s : Nat) : Int) + 1 ≤ 2147483647) ∧ V w 2 mX5_marksFits 126 [some (vR 313), some (vI known), some (vI ((r : Nat) : Int)), none, none, some (vI ((s + 1 : Nat) : Int))] [] S (up J 358 (280 + s) (J 358 ((40 * (J 313 64)) + ((s : Nat) : Int)).toNat)) Q)) :
    V w 2 mX5_marksFits 126 [some (vR 313), some (vI known), some (vI ((r : Nat) : Int)), none, none, some (vI ((s : Nat) : Int))] [] S J Q := by
  refine v_iload dX5_marksFits_126 rfl ?_
  refine v_bipush dX5_marksFits_128 (by decide) (in_lit (by decide)) ?_
  obtain ⟨K1, K2⟩ := K
  refine v_icmp_ge 165 dX5_marksFits_130 (by decide) (fun c1 => ?_) (fun c1 => ?_)
  · have K := K1 c1
    refine v_aload_n dX5_marksFits_165 rfl ?_
    refine v_getR dX5_marksFits_166 frX5_163_5 rfl (L_313 hL).1 (LR_313_73 hL) (Or.inl rfl) ?_
    refine v_iload_n dX5_marksFits_169 rfl ?_
    refine v_aload_n dX5_marksFits_170 rfl ?_
    refine v_bipush dX5_marksFits_171 (by decide) (in_lit (by decide)) ?_
    refine v_iload_n dX5_marksFits_173 rfl ?_
    refine v_bipush dX5_marksFits_174 (by decide) (in_lit (by decide)) ?_
    refine v_callV (d' := 1) (rest := [vI ((r : Nat) : Int), vR 362]) [vI 7, vI ((r : Nat) : Int), vI 6] dX5_marksFits_176 vrX5_408_5 (L_313 hL).1 rfl rfl (one_I (one_I (one_I one_nil))) (Nat.le_of_ble_eq_true rfl) (Nat.le_of_ble_eq_true rfl) (Nat.le_of_ble_eq_true rfl) ?_
    exact K
  · have K := K2 c1
    refine v_aload_n dX5_marksFits_133 rfl ?_
    refine v_getR dX5_marksFits_134 frX5_151_5 rfl (L_313 hL).1 (LR_313_67 hL) (Or.inl rfl) ?_
    refine v_sipush dX5_marksFits_137 (by decide) (in_lit (by decide)) ?_
    refine v_iload dX5_marksFits_140 rfl ?_
    obtain ⟨o1, K⟩ := K
    refine v_iadd dX5_marksFits_142 o1 ?_
    show V w 2 mX5_marksFits 143 [some (vR 313), some (vI known), some (vI ((r : Nat) : Int)), none, none, some (vI ((s : Nat) : Int))] [vI ((280 + s : Nat) : Int), vR 358] S J Q
    refine v_aload_n dX5_marksFits_143 rfl ?_
    refine v_getR dX5_marksFits_144 frX5_151_5 rfl (L_313 hL).1 (LR_313_67 hL) (Or.inl rfl) ?_
    refine v_bipush dX5_marksFits_147 (by decide) (in_lit (by decide)) ?_
    refine v_aload_n dX5_marksFits_149 rfl ?_
    refine v_getI dX5_marksFits_150 frX5_414_5 rfl rfl (L_313 hL).1 ?_
    obtain ⟨o2, K⟩ := K
    refine v_imul dX5_marksFits_153 o2 ?_
    refine v_iload dX5_marksFits_154 rfl ?_
    obtain ⟨o3, K⟩ := K
    refine v_iadd dX5_marksFits_156 o3 ?_
    obtain ⟨o4, K⟩ := K
    obtain ⟨o5, K⟩ := K
    refine ld_358 dX5_marksFits_157 hL o4 o5 ?_
    obtain ⟨o6, K⟩ := K
    refine st_358 dX5_marksFits_158 hL (by omega) o6 ?_
    show V w 2 mX5_marksFits 159 [some (vR 313), some (vI known), some (vI ((r : Nat) : Int)), none, none, some (vI ((s : Nat) : Int))] [] S (up J 358 (280 + s) (J 358 ((40 * (J 313 64)) + ((s : Nat) : Int)).toNat)) Q
    obtain ⟨o7, K⟩ := K
    refine v_iinc dX5_marksFits_159 rfl o7 ?_
    show V w 2 mX5_marksFits 162 [some (vR 313), some (vI known), some (vI ((r : Nat) : Int)), none, none, some (vI ((s + 1 : Nat) : Int))] [] S (up J 358 (280 + s) (J 358 ((40 * (J 313 64)) + ((s : Nat) : Int)).toNat)) Q
    refine v_goto 126 dX5_marksFits_162 (by decide) ?_
    exact K
theorem gX5_marksFits_179 {w : Wd} {S : Sh} {J : Jm} {Q : Out → Sh → Jm → Prop} (hL : Lay S) (known : Int) (r : Nat) (z : Int)
    (K : (((r : Nat) : Int) < 192) ∧ (z = 0 ∨ z = 1) ∧ (-2147483648 ≤ ((r : Nat) : Int) + 1 ∧ ((r : Nat) : Int) + 1 ≤ 2147483647) ∧ V w 2 mX5_marksFits 2 [some (vR 313), some (vI known), some (vI ((r + 1 : Nat) : Int)), none, none, none] [] S (up J 362 r z) Q) :
    V w 2 mX5_marksFits 179 [some (vR 313), some (vI known), some (vI ((r : Nat) : Int)), none, none, none] [vI z, vI ((r : Nat) : Int), vR 362] S J Q := by
  obtain ⟨o1, K⟩ := K
  obtain ⟨o2, K⟩ := K
  refine st_362 dX5_marksFits_179 hL (by omega) o1 (zfit_bool o2) ?_
  show V w 2 mX5_marksFits 180 [some (vR 313), some (vI known), some (vI ((r : Nat) : Int)), none, none, none] [] S (up J 362 r z) Q
  obtain ⟨o3, K⟩ := K
  refine v_iinc dX5_marksFits_180 rfl o3 ?_
  show V w 2 mX5_marksFits 183 [some (vR 313), some (vI known), some (vI ((r + 1 : Nat) : Int)), none, none, none] [] S (up J 362 r z) Q
  refine v_goto 2 dX5_marksFits_183 (by decide) ?_
  exact K
theorem gX5_fits_0 {w : Wd} {S : Sh} {J : Jm} {Q : Out → Sh → Jm → Prop} (hL : Lay S) (known : Int)
    (K : Br (0 ≤ known ∧ known ≤ (J 313 1)) (Br (NameB (up J 313 0 0)) (V w 0 mX5_takesName 0 (ent mX5_takesName [vR 313, vI 6, vI 0]) [] S (up J 313 0 0) (CallQ w 5 mX5_fits 26 [some (vR 313), some (vI known), none, none] [] Q)) (Q (.inl (some (vI (-1)))) S (up J 313 0 0))) (Q (.inl (some (vI (-1)))) S (up J 313 0 0))) :
    V w 5 mX5_fits 0 (ent mX5_fits [vR 313, vI known]) [] S J Q := by
  show V w 5 mX5_fits 0 [some (vR 313), some (vI known), none, none] [] S J Q
  refine v_aload_n dX5_fits_0 rfl ?_
  refine v_iconst dX5_fits_1 (in_lit (by decide)) ?_
  refine v_putI dX5_fits_2 frX5_1_5 (fun _ _ _ h => by cases h; exact Or.inl rfl) rfl rfl zfit_int (L_313 hL).1 ?_
  show V w 5 mX5_fits 5 [some (vR 313), some (vI known), none, none] [] S (up J 313 0 0) Q
  refine v_aload_n dX5_fits_5 rfl ?_
  refine v_iload_n dX5_fits_6 rfl ?_
  refine v_callV (d' := 0) (rest := []) [vI known] dX5_fits_7 vrX5_298_5 (L_313 hL).1 rfl rfl (one_I one_nil) (Nat.le_of_ble_eq_true rfl) (Nat.le_of_ble_eq_true rfl) (Nat.le_of_ble_eq_true rfl) ?_
  obtain ⟨K1, K2⟩ := K
  refine sX5_isKnown hL known  (fun c1 => ?_) (fun c1 => ?_)
  · have K := K1 c1
    show V w 5 mX5_fits 10 [some (vR 313), some (vI known), none, none] [vI 1] S (up J 313 0 0) Q
    refine v_if_eq 20 dX5_fits_10 (by decide) (fun cQ => absurd cQ (by decide)) (fun _ => ?_)
    refine v_aload_n dX5_fits_13 rfl ?_
    refine v_callV (d' := 1) (rest := []) [] dX5_fits_14 vrX5_380_5 (L_313 hL).1 rfl rfl one_nil (Nat.le_of_ble_eq_true rfl) (Nat.le_of_ble_eq_true rfl) (Nat.le_of_ble_eq_true rfl) ?_
    obtain ⟨K1, K2⟩ := K
    refine s_isName hL   (fun c2 => ?_) (fun c2 => ?_)
    · have K := K1 c2
      show V w 5 mX5_fits 17 [some (vR 313), some (vI known), none, none] [vI 1] S (up J 313 0 0) Q
      refine v_if_ne 22 dX5_fits_17 (by decide) (fun _ => ?_) (fun cQ => absurd cQ (by decide))
      refine v_aload_n dX5_fits_22 rfl ?_
      refine v_bipush dX5_fits_23 (by decide) (in_lit (by decide)) ?_
      refine v_iconst dX5_fits_25 (in_lit (by decide)) ?_
      refine v_callV (d' := 0) (rest := []) [vI 6, vI 0] dX5_fits_26 vrX5_386_5 (L_313 hL).1 rfl rfl (one_I (one_I one_nil)) (Nat.le_of_ble_eq_true rfl) (Nat.le_of_ble_eq_true rfl) (Nat.le_of_ble_eq_true rfl) ?_
      exact K
    · have K := K2 c2
      show V w 5 mX5_fits 17 [some (vR 313), some (vI known), none, none] [vI 0] S (up J 313 0 0) Q
      refine v_if_ne 22 dX5_fits_17 (by decide) (fun cQ => absurd cQ (by decide)) (fun _ => ?_)
      refine v_iconst dX5_fits_20 (in_lit (by decide)) ?_
      exact v_iret dX5_fits_21 rfl rfl K
  · have K := K2 c1
    show V w 5 mX5_fits 10 [some (vR 313), some (vI known), none, none] [vI 0] S (up J 313 0 0) Q
    refine v_if_eq 20 dX5_fits_10 (by decide) (fun _ => ?_) (fun cQ => absurd cQ (by decide))
    refine v_iconst dX5_fits_20 (in_lit (by decide)) ?_
    exact v_iret dX5_fits_21 rfl rfl K
theorem gX5_fits_44 {w : Wd} {S : Sh} {J : Jm} {Q : Out → Sh → Jm → Prop} (hL : Lay S) (known : Int) (r : Nat)
    (K : Br (192 ≤ ((r : Nat) : Int)) (V w 4 mX5_goesThrough 0 (ent mX5_goesThrough [vR 313, vI 3, vI known]) [] S J (CallQ w 5 mX5_fits 67 [some (vR 313), some (vI known), some (vI ((r : Nat) : Int)), none] [] Q)) ((((r : Nat) : Int) < 192) ∧ (-2147483648 ≤ ((r : Nat) : Int) + 1 ∧ ((r : Nat) : Int) + 1 ≤ 2147483647) ∧ V w 5 mX5_fits 44 [some (vR 313), some (vI known), some (vI ((r + 1 : Nat) : Int)), none] [] S (up J 362 r 0) Q)) :
    V w 5 mX5_fits 44 [some (vR 313), some (vI known), some (vI ((r : Nat) : Int)), none] [] S J Q := by
  refine v_iload_n dX5_fits_44 rfl ?_
  refine v_sipush dX5_fits_45 (by decide) (in_lit (by decide)) ?_
  obtain ⟨K1, K2⟩ := K
  refine v_icmp_ge 64 dX5_fits_48 (by decide) (fun c1 => ?_) (fun c1 => ?_)
  · have K := K1 c1
    refine v_aload_n dX5_fits_64 rfl ?_
    refine v_iconst dX5_fits_65 (in_lit (by decide)) ?_
    refine v_iload_n dX5_fits_66 rfl ?_
    refine v_callV (d' := 4) (rest := []) [vI 3, vI known] dX5_fits_67 vrX5_435_5 (L_313 hL).1 rfl rfl (one_I (one_I one_nil)) (Nat.le_of_ble_eq_true rfl) (Nat.le_of_ble_eq_true rfl) (Nat.le_of_ble_eq_true rfl) ?_
    exact K
  · have K := K2 c1
    refine v_aload_n dX5_fits_51 rfl ?_
    refine v_getR dX5_fits_52 frX5_163_5 rfl (L_313 hL).1 (LR_313_73 hL) (Or.inl rfl) ?_
    refine v_iload_n dX5_fits_55 rfl ?_
    refine v_iconst dX5_fits_56 (in_lit (by decide)) ?_
    obtain ⟨o1, K⟩ := K
    refine st_362 dX5_fits_57 hL (by omega) o1 (zfit_bool (by decide)) ?_
    show V w 5 mX5_fits 58 [some (vR 313), some (vI known), some (vI ((r : Nat) : Int)), none] [] S (up J 362 r 0) Q
    obtain ⟨o2, K⟩ := K
    refine v_iinc dX5_fits_58 rfl o2 ?_
    show V w 5 mX5_fits 61 [some (vR 313), some (vI known), some (vI ((r + 1 : Nat) : Int)), none] [] S (up J 362 r 0) Q
    refine v_goto 44 dX5_fits_61 (by decide) ?_
    exact K
theorem gX5_fits_74 {w : Wd} {S : Sh} {J : Jm} {Q : Out → Sh → Jm → Prop} (hL : Lay S) (n : Int) (r : Nat)
    (K : Br (192 ≤ ((r : Nat) : Int)) (Q (.inl (some (vI n))) S J) ((((r : Nat) : Int) < 192) ∧ Br (J 362 r = 0) ((-2147483648 ≤ ((r : Nat) : Int) + 1 ∧ ((r : Nat) : Int) + 1 ≤ 2147483647) ∧ V w 5 mX5_fits 74 [some (vR 313), none, some (vI n), some (vI ((r + 1 : Nat) : Int))] [] S J Q) ((-2147483648 ≤ n + 1 ∧ n + 1 ≤ 2147483647) ∧ (-2147483648 ≤ ((r : Nat) : Int) + 1 ∧ ((r : Nat) : Int) + 1 ≤ 2147483647) ∧ V w 5 mX5_fits 74 [some (vR 313), none, some (vI (n + 1)), some (vI ((r + 1 : Nat) : Int))] [] S J Q))) :
    V w 5 mX5_fits 74 [some (vR 313), none, some (vI n), some (vI ((r : Nat) : Int))] [] S J Q := by
  refine v_iload_n dX5_fits_74 rfl ?_
  refine v_sipush dX5_fits_75 (by decide) (in_lit (by decide)) ?_
  obtain ⟨K1, K2⟩ := K
  refine v_icmp_ge 99 dX5_fits_78 (by decide) (fun c1 => ?_) (fun c1 => ?_)
  · have K := K1 c1
    refine v_iload_n dX5_fits_99 rfl ?_
    exact v_iret dX5_fits_100 rfl rfl K
  · have K := K2 c1
    refine v_aload_n dX5_fits_81 rfl ?_
    refine v_getR dX5_fits_82 frX5_163_5 rfl (L_313 hL).1 (LR_313_73 hL) (Or.inl rfl) ?_
    refine v_iload_n dX5_fits_85 rfl ?_
    obtain ⟨o1, K⟩ := K
    refine ld_362 dX5_fits_86 hL (by omega) o1 ?_
    show V w 5 mX5_fits 87 [some (vR 313), none, some (vI n), some (vI ((r : Nat) : Int))] [vI (J 362 r)] S J Q
    obtain ⟨K1, K2⟩ := K
    refine v_if_eq 93 dX5_fits_87 (by decide) (fun c2 => ?_) (fun c2 => ?_)
    · have K := K1 c2
      obtain ⟨o2, K⟩ := K
      refine v_iinc dX5_fits_93 rfl o2 ?_
      show V w 5 mX5_fits 96 [some (vR 313), none, some (vI n), some (vI ((r + 1 : Nat) : Int))] [] S J Q
      refine v_goto 74 dX5_fits_96 (by decide) ?_
      exact K
    · have K := K2 c2
      obtain ⟨o3, K⟩ := K
      refine v_iinc dX5_fits_90 rfl o3 ?_
      show V w 5 mX5_fits 93 [some (vR 313), none, some (vI (n + 1)), some (vI ((r : Nat) : Int))] [] S J Q
      obtain ⟨o4, K⟩ := K
      refine v_iinc dX5_fits_93 rfl o4 ?_
      show V w 5 mX5_fits 96 [some (vR 313), none, some (vI (n + 1)), some (vI ((r + 1 : Nat) : Int))] [] S J Q
      refine v_goto 74 dX5_fits_96 (by decide) ?_
      exact K
theorem gX5_fits_29 {w : Wd} {S : Sh} {J : Jm} {Q : Out → Sh → Jm → Prop} (hL : Lay S) (known : Int)
    (K : (MI0 J) ∧ (∀ (J1 : Jm), PTk J known (0 : Int) J1 → (0 ≤ (6 : Int) ∧ (6 : Int) < 7) ∧ (MTxt J1) ∧ (NamAt J1 6) ∧ (∀ (J2 : Jm), PSp J1 6 known J2 → V w 5 mX5_fits 44 [some (vR 313), some (vI known), some (vI 0), none] [] S J2 Q))) :
    V w 5 mX5_fits 29 [some (vR 313), some (vI known), none, none] [] S J Q := by
  refine v_aload_n dX5_fits_29 rfl ?_
  refine v_iload_n dX5_fits_30 rfl ?_
  refine v_iconst dX5_fits_31 (in_lit (by decide)) ?_
  refine v_callV (d' := 4) (rest := []) [vI known, vI 0] dX5_fits_32 vrX5_432_5 (L_313 hL).1 rfl rfl (one_I (one_I one_nil)) (Nat.le_of_ble_eq_true rfl) (Nat.le_of_ble_eq_true rfl) (Nat.le_of_ble_eq_true rfl) ?_
  obtain ⟨o1, K⟩ := K
  refine s_takesR hL known (0 : Int) o1 (fun J1 hp => ?_)
  have K := K J1 hp
  show V w 5 mX5_fits 35 [some (vR 313), some (vI known), none, none] [] S J1 Q
  refine v_aload_n dX5_fits_35 rfl ?_
  refine v_bipush dX5_fits_36 (by decide) (in_lit (by decide)) ?_
  refine v_iload_n dX5_fits_38 rfl ?_
  refine v_callV (d' := 2) (rest := []) [vI 6, vI known] dX5_fits_39 vrX5_401_5 (L_313 hL).1 rfl rfl (one_I (one_I one_nil)) (Nat.le_of_ble_eq_true rfl) (Nat.le_of_ble_eq_true rfl) (Nat.le_of_ble_eq_true rfl) ?_
  obtain ⟨o2, K⟩ := K
  obtain ⟨o3, K⟩ := K
  obtain ⟨o4, K⟩ := K
  refine s_spellsI hL (6 : Int) known o2 o3 o4 (fun J2 hp => ?_)
  have K := K J2 hp
  show V w 5 mX5_fits 42 [some (vR 313), some (vI known), none, none] [] S J2 Q
  refine v_iconst dX5_fits_42 (in_lit (by decide)) ?_
  refine v_istore_n dX5_fits_43 (Nat.le_of_ble_eq_true rfl) ?_
  show V w 5 mX5_fits 44 [some (vR 313), some (vI known), some (vI 0), none] [] S J2 Q
  exact K
theorem gX5_fits_70 {w : Wd} {S : Sh} {J : Jm} {Q : Out → Sh → Jm → Prop} (hL : Lay S) 
    (K : V w 5 mX5_fits 74 [some (vR 313), none, some (vI 0), some (vI 0)] [] S J Q) :
    V w 5 mX5_fits 70 [some (vR 313), none, none, none] [] S J Q := by
  refine v_iconst dX5_fits_70 (in_lit (by decide)) ?_
  refine v_istore_n dX5_fits_71 (Nat.le_of_ble_eq_true rfl) ?_
  show V w 5 mX5_fits 72 [some (vR 313), none, some (vI 0), none] [] S J Q
  refine v_iconst dX5_fits_72 (in_lit (by decide)) ?_
  refine v_istore_n dX5_fits_73 (Nat.le_of_ble_eq_true rfl) ?_
  show V w 5 mX5_fits 74 [some (vR 313), none, some (vI 0), some (vI 0)] [] S J Q
  exact K
theorem gX5_meets_179c3 {w : Wd} {S : Sh} {J : Jm} {Q : Out → Sh → Jm → Prop} (hL : Lay S) 
    (K : Q (.inl (some (vI 1))) S J) :
    V w 3 mX5_meets 179 [none, some (vI 3), none, none, none] [] S J Q := by
  refine v_iload_n dX5_meets_179 rfl ?_
  refine v_iconst dX5_meets_180 (in_lit (by decide)) ?_
  refine v_icmp_eq 188 dX5_meets_181 (by decide) (fun cQ => absurd cQ (by decide)) (fun _ => ?_)
  refine v_iconst dX5_meets_184 (in_lit (by decide)) ?_
  refine v_goto 189 dX5_meets_185 (by decide) ?_
  exact v_iret dX5_meets_189 rfl (by decide) K

/-- the new name's cells might be in row r behind a way -/
def fiB (E : WE) (cs : List Int) (r : Nat) (x : Way) : Bool := !(decide (r ∈ x.1)) && (putR E.ag E.st (E.pl r) (E.sz r) cs x.2).isSome
/-- a row of a tablet that counts -/
def rwB (J : Jm) (known : Int) (r : Nat) : Bool := decide ((r : Int) < 8 * J 313 2) && (decide (((r % 8 : Nat) : Int) < J 316 (r / 8)) && tabB J known (r / 8))
def mfF (J J' : Jm) : Prop := ∀ b k, ¬ (b = 362 ∨ (b = 358 ∧ 280 ≤ k)) → J' b k = J b k
theorem mfF.gt {J J' : Jm} (h : mfF J J') : gtF J J' := fun b k q => h b k (fun e => q (by unfold gtS; omega))
theorem s_marksFits {w : Wd} {S : Sh} {J : Jm} {Q : Out → Sh → Jm → Prop} (hL : Lay S) (known : Int) (E : WE) (N : Nat) (x : Way) (cs : List Int) (hE : EnvAt J E N) (hN6 : N ≤ 6) (hC : ChAt J E x.1) (hl : x.1.length = N) (hg : GvAt J N x.2) (hCs : CsAt J 6 cs) (hT : MTab J) (hRw : ∀ t u : Nat, (t : Int) < J 313 2 → (u : Int) < J 316 t → RwAt J (8 * t + u) (E.pl (8 * t + u)) (E.sz (8 * t + u)))
    (K : ∀ J', mfF J J' → (∀ r, r < 192 → J' 362 r = if ¬ J 362 r = 0 ∨ (rwB J known r = true ∧ fiB E cs r x = true) then (if ¬ J 362 r = 0 then J 362 r else 1) else 0) → Q (.inl none) S J') : V w 2 mX5_marksFits 0 (ent mX5_marksFits [vR 313, vI known]) [] S J Q := by
  have hT1 := hT.1
  obtain ⟨D, eD⟩ : ∃ D : Nat, J 313 2 = D := ⟨(J 313 2).toNat, by omega⟩
  obtain ⟨e1, e2, e3, e4⟩ := id hE
  refine gX5_marksFits_0 hL known ?_
  let G : Nat → Int := fun r => if ¬ J 362 r = 0 ∨ (rwB J known r = true ∧ fiB E cs r x = true) then (if ¬ J 362 r = 0 then J 362 r else 1) else 0
  have loop : ∀ (m r : Nat) (J1 : Jm), r + m = 8 * D → mfF J J1 → (∀ q, q < 192 → J1 362 q = if q < r then G q else J 362 q) → V w 2 mX5_marksFits 2 [some (vR 313), some (vI known), some (vI (r : Int)), none, none, none] [] S J1 Q := by
    intro m
    induction m with
    | zero =>
      intro r J1 hr f1 g1
      have et : J1 313 2 = (D : Int) := by rw [f1 _ _ (by omega)]; exact eD
      refine gX5_marksFits_2 (J := J1) hL known r ⟨by omega, br_y (by omega) (K J1 f1 (fun q hq => ?_))⟩
      rw [g1 q hq]
      by_cases hqr : q < r
      · rw [if_pos hqr]
      · rw [if_neg hqr]
        have hb : rwB J known q = false := by
          unfold rwB
          rw [decide_eq_false (by omega)]
          rfl
        by_cases hz : J 362 q = 0
        · rw [if_neg (fun z => by rcases z with z | z; exact z hz; rw [hb] at z; cases z.1), hz]
        · rw [if_pos (Or.inl hz), if_pos hz]
    | succ m ih =>
      intro r J1 hr f1 g1
      have et : J1 313 2 = (D : Int) := by rw [f1 _ _ (by omega)]; exact eD
      have htd := hT.2 (r / 8) (by omega)
      have er : J1 316 (r / 8) = J 316 (r / 8) := f1 _ _ (by omega)
      have ec1 : J1 314 (r / 8) = J 314 (r / 8) := f1 _ _ (by omega)
      have ec2 : J1 315 (r / 8) = J 315 (r / 8) := f1 _ _ (by omega)
      have ef : J1 362 r = J 362 r := by rw [g1 r (by omega), if_neg (Nat.lt_irrefl _)]
      -- the row is left as it is
      have skip : ∀ J2, mfF J J2 → (∀ q, q < 192 → J2 362 q = J1 362 q) → G r = J 362 r → V w 2 mX5_marksFits 2 [some (vR 313), some (vI known), some (vI ((r + 1 : Nat) : Int)), none, none, none] [] S J2 Q := by
        intro J2 f2 h2 hG
        refine ih (r + 1) J2 (by omega) f2 (fun q hq => ?_)
        rw [h2 q hq, g1 q hq]
        by_cases hqr : q < r
        · rw [if_pos hqr, if_pos (by omega)]
        · rw [if_neg hqr]
          by_cases e : q = r
          · subst e
            rw [if_pos (by omega), hG]
          · rw [if_neg (by omega)]
      have put : ∀ (J2 : Jm) (z : Int), mfF J J2 → (∀ q, q < 192 → J2 362 q = J1 362 q) → G r = z → V w 2 mX5_marksFits 2 [some (vR 313), some (vI known), some (vI ((r + 1 : Nat) : Int)), none, none, none] [] S (up J2 362 r z) Q := by
        intro J2 z f2 h2 hG
        refine ih (r + 1) _ (by omega) (fun b k q => by rw [up_na (by omega)]; exact f2 b k q) (fun q hq => ?_)
        by_cases e : q = r
        · subst e
          rw [up_self, if_pos (by omega), hG]
        · rw [up_nk e, h2 q hq, g1 q hq]
          by_cases hqr : q < r
          · rw [if_pos hqr, if_pos (by omega)]
          · rw [if_neg hqr, if_neg (by omega)]
      refine gX5_marksFits_2 (J := J1) hL known r ⟨by omega, br_n (by omega) ⟨by omega, ?_⟩⟩
      rw [ef, er, Int.toNat_natCast, ec1, ec2]
      refine br_i (fun h0 => ⟨by omega, br_i (fun h1 => ⟨by omega, skip J1 f1 (fun _ _ => rfl) ?_⟩) (fun h1 => ⟨by omega, br_i (fun h2 => ?_) (fun h2 => ⟨by omega, skip J1 f1 (fun _ _ => rfl) ?_⟩)⟩)⟩) (fun h0 => ⟨by omega, skip J1 f1 (fun _ _ => rfl) ?_⟩)
      · show (if ¬ J 362 r = 0 ∨ (rwB J known r = true ∧ fiB E cs r x = true) then (if ¬ J 362 r = 0 then J 362 r else 1) else 0) = _
        rw [if_neg (fun z => ?_), h0]
        rcases z with z | z
        · exact z h0
        · have z1 := z.1
          unfold rwB at z1
          rw [decide_eq_false (show ¬ ((r % 8 : Nat) : Int) < J 316 (r / 8) by omega)] at z1
          simp at z1
      · -- the row is asked
        have hrb : rwB J known r = true := by
          unfold rwB tabB
          rw [decide_eq_true (show (r : Int) < 8 * J 313 2 by omega), decide_eq_true (show ((r % 8 : Nat) : Int) < J 316 (r / 8) by omega), decide_eq_true h2]
          rfl
        have hGr : G r = if fiB E cs r x = true then 1 else 0 := by
          show (if ¬ J 362 r = 0 ∨ (rwB J known r = true ∧ fiB E cs r x = true) then (if ¬ J 362 r = 0 then J 362 r else 1) else 0) = _
          by_cases hf : fiB E cs r x = true
          · rw [if_pos (Or.inr ⟨hrb, hf⟩), if_neg (fun z => z h0), if_pos hf]
          · rw [if_neg (fun z => by rcases z with z | z; exact z h0; exact hf z.2), if_neg hf]
        have hE1 := hE.gt f1.gt
        obtain ⟨a1, a2, a3, a4⟩ := id hE1
        have hC1 : ChAt J1 E x.1 := hC.cong (fun i hi => f1 _ _ (by omega))
        have hl7 : x.1.length ≤ 6 := by omega
        have own : ∀ (v k : Nat) (o : Int), k + v = N → ((o = 0 ∧ ∀ k', k' < k → x.1.getD k' 0 ≠ r) ∨ (o = 1 ∧ r ∈ x.1)) → V w 2 mX5_marksFits 58 [some (vR 313), some (vI known), some (vI (r : Int)), some (vI ((r / 8 : Nat) : Int)), some (vI o), some (vI (k : Int))] [] S J1 Q := by
          intro v
          induction v with
          | zero =>
            intro k o hk ho
            refine gX5_marksFits_58 (J := J1) hL known r ((r / 8 : Nat) : Int) o k (br_y (by omega) (br_i (fun q => ?_) (fun q => ⟨by omega, skip J1 f1 (fun _ _ => rfl) ?_⟩)))
            · have hno : ¬ r ∈ x.1 := by
                rcases ho with ⟨-, ho⟩ | ⟨ho, -⟩
                · intro z
                  obtain ⟨i, hi, ei⟩ := List.mem_iff_getElem.mp z
                  refine ho i (by omega) ?_
                  rw [List.getD_eq_getElem?_getD, List.getElem?_eq_getElem hi]
                  exact ei
                · omega
              show V w 2 mX5_marksFits 126 [some (vR 313), some (vI known), some (vI (r : Int)), none, none, some (vI ((0 : Nat) : Int))] [] S J1 Q
              refine up_loop (P := fun s J2 => (∀ b j, ¬ (b = 358 ∧ 280 ≤ j) → J2 b j = J1 b j) ∧ ∀ y, y < s → J2 358 (280 + y) = x.2 y) 40 (fun s J2 => V w 2 mX5_marksFits 126 [some (vR 313), some (vI known), some (vI (r : Int)), none, none, some (vI (s : Int))] [] S J2 Q) ?_ ?_ 0 J1 (by omega) ⟨fun _ _ _ => rfl, fun y hy => absurd hy (Nat.not_lt_zero _)⟩
              · intro s J2 hs ⟨f2, g2⟩ ih2
                have et2 : J2 313 64 = (N : Int) := by rw [f2 _ _ (by omega)]; exact a1
                have eg : J2 358 (40 * N + s) = x.2 s := by rw [f2 _ _ (by omega), f1 _ _ (by omega)]; exact (hg s hs).1
                refine gX5_marksFits_126 (J := J2) hL known r s (br_n (by omega) ?_)
                rw [et2, show (40 * (N : Int) + (s : Int)).toNat = 40 * N + s by omega, eg]
                (repeat' (first | ((with_reducible refine And.intro ?_ ?_); omega)))
                refine ih2 _ ⟨fun b j q => by rw [up_ne (fun e => q ⟨e.1, by omega⟩)]; exact f2 b j q, fun y hy => ?_⟩
                by_cases e : y = s
                · rw [e, up_self]
                · rw [up_nk (by omega)]; exact g2 y (by omega)
              · intro J2 ⟨f2, g2⟩
                have f12 : mfF J J2 := fun b j q => (f2 b j (fun e => q (Or.inr e))).trans (f1 b j q)
                have hE2 := hE.gt f12.gt
                have hrw2 : RwAt J2 r (E.pl r) (E.sz r) := by
                  have h9 := hRw (r / 8) (r % 8) (by omega) (by omega)
                  rw [show 8 * (r / 8) + r % 8 = r by omega] at h9
                  unfold RwAt at h9 ⊢
                  rw [f12 317 _ (by omega)]
                  refine ⟨h9.1, h9.2.1, fun i hi => ?_⟩
                  rw [f12 318 _ (by omega)]
                  exact h9.2.2 i hi
                have hcs2 : CsAt J2 6 cs := by
                  unfold CsAt at hCs ⊢
                  rw [f12 354 _ (by omega)]
                  refine ⟨hCs.1, hCs.2.1, fun i hi => ?_⟩
                  rw [f12 353 _ (by omega)]
                  exact hCs.2.2 i hi
                refine gX5_marksFits_126 (J := J2) hL known r 40 (br_y (by omega) ?_)
                have done : ∀ (J3 : Jm) (z : Int), gvF J2 J3 7 → (z = 0 ∨ z = 1) → (z = if fiB E cs r x = true then 1 else 0) → CallQ w 2 mX5_marksFits 176 [some (vR 313), some (vI known), some (vI (r : Int)), none, none, some (vI ((40 : Nat) : Int))] [vI (r : Int), vR 362] Q (.inl (some (vI z))) S J3 := by
                  intro J3 z f3 hz01 hz
                  have f13 : mfF J J3 := fun b j q => (f3 b j (fun e => q (Or.inr ⟨e.1, by omega⟩))).trans (f12 b j q)
                  refine v_forget (fg_some (fg_some (fg_some (fg_none (fg_none (fg_none fg_nil)))))) (gX5_marksFits_179 (J := J3) hL known r z ⟨by omega, hz01, by omega, put J3 z f13 (fun q hq => ?_) (hGr.trans hz.symm)⟩)
                  rw [f3 _ _ (by omega), f2 _ _ (by omega)]
                refine s_agrees hL 7 r 6 (E.pl r) (E.sz r) cs E.st E.ag x.2 (by omega) (by omega) (by omega) hrw2 hcs2 hE2.2.2.2 (fun y hy => ⟨g2 y hy, (hg y hy).2⟩) (fun hn J3 f3 => ?_) (fun g' hn J3 f3 _ => ?_)
                · refine done J3 0 f3 (Or.inl rfl) ?_
                  unfold fiB
                  rw [hn]
                  simp
                · refine done J3 1 f3 (Or.inr rfl) ?_
                  unfold fiB
                  rw [hn, decide_eq_false hno]
                  rfl
            · have ho' : r ∈ x.1 := by
                rcases ho with ⟨ho, -⟩ | ⟨-, ho⟩
                · exact absurd ho q
                · exact ho
              rw [hGr, if_neg (fun z => by unfold fiB at z; rw [decide_eq_true ho'] at z; cases z), h0]
          | succ v ihv =>
            intro k o hk ho
            obtain ⟨⟨b1, b1'⟩, ⟨b2, b2'⟩, -⟩ := a3 k (by omega)
            obtain ⟨u, u1, u2, u3⟩ := hC1 k (by omega)
            refine gX5_marksFits_58 (J := J1) hL known r ((r / 8 : Nat) : Int) o k (br_n (by omega) (br_i (fun q => ?_) (fun q => ⟨by omega, ?_⟩)))
            · have hno : ∀ k', k' < k → x.1.getD k' 0 ≠ r := by
                rcases ho with ⟨-, ho⟩ | ⟨ho, -⟩
                · exact ho
                · omega
              rw [b1, Int.toNat_natCast, b2, u2]
              have step0 : x.1.getD k 0 ≠ r → V w 2 mX5_marksFits 58 [some (vR 313), some (vI known), some (vI (r : Int)), some (vI ((r / 8 : Nat) : Int)), some (vI 0), some (vI ((k + 1 : Nat) : Int))] [] S J1 Q := by
                intro hne
                refine ihv (k + 1) 0 (by omega) (Or.inl ⟨rfl, fun k' hk' => ?_⟩)
                by_cases e : k' = k
                · rw [e]; exact hne
                · exact hno k' (by omega)
              (repeat' (first | ((with_reducible refine And.intro ?_ ?_); omega)))
              refine br_i (fun q1 => br_i (fun q2 => ⟨by omega, ?_⟩) (fun q2 => ⟨by omega, step0 (by omega)⟩)) (fun q1 => ⟨by omega, step0 (by omega)⟩)
              refine ihv (k + 1) 1 (by omega) (Or.inr ⟨rfl, ?_⟩)
              have e9 : x.1.getD k 0 = r := by omega
              rw [List.getD_eq_getElem?_getD, List.getElem?_eq_getElem (show k < x.1.length by omega)] at e9
              rw [← e9]
              exact List.getElem_mem _
            · have h9 : o = 1 ∧ r ∈ x.1 := by
                rcases ho with ⟨ho, -⟩ | ho
                · exact absurd ho q
                · exact ho
              exact ihv (k + 1) 1 (by omega) (Or.inr ⟨rfl, h9.2⟩)
        exact own N 0 0 (by omega) (Or.inl ⟨rfl, fun k' hk' => absurd hk' (Nat.not_lt_zero _)⟩)
      · show (if ¬ J 362 r = 0 ∨ (rwB J known r = true ∧ fiB E cs r x = true) then (if ¬ J 362 r = 0 then J 362 r else 1) else 0) = _
        rw [if_neg (fun z => ?_), h0]
        rcases z with z | z
        · exact z h0
        · have z1 := z.1
          unfold rwB tabB at z1
          rw [decide_eq_false h2] at z1
          simp at z1
      · show (if ¬ J 362 r = 0 ∨ (rwB J known r = true ∧ fiB E cs r x = true) then (if ¬ J 362 r = 0 then J 362 r else 1) else 0) = _
        rw [if_pos (Or.inl h0), if_pos h0]
  exact loop (8 * D) 0 J (by omega) (fun _ _ _ => rfl) (fun q hq => by rw [if_neg (Nat.not_lt_zero _)])
