/-! GridRoom: how signs stand -/
set_option maxRecDepth 100000
theorem gX3_isHeldLater_0 {w : Wd} {S : Sh} {J : Jm} {Q : Out → Sh → Jm → Prop} (hL : Lay S) (h : Nat)
    (K : (-2147483648 ≤ ((h : Nat) : Int) + 1 ∧ ((h : Nat) : Int) + 1 ≤ 2147483647) ∧ V w 0 mX3_isHeldLater 4 [some (vR 84), some (vI ((h : Nat) : Int)), some (vI ((h + 1 : Nat) : Int))] [] S J Q) :
    V w 0 mX3_isHeldLater 0 (ent mX3_isHeldLater [vR 84, vI ((h : Nat) : Int)]) [] S J Q := by
  show V w 0 mX3_isHeldLater 0 [some (vR 84), some (vI ((h : Nat) : Int)), none] [] S J Q
  refine v_iload_n dX3_isHeldLater_0 rfl ?_
  refine v_iconst dX3_isHeldLater_1 (in_lit (by decide)) ?_
  obtain ⟨o1, K⟩ := K
  refine v_iadd dX3_isHeldLater_2 o1 ?_
  show V w 0 mX3_isHeldLater 3 [some (vR 84), some (vI ((h : Nat) : Int)), none] [vI ((h + 1 : Nat) : Int)] S J Q
  refine v_istore_n dX3_isHeldLater_3 (Nat.le_of_ble_eq_true rfl) ?_
  show V w 0 mX3_isHeldLater 4 [some (vR 84), some (vI ((h : Nat) : Int)), some (vI ((h + 1 : Nat) : Int))] [] S J Q
  exact K
theorem gX3_isHeldLater_4 {w : Wd} {S : Sh} {J : Jm} {Q : Out → Sh → Jm → Prop} (hL : Lay S) (h : Nat) (k : Nat)
    (K : Br (J 64 12 ≤ ((k : Nat) : Int)) (Q (.inl (some (vI 0))) S J) ((((k : Nat) : Int) < 200) ∧ Br (J 84 5 < J 81 k) ((-2147483648 ≤ ((k : Nat) : Int) + 1 ∧ ((k : Nat) : Int) + 1 ≤ 2147483647) ∧ V w 0 mX3_isHeldLater 4 [some (vR 84), some (vI ((h : Nat) : Int)), some (vI ((k + 1 : Nat) : Int))] [] S J Q) ((((h : Nat) : Int) < 200) ∧ Br (J 77 k = J 77 h) (Br (J 78 k = J 78 h) (Br (J 79 k = J 79 h) (Q (.inl (some (vI 1))) S J) ((-2147483648 ≤ ((k : Nat) : Int) + 1 ∧ ((k : Nat) : Int) + 1 ≤ 2147483647) ∧ V w 0 mX3_isHeldLater 4 [some (vR 84), some (vI ((h : Nat) : Int)), some (vI ((k + 1 : Nat) : Int))] [] S J Q)) ((-2147483648 ≤ ((k : Nat) : Int) + 1 ∧ ((k : Nat) : Int) + 1 ≤ 2147483647) ∧ V w 0 mX3_isHeldLater 4 [some (vR 84), some (vI ((h : Nat) : Int)), some (vI ((k + 1 : Nat) : Int))] [] S J Q)) ((-2147483648 ≤ ((k : Nat) : Int) + 1 ∧ ((k : Nat) : Int) + 1 ≤ 2147483647) ∧ V w 0 mX3_isHeldLater 4 [some (vR 84), some (vI ((h : Nat) : Int)), some (vI ((k + 1 : Nat) : Int))] [] S J Q)))) :
    V w 0 mX3_isHeldLater 4 [some (vR 84), some (vI ((h : Nat) : Int)), some (vI ((k : Nat) : Int))] [] S J Q := by
  refine v_iload_n dX3_isHeldLater_4 rfl ?_
  refine v_aload_n dX3_isHeldLater_5 rfl ?_
  refine v_getR dX3_isHeldLater_6 frX3_3_3 rfl (L_84 hL).1 (LR_84_22 hL) (Or.inl rfl) ?_
  refine v_getI dX3_isHeldLater_9 frX3_109_1 rfl rfl (L_64 hL).1 ?_
  obtain ⟨K1, K2⟩ := K
  refine v_icmp_ge 102 dX3_isHeldLater_12 (by decide) (fun c1 => ?_) (fun c1 => ?_)
  · have K := K1 c1
    refine v_iconst dX3_isHeldLater_102 (in_lit (by decide)) ?_
    exact v_iret dX3_isHeldLater_103 rfl (by decide) K
  · have K := K2 c1
    refine v_aload_n dX3_isHeldLater_15 rfl ?_
    refine v_getR dX3_isHeldLater_16 frX3_3_3 rfl (L_84 hL).1 (LR_84_22 hL) (Or.inl rfl) ?_
    refine v_getR dX3_isHeldLater_19 frX3_112_1 rfl (L_64 hL).1 (LR_64_11 hL) (Or.inl rfl) ?_
    refine v_iload_n dX3_isHeldLater_22 rfl ?_
    obtain ⟨o1, K⟩ := K
    refine ld_81 dX3_isHeldLater_23 hL (by omega) o1 ?_
    show V w 0 mX3_isHeldLater 24 [some (vR 84), some (vI ((h : Nat) : Int)), some (vI ((k : Nat) : Int))] [vI (J 81 k)] S J Q
    refine v_aload_n dX3_isHeldLater_24 rfl ?_
    refine v_getI dX3_isHeldLater_25 frX3_58_3 rfl rfl (L_84 hL).1 ?_
    obtain ⟨K1, K2⟩ := K
    refine v_icmp_gt 96 dX3_isHeldLater_28 (by decide) (fun c2 => ?_) (fun c2 => ?_)
    · have K := K1 c2
      obtain ⟨o2, K⟩ := K
      refine v_iinc dX3_isHeldLater_96 rfl o2 ?_
      show V w 0 mX3_isHeldLater 99 [some (vR 84), some (vI ((h : Nat) : Int)), some (vI ((k + 1 : Nat) : Int))] [] S J Q
      refine v_goto 4 dX3_isHeldLater_99 (by decide) ?_
      exact K
    · have K := K2 c2
      refine v_aload_n dX3_isHeldLater_31 rfl ?_
      refine v_getR dX3_isHeldLater_32 frX3_3_3 rfl (L_84 hL).1 (LR_84_22 hL) (Or.inl rfl) ?_
      refine v_getR dX3_isHeldLater_35 frX3_130_1 rfl (L_64 hL).1 (LR_64_7 hL) (Or.inl rfl) ?_
      refine v_iload_n dX3_isHeldLater_38 rfl ?_
      refine ld_77 dX3_isHeldLater_39 hL (by omega) o1 ?_
      show V w 0 mX3_isHeldLater 40 [some (vR 84), some (vI ((h : Nat) : Int)), some (vI ((k : Nat) : Int))] [vI (J 77 k)] S J Q
      refine v_aload_n dX3_isHeldLater_40 rfl ?_
      refine v_getR dX3_isHeldLater_41 frX3_3_3 rfl (L_84 hL).1 (LR_84_22 hL) (Or.inl rfl) ?_
      refine v_getR dX3_isHeldLater_44 frX3_130_1 rfl (L_64 hL).1 (LR_64_7 hL) (Or.inl rfl) ?_
      refine v_iload_n dX3_isHeldLater_47 rfl ?_
      obtain ⟨o3, K⟩ := K
      refine ld_77 dX3_isHeldLater_48 hL (by omega) o3 ?_
      show V w 0 mX3_isHeldLater 49 [some (vR 84), some (vI ((h : Nat) : Int)), some (vI ((k : Nat) : Int))] [vI (J 77 h), vI (J 77 k)] S J Q
      obtain ⟨K1, K2⟩ := K
      refine v_icmp_ne 96 dX3_isHeldLater_49 (by decide) (fun c3 => ?_) (fun c3 => ?_)
      · have K := K2 c3
        obtain ⟨o4, K⟩ := K
        refine v_iinc dX3_isHeldLater_96 rfl o4 ?_
        show V w 0 mX3_isHeldLater 99 [some (vR 84), some (vI ((h : Nat) : Int)), some (vI ((k + 1 : Nat) : Int))] [] S J Q
        refine v_goto 4 dX3_isHeldLater_99 (by decide) ?_
        exact K
      · have K := K1 c3
        refine v_aload_n dX3_isHeldLater_52 rfl ?_
        refine v_getR dX3_isHeldLater_53 frX3_3_3 rfl (L_84 hL).1 (LR_84_22 hL) (Or.inl rfl) ?_
        refine v_getR dX3_isHeldLater_56 frX3_118_1 rfl (L_64 hL).1 (LR_64_8 hL) (Or.inl rfl) ?_
        refine v_iload_n dX3_isHeldLater_59 rfl ?_
        refine ld_78 dX3_isHeldLater_60 hL (by omega) o1 ?_
        show V w 0 mX3_isHeldLater 61 [some (vR 84), some (vI ((h : Nat) : Int)), some (vI ((k : Nat) : Int))] [vI (J 78 k)] S J Q
        refine v_aload_n dX3_isHeldLater_61 rfl ?_
        refine v_getR dX3_isHeldLater_62 frX3_3_3 rfl (L_84 hL).1 (LR_84_22 hL) (Or.inl rfl) ?_
        refine v_getR dX3_isHeldLater_65 frX3_118_1 rfl (L_64 hL).1 (LR_64_8 hL) (Or.inl rfl) ?_
        refine v_iload_n dX3_isHeldLater_68 rfl ?_
        refine ld_78 dX3_isHeldLater_69 hL (by omega) o3 ?_
        show V w 0 mX3_isHeldLater 70 [some (vR 84), some (vI ((h : Nat) : Int)), some (vI ((k : Nat) : Int))] [vI (J 78 h), vI (J 78 k)] S J Q
        obtain ⟨K1, K2⟩ := K
        refine v_icmp_ne 96 dX3_isHeldLater_70 (by decide) (fun c4 => ?_) (fun c4 => ?_)
        · have K := K2 c4
          obtain ⟨o5, K⟩ := K
          refine v_iinc dX3_isHeldLater_96 rfl o5 ?_
          show V w 0 mX3_isHeldLater 99 [some (vR 84), some (vI ((h : Nat) : Int)), some (vI ((k + 1 : Nat) : Int))] [] S J Q
          refine v_goto 4 dX3_isHeldLater_99 (by decide) ?_
          exact K
        · have K := K1 c4
          refine v_aload_n dX3_isHeldLater_73 rfl ?_
          refine v_getR dX3_isHeldLater_74 frX3_3_3 rfl (L_84 hL).1 (LR_84_22 hL) (Or.inl rfl) ?_
          refine v_getR dX3_isHeldLater_77 frX3_121_1 rfl (L_64 hL).1 (LR_64_9 hL) (Or.inl rfl) ?_
          refine v_iload_n dX3_isHeldLater_80 rfl ?_
          refine ld_79 dX3_isHeldLater_81 hL (by omega) o1 ?_
          show V w 0 mX3_isHeldLater 82 [some (vR 84), some (vI ((h : Nat) : Int)), some (vI ((k : Nat) : Int))] [vI (J 79 k)] S J Q
          refine v_aload_n dX3_isHeldLater_82 rfl ?_
          refine v_getR dX3_isHeldLater_83 frX3_3_3 rfl (L_84 hL).1 (LR_84_22 hL) (Or.inl rfl) ?_
          refine v_getR dX3_isHeldLater_86 frX3_121_1 rfl (L_64 hL).1 (LR_64_9 hL) (Or.inl rfl) ?_
          refine v_iload_n dX3_isHeldLater_89 rfl ?_
          refine ld_79 dX3_isHeldLater_90 hL (by omega) o3 ?_
          show V w 0 mX3_isHeldLater 91 [some (vR 84), some (vI ((h : Nat) : Int)), some (vI ((k : Nat) : Int))] [vI (J 79 h), vI (J 79 k)] S J Q
          obtain ⟨K1, K2⟩ := K
          refine v_icmp_ne 96 dX3_isHeldLater_91 (by decide) (fun c5 => ?_) (fun c5 => ?_)
          · have K := K2 c5
            obtain ⟨o6, K⟩ := K
            refine v_iinc dX3_isHeldLater_96 rfl o6 ?_
            show V w 0 mX3_isHeldLater 99 [some (vR 84), some (vI ((h : Nat) : Int)), some (vI ((k + 1 : Nat) : Int))] [] S J Q
            refine v_goto 4 dX3_isHeldLater_99 (by decide) ?_
            exact K
          · have K := K1 c5
            refine v_iconst dX3_isHeldLater_94 (in_lit (by decide)) ?_
            exact v_iret dX3_isHeldLater_95 rfl (by decide) K
theorem gX3_joins_0_85 {w : Wd} {S : Sh} {J : Jm} {Q : Out → Sh → Jm → Prop} (hL : Lay S) (a : Nat) (b : Nat)
    (K : (((a : Nat) : Int) < 40) ∧ (((b : Nat) : Int) < 40) ∧ V w 1 mX3_joins 25 [none, some (vR 85), none, none, some (vI (zmin (J 85 a) (J 85 b))), some (vI (zmax (J 85 a) (J 85 b))), some (vI 0)] [] S J Q) :
    V w 1 mX3_joins 0 (ent mX3_joins [vR 84, vR 85, vI ((a : Nat) : Int), vI ((b : Nat) : Int)]) [] S J Q := by
  show V w 1 mX3_joins 0 [some (vR 84), some (vR 85), some (vI ((a : Nat) : Int)), some (vI ((b : Nat) : Int)), none, none, none] [] S J Q
  refine v_aload_n dX3_joins_0 rfl ?_
  refine v_iload_n dX3_joins_1 rfl ?_
  obtain ⟨o1, K⟩ := K
  refine ld_85 dX3_joins_2 hL (by omega) o1 ?_
  show V w 1 mX3_joins 3 [some (vR 84), some (vR 85), some (vI ((a : Nat) : Int)), some (vI ((b : Nat) : Int)), none, none, none] [vI (J 85 a)] S J Q
  refine v_aload_n dX3_joins_3 rfl ?_
  refine v_iload_n dX3_joins_4 rfl ?_
  obtain ⟨o2, K⟩ := K
  refine ld_85 dX3_joins_5 hL (by omega) o2 ?_
  show V w 1 mX3_joins 6 [some (vR 84), some (vR 85), some (vI ((a : Nat) : Int)), some (vI ((b : Nat) : Int)), none, none, none] [vI (J 85 b), vI (J 85 a)] S J Q
  refine v_callS (d' := 0) (rest := []) [vI (J 85 a), vI (J 85 b)] dX3_joins_6 srX3_137 rfl (one_I (one_I one_nil)) (Nat.le_of_ble_eq_true rfl) (Nat.le_of_ble_eq_true rfl) (Nat.le_of_ble_eq_true rfl) ?_
  refine s_min hL (J 85 a) (J 85 b)  ?_
  show V w 1 mX3_joins 9 [some (vR 84), some (vR 85), some (vI ((a : Nat) : Int)), some (vI ((b : Nat) : Int)), none, none, none] [vI (zmin (J 85 a) (J 85 b))] S J Q
  refine v_istore dX3_joins_9 (Nat.le_of_ble_eq_true rfl) ?_
  show V w 1 mX3_joins 11 [some (vR 84), some (vR 85), some (vI ((a : Nat) : Int)), some (vI ((b : Nat) : Int)), some (vI (zmin (J 85 a) (J 85 b))), none, none] [] S J Q
  refine v_aload_n dX3_joins_11 rfl ?_
  refine v_iload_n dX3_joins_12 rfl ?_
  refine ld_85 dX3_joins_13 hL (by omega) o1 ?_
  show V w 1 mX3_joins 14 [some (vR 84), some (vR 85), some (vI ((a : Nat) : Int)), some (vI ((b : Nat) : Int)), some (vI (zmin (J 85 a) (J 85 b))), none, none] [vI (J 85 a)] S J Q
  refine v_aload_n dX3_joins_14 rfl ?_
  refine v_iload_n dX3_joins_15 rfl ?_
  refine ld_85 dX3_joins_16 hL (by omega) o2 ?_
  show V w 1 mX3_joins 17 [some (vR 84), some (vR 85), some (vI ((a : Nat) : Int)), some (vI ((b : Nat) : Int)), some (vI (zmin (J 85 a) (J 85 b))), none, none] [vI (J 85 b), vI (J 85 a)] S J Q
  refine v_callS (d' := 0) (rest := []) [vI (J 85 a), vI (J 85 b)] dX3_joins_17 srX3_143 rfl (one_I (one_I one_nil)) (Nat.le_of_ble_eq_true rfl) (Nat.le_of_ble_eq_true rfl) (Nat.le_of_ble_eq_true rfl) ?_
  refine s_max hL (J 85 a) (J 85 b)  ?_
  show V w 1 mX3_joins 20 [some (vR 84), some (vR 85), some (vI ((a : Nat) : Int)), some (vI ((b : Nat) : Int)), some (vI (zmin (J 85 a) (J 85 b))), none, none] [vI (zmax (J 85 a) (J 85 b))] S J Q
  refine v_istore dX3_joins_20 (Nat.le_of_ble_eq_true rfl) ?_
  show V w 1 mX3_joins 22 [some (vR 84), some (vR 85), some (vI ((a : Nat) : Int)), some (vI ((b : Nat) : Int)), some (vI (zmin (J 85 a) (J 85 b))), some (vI (zmax (J 85 a) (J 85 b))), none] [] S J Q
  refine v_iconst dX3_joins_22 (in_lit (by decide)) ?_
  refine v_istore dX3_joins_23 (Nat.le_of_ble_eq_true rfl) ?_
  show V w 1 mX3_joins 25 [some (vR 84), some (vR 85), some (vI ((a : Nat) : Int)), some (vI ((b : Nat) : Int)), some (vI (zmin (J 85 a) (J 85 b))), some (vI (zmax (J 85 a) (J 85 b))), some (vI 0)] [] S J Q
  exact v_forget (fg_none (fg_some (fg_none (fg_none (fg_some (fg_some (fg_some fg_nil))))))) K
theorem gX3_joins_25_85 {w : Wd} {S : Sh} {J : Jm} {Q : Out → Sh → Jm → Prop} (hL : Lay S) (low : Int) (high : Int) (s : Nat)
    (K : Br (40 ≤ ((s : Nat) : Int)) (Q (.inl none) S J) ((((s : Nat) : Int) < 40) ∧ Br (J 85 s = high) ((-2147483648 ≤ ((s : Nat) : Int) + 1 ∧ ((s : Nat) : Int) + 1 ≤ 2147483647) ∧ V w 1 mX3_joins 25 [none, some (vR 85), none, none, some (vI low), some (vI high), some (vI ((s + 1 : Nat) : Int))] [] S (up J 85 s low) Q) ((-2147483648 ≤ ((s : Nat) : Int) + 1 ∧ ((s : Nat) : Int) + 1 ≤ 2147483647) ∧ V w 1 mX3_joins 25 [none, some (vR 85), none, none, some (vI low), some (vI high), some (vI ((s + 1 : Nat) : Int))] [] S J Q))) :
    V w 1 mX3_joins 25 [none, some (vR 85), none, none, some (vI low), some (vI high), some (vI ((s : Nat) : Int))] [] S J Q := by
  refine v_iload dX3_joins_25 rfl ?_
  refine v_bipush dX3_joins_27 (by decide) (in_lit (by decide)) ?_
  obtain ⟨K1, K2⟩ := K
  refine v_icmp_ge 53 dX3_joins_29 (by decide) (fun c1 => ?_) (fun c1 => ?_)
  · have K := K1 c1
    exact v_vret dX3_joins_53 rfl K
  · have K := K2 c1
    refine v_aload_n dX3_joins_32 rfl ?_
    refine v_iload dX3_joins_33 rfl ?_
    obtain ⟨o1, K⟩ := K
    refine ld_85 dX3_joins_35 hL (by omega) o1 ?_
    show V w 1 mX3_joins 36 [none, some (vR 85), none, none, some (vI low), some (vI high), some (vI ((s : Nat) : Int))] [vI (J 85 s)] S J Q
    refine v_iload dX3_joins_36 rfl ?_
    obtain ⟨K1, K2⟩ := K
    refine v_icmp_ne 47 dX3_joins_38 (by decide) (fun c2 => ?_) (fun c2 => ?_)
    · have K := K2 c2
      obtain ⟨o2, K⟩ := K
      refine v_iinc dX3_joins_47 rfl o2 ?_
      show V w 1 mX3_joins 50 [none, some (vR 85), none, none, some (vI low), some (vI high), some (vI ((s + 1 : Nat) : Int))] [] S J Q
      refine v_goto 25 dX3_joins_50 (by decide) ?_
      exact K
    · have K := K1 c2
      refine v_aload_n dX3_joins_41 rfl ?_
      refine v_iload dX3_joins_42 rfl ?_
      refine v_iload dX3_joins_44 rfl ?_
      refine st_85 dX3_joins_46 hL (by omega) o1 ?_
      show V w 1 mX3_joins 47 [none, some (vR 85), none, none, some (vI low), some (vI high), some (vI ((s : Nat) : Int))] [] S (up J 85 s low) Q
      obtain ⟨o3, K⟩ := K
      refine v_iinc dX3_joins_47 rfl o3 ?_
      show V w 1 mX3_joins 50 [none, some (vR 85), none, none, some (vI low), some (vI high), some (vI ((s + 1 : Nat) : Int))] [] S (up J 85 s low) Q
      refine v_goto 25 dX3_joins_50 (by decide) ?_
      exact K
theorem gX3_joins_0_286 {w : Wd} {S : Sh} {J : Jm} {Q : Out → Sh → Jm → Prop} (hL : Lay S) (a : Nat) (b : Nat)
    (K : (((a : Nat) : Int) < 40) ∧ (((b : Nat) : Int) < 40) ∧ V w 1 mX3_joins 25 [none, some (vR 286), none, none, some (vI (zmin (J 286 a) (J 286 b))), some (vI (zmax (J 286 a) (J 286 b))), some (vI 0)] [] S J Q) :
    V w 1 mX3_joins 0 (ent mX3_joins [vR 84, vR 286, vI ((a : Nat) : Int), vI ((b : Nat) : Int)]) [] S J Q := by
  show V w 1 mX3_joins 0 [some (vR 84), some (vR 286), some (vI ((a : Nat) : Int)), some (vI ((b : Nat) : Int)), none, none, none] [] S J Q
  refine v_aload_n dX3_joins_0 rfl ?_
  refine v_iload_n dX3_joins_1 rfl ?_
  obtain ⟨o1, K⟩ := K
  refine ld_286 dX3_joins_2 hL (by omega) o1 ?_
  show V w 1 mX3_joins 3 [some (vR 84), some (vR 286), some (vI ((a : Nat) : Int)), some (vI ((b : Nat) : Int)), none, none, none] [vI (J 286 a)] S J Q
  refine v_aload_n dX3_joins_3 rfl ?_
  refine v_iload_n dX3_joins_4 rfl ?_
  obtain ⟨o2, K⟩ := K
  refine ld_286 dX3_joins_5 hL (by omega) o2 ?_
  show V w 1 mX3_joins 6 [some (vR 84), some (vR 286), some (vI ((a : Nat) : Int)), some (vI ((b : Nat) : Int)), none, none, none] [vI (J 286 b), vI (J 286 a)] S J Q
  refine v_callS (d' := 0) (rest := []) [vI (J 286 a), vI (J 286 b)] dX3_joins_6 srX3_137 rfl (one_I (one_I one_nil)) (Nat.le_of_ble_eq_true rfl) (Nat.le_of_ble_eq_true rfl) (Nat.le_of_ble_eq_true rfl) ?_
  refine s_min hL (J 286 a) (J 286 b)  ?_
  show V w 1 mX3_joins 9 [some (vR 84), some (vR 286), some (vI ((a : Nat) : Int)), some (vI ((b : Nat) : Int)), none, none, none] [vI (zmin (J 286 a) (J 286 b))] S J Q
  refine v_istore dX3_joins_9 (Nat.le_of_ble_eq_true rfl) ?_
  show V w 1 mX3_joins 11 [some (vR 84), some (vR 286), some (vI ((a : Nat) : Int)), some (vI ((b : Nat) : Int)), some (vI (zmin (J 286 a) (J 286 b))), none, none] [] S J Q
  refine v_aload_n dX3_joins_11 rfl ?_
  refine v_iload_n dX3_joins_12 rfl ?_
  refine ld_286 dX3_joins_13 hL (by omega) o1 ?_
  show V w 1 mX3_joins 14 [some (vR 84), some (vR 286), some (vI ((a : Nat) : Int)), some (vI ((b : Nat) : Int)), some (vI (zmin (J 286 a) (J 286 b))), none, none] [vI (J 286 a)] S J Q
  refine v_aload_n dX3_joins_14 rfl ?_
  refine v_iload_n dX3_joins_15 rfl ?_
  refine ld_286 dX3_joins_16 hL (by omega) o2 ?_
  show V w 1 mX3_joins 17 [some (vR 84), some (vR 286), some (vI ((a : Nat) : Int)), some (vI ((b : Nat) : Int)), some (vI (zmin (J 286 a) (J 286 b))), none, none] [vI (J 286 b), vI (J 286 a)] S J Q
  refine v_callS (d' := 0) (rest := []) [vI (J 286 a), vI (J 286 b)] dX3_joins_17 srX3_143 rfl (one_I (one_I one_nil)) (Nat.le_of_ble_eq_true rfl) (Nat.le_of_ble_eq_true rfl) (Nat.le_of_ble_eq_true rfl) ?_
  refine s_max hL (J 286 a) (J 286 b)  ?_
  show V w 1 mX3_joins 20 [some (vR 84), some (vR 286), some (vI ((a : Nat) : Int)), some (vI ((b : Nat) : Int)), some (vI (zmin (J 286 a) (J 286 b))), none, none] [vI (zmax (J 286 a) (J 286 b))] S J Q
  refine v_istore dX3_joins_20 (Nat.le_of_ble_eq_true rfl) ?_
  show V w 1 mX3_joins 22 [some (vR 84), some (vR 286), some (vI ((a : Nat) : Int)), some (vI ((b : Nat) : Int)), some (vI (zmin (J 286 a) (J 286 b))), some (vI (zmax (J 286 a) (J 286 b))), none] [] S J Q
  refine v_iconst dX3_joins_22 (in_lit (by decide)) ?_
  refine v_istore dX3_joins_23 (Nat.le_of_ble_eq_true rfl) ?_
  show V w 1 mX3_joins 25 [some (vR 84), some (vR 286), some (vI ((a : Nat) : Int)), some (vI ((b : Nat) : Int)), some (vI (zmin (J 286 a) (J 286 b))), some (vI (zmax (J 286 a) (J 286 b))), some (vI 0)] [] S J Q
  exact v_forget (fg_none (fg_some (fg_none (fg_none (fg_some (fg_some (fg_some fg_nil))))))) K
theorem gX3_joins_25_286 {w : Wd} {S : Sh} {J : Jm} {Q : Out → Sh → Jm → Prop} (hL : Lay S) (low : Int) (high : Int) (s : Nat)
    (K : Br (40 ≤ ((s : Nat) : Int)) (Q (.inl none) S J) ((((s : Nat) : Int) < 40) ∧ Br (J 286 s = high) ((-2147483648 ≤ ((s : Nat) : Int) + 1 ∧ ((s : Nat) : Int) + 1 ≤ 2147483647) ∧ V w 1 mX3_joins 25 [none, some (vR 286), none, none, some (vI low), some (vI high), some (vI ((s + 1 : Nat) : Int))] [] S (up J 286 s low) Q) ((-2147483648 ≤ ((s : Nat) : Int) + 1 ∧ ((s : Nat) : Int) + 1 ≤ 2147483647) ∧ V w 1 mX3_joins 25 [none, some (vR 286), none, none, some (vI low), some (vI high), some (vI ((s + 1 : Nat) : Int))] [] S J Q))) :
    V w 1 mX3_joins 25 [none, some (vR 286), none, none, some (vI low), some (vI high), some (vI ((s : Nat) : Int))] [] S J Q := by
  refine v_iload dX3_joins_25 rfl ?_
  refine v_bipush dX3_joins_27 (by decide) (in_lit (by decide)) ?_
  obtain ⟨K1, K2⟩ := K
  refine v_icmp_ge 53 dX3_joins_29 (by decide) (fun c1 => ?_) (fun c1 => ?_)
  · have K := K1 c1
    exact v_vret dX3_joins_53 rfl K
  · have K := K2 c1
    refine v_aload_n dX3_joins_32 rfl ?_
    refine v_iload dX3_joins_33 rfl ?_
    obtain ⟨o1, K⟩ := K
    refine ld_286 dX3_joins_35 hL (by omega) o1 ?_
    show V w 1 mX3_joins 36 [none, some (vR 286), none, none, some (vI low), some (vI high), some (vI ((s : Nat) : Int))] [vI (J 286 s)] S J Q
    refine v_iload dX3_joins_36 rfl ?_
    obtain ⟨K1, K2⟩ := K
    refine v_icmp_ne 47 dX3_joins_38 (by decide) (fun c2 => ?_) (fun c2 => ?_)
    · have K := K2 c2
      obtain ⟨o2, K⟩ := K
      refine v_iinc dX3_joins_47 rfl o2 ?_
      show V w 1 mX3_joins 50 [none, some (vR 286), none, none, some (vI low), some (vI high), some (vI ((s + 1 : Nat) : Int))] [] S J Q
      refine v_goto 25 dX3_joins_50 (by decide) ?_
      exact K
    · have K := K1 c2
      refine v_aload_n dX3_joins_41 rfl ?_
      refine v_iload dX3_joins_42 rfl ?_
      refine v_iload dX3_joins_44 rfl ?_
      refine st_286 dX3_joins_46 hL (by omega) o1 ?_
      show V w 1 mX3_joins 47 [none, some (vR 286), none, none, some (vI low), some (vI high), some (vI ((s : Nat) : Int))] [] S (up J 286 s low) Q
      obtain ⟨o3, K⟩ := K
      refine v_iinc dX3_joins_47 rfl o3 ?_
      show V w 1 mX3_joins 50 [none, some (vR 286), none, none, some (vI low), some (vI high), some (vI ((s + 1 : Nat) : Int))] [] S (up J 286 s low) Q
      refine v_goto 25 dX3_joins_50 (by decide) ?_
      exact K
theorem gX3_at_0 {w : Wd} {S : Sh} {J : Jm} {Q : Out → Sh → Jm → Prop} (hL : Lay S) (o : Nat) (a : Nat) (b : Nat)
    (K : (-2147483648 ≤ 40 * ((o : Nat) : Int) ∧ 40 * ((o : Nat) : Int) ≤ 2147483647) ∧ (-2147483648 ≤ ((40 * o : Nat) : Int) + ((a : Nat) : Int) ∧ ((40 * o : Nat) : Int) + ((a : Nat) : Int) ≤ 2147483647) ∧ (-2147483648 ≤ 40 * (((40 * o) + a : Nat) : Int) ∧ 40 * (((40 * o) + a : Nat) : Int) ≤ 2147483647) ∧ (-2147483648 ≤ ((40 * ((40 * o) + a) : Nat) : Int) + ((b : Nat) : Int) ∧ ((40 * ((40 * o) + a) : Nat) : Int) + ((b : Nat) : Int) ≤ 2147483647) ∧ Q (.inl (some (vI (((40 * ((40 * o) + a)) + b : Nat) : Int)))) S J) :
    V w 0 mX3_at 0 (ent mX3_at [vR 84, vI ((o : Nat) : Int), vI ((a : Nat) : Int), vI ((b : Nat) : Int)]) [] S J Q := by
  show V w 0 mX3_at 0 [some (vR 84), some (vI ((o : Nat) : Int)), some (vI ((a : Nat) : Int)), some (vI ((b : Nat) : Int))] [] S J Q
  refine v_bipush dX3_at_0 (by decide) (in_lit (by decide)) ?_
  refine v_bipush dX3_at_2 (by decide) (in_lit (by decide)) ?_
  refine v_iload_n dX3_at_4 rfl ?_
  obtain ⟨o1, K⟩ := K
  refine v_imul dX3_at_5 o1 ?_
  show V w 0 mX3_at 6 [some (vR 84), some (vI ((o : Nat) : Int)), some (vI ((a : Nat) : Int)), some (vI ((b : Nat) : Int))] [vI ((40 * o : Nat) : Int), vI 40] S J Q
  refine v_iload_n dX3_at_6 rfl ?_
  obtain ⟨o2, K⟩ := K
  refine v_iadd dX3_at_7 o2 ?_
  show V w 0 mX3_at 8 [some (vR 84), some (vI ((o : Nat) : Int)), some (vI ((a : Nat) : Int)), some (vI ((b : Nat) : Int))] [vI (((40 * o) + a : Nat) : Int), vI 40] S J Q
  obtain ⟨o3, K⟩ := K
  refine v_imul dX3_at_8 o3 ?_
  show V w 0 mX3_at 9 [some (vR 84), some (vI ((o : Nat) : Int)), some (vI ((a : Nat) : Int)), some (vI ((b : Nat) : Int))] [vI ((40 * ((40 * o) + a) : Nat) : Int)] S J Q
  refine v_iload_n dX3_at_9 rfl ?_
  obtain ⟨o4, K⟩ := K
  refine v_iadd dX3_at_10 o4 ?_
  show V w 0 mX3_at 11 [some (vR 84), some (vI ((o : Nat) : Int)), some (vI ((a : Nat) : Int)), some (vI ((b : Nat) : Int))] [vI (((40 * ((40 * o) + a)) + b : Nat) : Int)] S J Q
  exact v_iret dX3_at_11 rfl rfl K

/-- what is held is held anew later, by the same hand about the same two -/
def LtH (J : Jm) (h : Nat) : Prop := ∃ k : Nat, h < k ∧ (k : Int) < J 64 12 ∧ J 81 k ≤ J 84 5 ∧ J 77 k = J 77 h ∧ J 78 k = J 78 h ∧ J 79 k = J 79 h
theorem s_heldLater {w : Wd} {S : Sh} {J : Jm} {Q : Out → Sh → Jm → Prop} (hL : Lay S) (h : Int) (hh : 0 ≤ h ∧ h < 200) (hN : 0 ≤ J 64 12 ∧ J 64 12 ≤ 200) (K1 : LtH J h.toNat → Q (.inl (some (vI 1))) S J) (K2 : ¬ LtH J h.toNat → Q (.inl (some (vI 0))) S J) : V w 0 mX3_isHeldLater 0 (ent mX3_isHeldLater [vR 84, vI h]) [] S J Q := by
  obtain ⟨h, rfl⟩ : ∃ m : Nat, h = m := ⟨h.toNat, by omega⟩
  rw [Int.toNat_natCast] at K1 K2
  obtain ⟨N, eN⟩ : ∃ m : Nat, J 64 12 = m := ⟨(J 64 12).toNat, by omega⟩
  refine gX3_isHeldLater_0 hL h ⟨by omega, ?_⟩
  have loop : ∀ (v k : Nat), k + v = max N (h + 1) → h < k → (∀ j, h < j → j < k → ¬ (J 81 j ≤ J 84 5 ∧ J 77 j = J 77 h ∧ J 78 j = J 78 h ∧ J 79 j = J 79 h)) → V w 0 mX3_isHeldLater 4 [some (vR 84), some (vI (h : Int)), some (vI (k : Int))] [] S J Q := by
    intro v
    induction v with
    | zero =>
      intro k hk hlt hno
      refine gX3_isHeldLater_4 hL h k (br_y (by omega) (K2 ?_))
      rintro ⟨j, j1, j2, j3⟩
      exact hno j j1 (by omega) j3
    | succ v ih =>
      intro k hk hlt hno
      have next : ¬ (J 81 k ≤ J 84 5 ∧ J 77 k = J 77 h ∧ J 78 k = J 78 h ∧ J 79 k = J 79 h) → V w 0 mX3_isHeldLater 4 [some (vR 84), some (vI (h : Int)), some (vI ((k + 1 : Nat) : Int))] [] S J Q := fun q => ih (k + 1) (by omega) (by omega) (fun j j1 j2 => by
        by_cases e : j = k
        · subst e; exact q
        · exact hno j j1 (by omega))
      refine gX3_isHeldLater_4 hL h k (br_n (by omega) ?_)
      (repeat' (first | ((with_reducible refine And.intro ?_ ?_); omega)))
      refine br_i (fun c1 => ?_) (fun c1 => ?_)
      · (repeat' (first | ((with_reducible refine And.intro ?_ ?_); omega)))
        exact next (fun q => by omega)
      · (repeat' (first | ((with_reducible refine And.intro ?_ ?_); omega)))
        refine br_i (fun c2 => br_i (fun c3 => br_i (fun c4 => ?_) (fun c4 => ?_)) (fun c3 => ?_)) (fun c2 => ?_)
        · exact K1 ⟨k, hlt, by omega, by omega, c2, c3, c4⟩
        · (repeat' (first | ((with_reducible refine And.intro ?_ ?_); omega)))
          exact next (fun q => c4 q.2.2.2)
        · (repeat' (first | ((with_reducible refine And.intro ?_ ?_); omega)))
          exact next (fun q => c3 q.2.2.1)
        · (repeat' (first | ((with_reducible refine And.intro ?_ ?_); omega)))
          exact next (fun q => c2 q.2.1)
  exact loop (max N (h + 1) - (h + 1)) (h + 1) (by omega) (by omega) (fun j j1 j2 => absurd j1 (by omega))
def PJn (J : Jm) (X : Nat) (a b : Int) (J' : Jm) : Prop := (∀ x k, x ≠ X → J' x k = J x k) ∧ ∀ L : Nat → Nat, (∀ s, s < 40 → J X s = ((L s : Nat) : Int)) → ∀ s, s < 40 → J' X s = ((joinL L (L a.toNat) (L b.toNat) s : Nat) : Int)

theorem s_joins_85 {w : Wd} {S : Sh} {J : Jm} {Q : Out → Sh → Jm → Prop} (hL : Lay S) (a b : Int) (ha : 0 ≤ a ∧ a < 40) (hb : 0 ≤ b ∧ b < 40) (K : ∀ J', PJn J 85 a b J' → Q (.inl none) S J') : V w 1 mX3_joins 0 (ent mX3_joins [vR 84, vR 85, vI a, vI b]) [] S J Q := by
  obtain ⟨a, rfl⟩ : ∃ m : Nat, a = m := ⟨a.toNat, by omega⟩
  obtain ⟨b, rfl⟩ : ∃ m : Nat, b = m := ⟨b.toNat, by omega⟩
  refine gX3_joins_0_85 hL a b ?_
  (repeat' (first | ((with_reducible refine And.intro ?_ ?_); omega)))
  refine up_loop (P := fun s J1 => (∀ x k, x ≠ 85 → J1 x k = J x k) ∧ ∀ j, j < 40 → J1 85 j = if j < s ∧ J 85 j = zmax (J 85 a) (J 85 b) then zmin (J 85 a) (J 85 b) else J 85 j) 40
    (fun s J1 => V w 1 mX3_joins 25 [none, some (vR 85), none, none, some (vI (zmin (J 85 a) (J 85 b))), some (vI (zmax (J 85 a) (J 85 b))), some (vI (s : Int))] [] S J1 Q) ?_ ?_ 0 J (by omega) ⟨fun _ _ _ => rfl, fun j _ => by rw [if_neg (fun q => absurd q.1 (by omega))]⟩
  · intro s J1 hs ⟨f1, h1⟩ ih
    have es := h1 s hs
    rw [if_neg (fun q => absurd q.1 (by omega))] at es
    refine gX3_joins_25_85 hL _ _ s (br_n (by omega) ?_)
    (repeat' (first | ((with_reducible refine And.intro ?_ ?_); omega)))
    rw [es]
    refine br_i (fun c => ?_) (fun c => ?_)
    · (repeat' (first | ((with_reducible refine And.intro ?_ ?_); omega)))
      refine ih _ ⟨fun x k q => by rw [up_na q, f1 x k q], fun j hj => ?_⟩
      by_cases e : j = s
      · subst e
        rw [up_self, if_pos ⟨by omega, c⟩]
      · rw [up_nk e, h1 j hj]
        by_cases q : j < s
        · by_cases q2 : J 85 j = zmax (J 85 a) (J 85 b)
          · rw [if_pos ⟨q, q2⟩, if_pos ⟨by omega, q2⟩]
          · rw [if_neg (fun z => q2 z.2), if_neg (fun z => q2 z.2)]
        · rw [if_neg (fun z => q z.1), if_neg (fun z => by omega)]
    · (repeat' (first | ((with_reducible refine And.intro ?_ ?_); omega)))
      refine ih _ ⟨f1, fun j hj => ?_⟩
      rw [h1 j hj]
      by_cases e : j = s
      · subst e
        rw [if_neg (fun z => c z.2), if_neg (fun z => c z.2)]
      · by_cases q : j < s
        · by_cases q2 : J 85 j = zmax (J 85 a) (J 85 b)
          · rw [if_pos ⟨q, q2⟩, if_pos ⟨by omega, q2⟩]
          · rw [if_neg (fun z => q2 z.2), if_neg (fun z => q2 z.2)]
        · rw [if_neg (fun z => q z.1), if_neg (fun z => by omega)]
  · intro J1 ⟨f1, h1⟩
    refine gX3_joins_25_85 hL _ _ 40 (br_y (by omega) (K J1 ⟨f1, fun L hl s hs => ?_⟩))
    rw [h1 s hs, hl s hs, hl a (by omega), hl b (by omega), Int.toNat_natCast, Int.toNat_natCast]
    unfold joinL zmin zmax
    repeat' split
    all_goals omega

theorem s_joins_286 {w : Wd} {S : Sh} {J : Jm} {Q : Out → Sh → Jm → Prop} (hL : Lay S) (a b : Int) (ha : 0 ≤ a ∧ a < 40) (hb : 0 ≤ b ∧ b < 40) (K : ∀ J', PJn J 286 a b J' → Q (.inl none) S J') : V w 1 mX3_joins 0 (ent mX3_joins [vR 84, vR 286, vI a, vI b]) [] S J Q := by
  obtain ⟨a, rfl⟩ : ∃ m : Nat, a = m := ⟨a.toNat, by omega⟩
  obtain ⟨b, rfl⟩ : ∃ m : Nat, b = m := ⟨b.toNat, by omega⟩
  refine gX3_joins_0_286 hL a b ?_
  (repeat' (first | ((with_reducible refine And.intro ?_ ?_); omega)))
  refine up_loop (P := fun s J1 => (∀ x k, x ≠ 286 → J1 x k = J x k) ∧ ∀ j, j < 40 → J1 286 j = if j < s ∧ J 286 j = zmax (J 286 a) (J 286 b) then zmin (J 286 a) (J 286 b) else J 286 j) 40
    (fun s J1 => V w 1 mX3_joins 25 [none, some (vR 286), none, none, some (vI (zmin (J 286 a) (J 286 b))), some (vI (zmax (J 286 a) (J 286 b))), some (vI (s : Int))] [] S J1 Q) ?_ ?_ 0 J (by omega) ⟨fun _ _ _ => rfl, fun j _ => by rw [if_neg (fun q => absurd q.1 (by omega))]⟩
  · intro s J1 hs ⟨f1, h1⟩ ih
    have es := h1 s hs
    rw [if_neg (fun q => absurd q.1 (by omega))] at es
    refine gX3_joins_25_286 hL _ _ s (br_n (by omega) ?_)
    (repeat' (first | ((with_reducible refine And.intro ?_ ?_); omega)))
    rw [es]
    refine br_i (fun c => ?_) (fun c => ?_)
    · (repeat' (first | ((with_reducible refine And.intro ?_ ?_); omega)))
      refine ih _ ⟨fun x k q => by rw [up_na q, f1 x k q], fun j hj => ?_⟩
      by_cases e : j = s
      · subst e
        rw [up_self, if_pos ⟨by omega, c⟩]
      · rw [up_nk e, h1 j hj]
        by_cases q : j < s
        · by_cases q2 : J 286 j = zmax (J 286 a) (J 286 b)
          · rw [if_pos ⟨q, q2⟩, if_pos ⟨by omega, q2⟩]
          · rw [if_neg (fun z => q2 z.2), if_neg (fun z => q2 z.2)]
        · rw [if_neg (fun z => q z.1), if_neg (fun z => by omega)]
    · (repeat' (first | ((with_reducible refine And.intro ?_ ?_); omega)))
      refine ih _ ⟨f1, fun j hj => ?_⟩
      rw [h1 j hj]
      by_cases e : j = s
      · subst e
        rw [if_neg (fun z => c z.2), if_neg (fun z => c z.2)]
      · by_cases q : j < s
        · by_cases q2 : J 286 j = zmax (J 286 a) (J 286 b)
          · rw [if_pos ⟨q, q2⟩, if_pos ⟨by omega, q2⟩]
          · rw [if_neg (fun z => q2 z.2), if_neg (fun z => q2 z.2)]
        · rw [if_neg (fun z => q z.1), if_neg (fun z => by omega)]
  · intro J1 ⟨f1, h1⟩
    refine gX3_joins_25_286 hL _ _ 40 (br_y (by omega) (K J1 ⟨f1, fun L hl s hs => ?_⟩))
    rw [h1 s hs, hl s hs, hl a (by omega), hl b (by omega), Int.toNat_natCast, Int.toNat_natCast]
    unfold joinL zmin zmax
    repeat' split
    all_goals omega

theorem s_at {w : Wd} {S : Sh} {J : Jm} {Q : Out → Sh → Jm → Prop} (hL : Lay S) (o a b : Int) (h : (0 ≤ o ∧ o < 2) ∧ (0 ≤ a ∧ a < 40) ∧ (0 ≤ b ∧ b < 40)) (K : Q (.inl (some (vI (40 * (40 * o + a) + b)))) S J) : V w 0 mX3_at 0 (ent mX3_at [vR 84, vI o, vI a, vI b]) [] S J Q := by
  obtain ⟨o, rfl⟩ : ∃ m : Nat, o = m := ⟨o.toNat, by omega⟩
  obtain ⟨a, rfl⟩ : ∃ m : Nat, a = m := ⟨a.toNat, by omega⟩
  obtain ⟨b, rfl⟩ : ∃ m : Nat, b = m := ⟨b.toNat, by omega⟩
  refine gX3_at_0 hL o a b ?_
  (repeat' (first | ((with_reducible refine And.intro ?_ ?_); omega)))
  have e : ((40 * ((40 * o) + a) + b : Nat) : Int) = 40 * (40 * (o : Int) + (a : Int)) + (b : Int) := by push_cast; rfl
  rw [e]
  exact K

theorem s_joinsX {w : Wd} {S : Sh} {J : Jm} {Q : Out → Sh → Jm → Prop} (hL : Lay S) (X : Nat) (a b : Int) (hX : X = 85 ∨ X = 286) (ha : 0 ≤ a ∧ a < 40) (hb : 0 ≤ b ∧ b < 40) (K : ∀ J', PJn J X a b J' → Q (.inl none) S J') : V w 1 mX3_joins 0 (ent mX3_joins [vR 84, vR X, vI a, vI b]) [] S J Q := by
  rcases hX with rfl | rfl
  · exact s_joins_85 hL a b ha hb K
  · exact s_joins_286 hL a b ha hb K
theorem gX3_stand_0 {w : Wd} {S : Sh} {J : Jm} {Q : Out → Sh → Jm → Prop} (hL : Lay S) 
    (K : V w 2 mX3_stand 2 [some (vR 84), some (vI 0), none] [] S J Q) :
    V w 2 mX3_stand 0 (ent mX3_stand [vR 84]) [] S J Q := by
  show V w 2 mX3_stand 0 [some (vR 84), none, none] [] S J Q
  refine v_iconst dX3_stand_0 (in_lit (by decide)) ?_
  refine v_istore_n dX3_stand_1 (Nat.le_of_ble_eq_true rfl) ?_
  show V w 2 mX3_stand 2 [some (vR 84), some (vI 0), none] [] S J Q
  exact K
theorem gX3_stand_2 {w : Wd} {S : Sh} {J : Jm} {Q : Out → Sh → Jm → Prop} (hL : Lay S) (k : Nat)
    (K : Br (1600 ≤ ((k : Nat) : Int)) (V w 2 mX3_stand 24 [some (vR 84), some (vI 0), none] [] S J Q) ((((k : Nat) : Int) < 1600) ∧ (-2147483648 ≤ ((k : Nat) : Int) + 1 ∧ ((k : Nat) : Int) + 1 ≤ 2147483647) ∧ V w 2 mX3_stand 2 [some (vR 84), some (vI ((k + 1 : Nat) : Int)), none] [] S (up J 86 k 0) Q)) :
    V w 2 mX3_stand 2 [some (vR 84), some (vI ((k : Nat) : Int)), none] [] S J Q := by
  refine v_iload_n dX3_stand_2 rfl ?_
  refine v_sipush dX3_stand_3 (by decide) (in_lit (by decide)) ?_
  obtain ⟨K1, K2⟩ := K
  refine v_icmp_ge 22 dX3_stand_6 (by decide) (fun c1 => ?_) (fun c1 => ?_)
  · have K := K1 c1
    refine v_iconst dX3_stand_22 (in_lit (by decide)) ?_
    refine v_istore_n dX3_stand_23 (Nat.le_of_ble_eq_true rfl) ?_
    show V w 2 mX3_stand 24 [some (vR 84), some (vI 0), none] [] S J Q
    exact K
  · have K := K2 c1
    refine v_aload_n dX3_stand_9 rfl ?_
    refine v_getR dX3_stand_10 frX3_19_3 rfl (L_84 hL).1 (LR_84_1 hL) (Or.inl rfl) ?_
    refine v_iload_n dX3_stand_13 rfl ?_
    refine v_iconst dX3_stand_14 (in_lit (by decide)) ?_
    obtain ⟨o1, K⟩ := K
    refine st_86 dX3_stand_15 hL (by omega) o1 ?_
    show V w 2 mX3_stand 16 [some (vR 84), some (vI ((k : Nat) : Int)), none] [] S (up J 86 k 0) Q
    obtain ⟨o2, K⟩ := K
    refine v_iinc dX3_stand_16 rfl o2 ?_
    show V w 2 mX3_stand 19 [some (vR 84), some (vI ((k + 1 : Nat) : Int)), none] [] S (up J 86 k 0) Q
    refine v_goto 2 dX3_stand_19 (by decide) ?_
    exact K
theorem gX3_stand_24 {w : Wd} {S : Sh} {J : Jm} {Q : Out → Sh → Jm → Prop} (hL : Lay S) (h : Nat)
    (K : Br (J 64 12 ≤ ((h : Nat) : Int)) (V w 2 mX3_stand 167 [some (vR 84), some (vI 0), none] [] S J Q) ((((h : Nat) : Int) < 200) ∧ Br (J 84 5 < J 81 h) ((-2147483648 ≤ ((h : Nat) : Int) + 1 ∧ ((h : Nat) : Int) + 1 ≤ 2147483647) ∧ V w 2 mX3_stand 24 [some (vR 84), some (vI ((h + 1 : Nat) : Int)), none] [] S J Q) ((0 ≤ ((h : Nat) : Int) ∧ ((h : Nat) : Int) < 200) ∧ (0 ≤ J 64 12 ∧ J 64 12 ≤ 200) ∧ Br (LtH J (((h : Nat) : Int)).toNat) ((-2147483648 ≤ ((h : Nat) : Int) + 1 ∧ ((h : Nat) : Int) + 1 ≤ 2147483647) ∧ V w 2 mX3_stand 24 [some (vR 84), some (vI ((h + 1 : Nat) : Int)), none] [] S J Q) ((-2147483648 ≤ 40 * (J 78 h) ∧ 40 * (J 78 h) ≤ 2147483647) ∧ (-2147483648 ≤ (40 * (J 78 h)) + (J 79 h) ∧ (40 * (J 78 h)) + (J 79 h) ≤ 2147483647) ∧ (0 ≤ (40 * (J 78 h)) + (J 79 h)) ∧ ((40 * (J 78 h)) + (J 79 h) < 1600) ∧ Br (J 80 h = 1) ((0 ≤ J 77 h) ∧ (J 77 h < 4) ∧ (-2147483648 ≤ (J 86 ((40 * (J 78 h)) + (J 79 h)).toNat) + (J 76 (J 77 h).toNat) ∧ (J 86 ((40 * (J 78 h)) + (J 79 h)).toNat) + (J 76 (J 77 h).toNat) ≤ 2147483647) ∧ (-2147483648 ≤ ((h : Nat) : Int) + 1 ∧ ((h : Nat) : Int) + 1 ≤ 2147483647) ∧ V w 2 mX3_stand 24 [some (vR 84), some (vI ((h + 1 : Nat) : Int)), none] [] S (up J 86 ((40 * (J 78 h)) + (J 79 h)).toNat ((J 86 ((40 * (J 78 h)) + (J 79 h)).toNat) + (J 76 (J 77 h).toNat))) Q) (Br (J 80 h = 0) ((0 ≤ J 77 h) ∧ (J 77 h < 4) ∧ (-2147483648 ≤ -(J 76 (J 77 h).toNat) ∧ -(J 76 (J 77 h).toNat) ≤ 2147483647) ∧ (-2147483648 ≤ (J 86 ((40 * (J 78 h)) + (J 79 h)).toNat) + (-(J 76 (J 77 h).toNat)) ∧ (J 86 ((40 * (J 78 h)) + (J 79 h)).toNat) + (-(J 76 (J 77 h).toNat)) ≤ 2147483647) ∧ (-2147483648 ≤ ((h : Nat) : Int) + 1 ∧ ((h : Nat) : Int) + 1 ≤ 2147483647) ∧ V w 2 mX3_stand 24 [some (vR 84), some (vI ((h + 1 : Nat) : Int)), none] [] S (up J 86 ((40 * (J 78 h)) + (J 79 h)).toNat ((J 86 ((40 * (J 78 h)) + (J 79 h)).toNat) + (-(J 76 (J 77 h).toNat)))) Q) ((-2147483648 ≤ (J 86 ((40 * (J 78 h)) + (J 79 h)).toNat) + 0 ∧ (J 86 ((40 * (J 78 h)) + (J 79 h)).toNat) + 0 ≤ 2147483647) ∧ (-2147483648 ≤ ((h : Nat) : Int) + 1 ∧ ((h : Nat) : Int) + 1 ≤ 2147483647) ∧ V w 2 mX3_stand 24 [some (vR 84), some (vI ((h + 1 : Nat) : Int)), none] [] S (up J 86 ((40 * (J 78 h)) + (J 79 h)).toNat ((J 86 ((40 * (J 78 h)) + (J 79 h)).toNat) + 0)) Q)))))) :
    V w 2 mX3_stand 24 [some (vR 84), some (vI ((h : Nat) : Int)), none] [] S J Q := by
  refine v_iload_n dX3_stand_24 rfl ?_
  refine v_aload_n dX3_stand_25 rfl ?_
  refine v_getR dX3_stand_26 frX3_3_3 rfl (L_84 hL).1 (LR_84_22 hL) (Or.inl rfl) ?_
  refine v_getI dX3_stand_29 frX3_109_1 rfl rfl (L_64 hL).1 ?_
  obtain ⟨K1, K2⟩ := K
  refine v_icmp_ge 165 dX3_stand_32 (by decide) (fun c1 => ?_) (fun c1 => ?_)
  · have K := K1 c1
    refine v_iconst dX3_stand_165 (in_lit (by decide)) ?_
    refine v_istore_n dX3_stand_166 (Nat.le_of_ble_eq_true rfl) ?_
    show V w 2 mX3_stand 167 [some (vR 84), some (vI 0), none] [] S J Q
    exact K
  · have K := K2 c1
    refine v_aload_n dX3_stand_35 rfl ?_
    refine v_getR dX3_stand_36 frX3_3_3 rfl (L_84 hL).1 (LR_84_22 hL) (Or.inl rfl) ?_
    refine v_getR dX3_stand_39 frX3_112_1 rfl (L_64 hL).1 (LR_64_11 hL) (Or.inl rfl) ?_
    refine v_iload_n dX3_stand_42 rfl ?_
    obtain ⟨o1, K⟩ := K
    refine ld_81 dX3_stand_43 hL (by omega) o1 ?_
    show V w 2 mX3_stand 44 [some (vR 84), some (vI ((h : Nat) : Int)), none] [vI (J 81 h)] S J Q
    refine v_aload_n dX3_stand_44 rfl ?_
    refine v_getI dX3_stand_45 frX3_58_3 rfl rfl (L_84 hL).1 ?_
    obtain ⟨K1, K2⟩ := K
    refine v_icmp_gt 159 dX3_stand_48 (by decide) (fun c2 => ?_) (fun c2 => ?_)
    · have K := K1 c2
      obtain ⟨o2, K⟩ := K
      refine v_iinc dX3_stand_159 rfl o2 ?_
      show V w 2 mX3_stand 162 [some (vR 84), some (vI ((h + 1 : Nat) : Int)), none] [] S J Q
      refine v_goto 24 dX3_stand_162 (by decide) ?_
      exact K
    · have K := K2 c2
      refine v_aload_n dX3_stand_51 rfl ?_
      refine v_iload_n dX3_stand_52 rfl ?_
      refine v_callV (d' := 0) (rest := []) [vI ((h : Nat) : Int)] dX3_stand_53 vrX3_115_3 (L_84 hL).1 rfl rfl (one_I one_nil) (Nat.le_of_ble_eq_true rfl) (Nat.le_of_ble_eq_true rfl) (Nat.le_of_ble_eq_true rfl) ?_
      obtain ⟨o3, K⟩ := K
      obtain ⟨o4, K⟩ := K
      obtain ⟨K1, K2⟩ := K
      refine s_heldLater hL ((h : Nat) : Int) o3 o4 (fun c3 => ?_) (fun c3 => ?_)
      · have K := K1 c3
        show V w 2 mX3_stand 56 [some (vR 84), some (vI ((h : Nat) : Int)), none] [vI 1] S J Q
        refine v_if_eq 62 dX3_stand_56 (by decide) (fun cQ => absurd cQ (by decide)) (fun _ => ?_)
        refine v_goto 159 dX3_stand_59 (by decide) ?_
        obtain ⟨o5, K⟩ := K
        refine v_iinc dX3_stand_159 rfl o5 ?_
        show V w 2 mX3_stand 162 [some (vR 84), some (vI ((h + 1 : Nat) : Int)), none] [] S J Q
        refine v_goto 24 dX3_stand_162 (by decide) ?_
        exact K
      · have K := K2 c3
        show V w 2 mX3_stand 56 [some (vR 84), some (vI ((h : Nat) : Int)), none] [vI 0] S J Q
        refine v_if_eq 62 dX3_stand_56 (by decide) (fun _ => ?_) (fun cQ => absurd cQ (by decide))
        refine v_aload_n dX3_stand_62 rfl ?_
        refine v_getR dX3_stand_63 frX3_19_3 rfl (L_84 hL).1 (LR_84_1 hL) (Or.inl rfl) ?_
        refine v_bipush dX3_stand_66 (by decide) (in_lit (by decide)) ?_
        refine v_aload_n dX3_stand_68 rfl ?_
        refine v_getR dX3_stand_69 frX3_3_3 rfl (L_84 hL).1 (LR_84_22 hL) (Or.inl rfl) ?_
        refine v_getR dX3_stand_72 frX3_118_1 rfl (L_64 hL).1 (LR_64_8 hL) (Or.inl rfl) ?_
        refine v_iload_n dX3_stand_75 rfl ?_
        refine ld_78 dX3_stand_76 hL (by omega) o1 ?_
        show V w 2 mX3_stand 77 [some (vR 84), some (vI ((h : Nat) : Int)), none] [vI (J 78 h), vI 40, vR 86] S J Q
        obtain ⟨o6, K⟩ := K
        refine v_imul dX3_stand_77 o6 ?_
        refine v_aload_n dX3_stand_78 rfl ?_
        refine v_getR dX3_stand_79 frX3_3_3 rfl (L_84 hL).1 (LR_84_22 hL) (Or.inl rfl) ?_
        refine v_getR dX3_stand_82 frX3_121_1 rfl (L_64 hL).1 (LR_64_9 hL) (Or.inl rfl) ?_
        refine v_iload_n dX3_stand_85 rfl ?_
        refine ld_79 dX3_stand_86 hL (by omega) o1 ?_
        show V w 2 mX3_stand 87 [some (vR 84), some (vI ((h : Nat) : Int)), none] [vI (J 79 h), vI (40 * (J 78 h)), vR 86] S J Q
        obtain ⟨o7, K⟩ := K
        refine v_iadd dX3_stand_87 o7 ?_
        refine v_dup2 dX3_stand_88 trivial trivial ?_
        obtain ⟨o8, K⟩ := K
        obtain ⟨o9, K⟩ := K
        refine ld_86 dX3_stand_89 hL o8 o9 ?_
        refine v_aload_n dX3_stand_90 rfl ?_
        refine v_getR dX3_stand_91 frX3_3_3 rfl (L_84 hL).1 (LR_84_22 hL) (Or.inl rfl) ?_
        refine v_getR dX3_stand_94 frX3_124_1 rfl (L_64 hL).1 (LR_64_10 hL) (Or.inl rfl) ?_
        refine v_iload_n dX3_stand_97 rfl ?_
        refine ld_80 dX3_stand_98 hL (by omega) o1 ?_
        show V w 2 mX3_stand 99 [some (vR 84), some (vI ((h : Nat) : Int)), none] [vI (J 80 h), vI (J 86 ((40 * (J 78 h)) + (J 79 h)).toNat), vI ((40 * (J 78 h)) + (J 79 h)), vR 86] S J Q
        refine v_iconst dX3_stand_99 (in_lit (by decide)) ?_
        obtain ⟨K1, K2⟩ := K
        refine v_icmp_ne 123 dX3_stand_100 (by decide) (fun c4 => ?_) (fun c4 => ?_)
        · have K := K2 c4
          refine v_aload_n dX3_stand_123 rfl ?_
          refine v_getR dX3_stand_124 frX3_3_3 rfl (L_84 hL).1 (LR_84_22 hL) (Or.inl rfl) ?_
          refine v_getR dX3_stand_127 frX3_124_1 rfl (L_64 hL).1 (LR_64_10 hL) (Or.inl rfl) ?_
          refine v_iload_n dX3_stand_130 rfl ?_
          refine ld_80 dX3_stand_131 hL (by omega) o1 ?_
          show V w 2 mX3_stand 132 [some (vR 84), some (vI ((h : Nat) : Int)), none] [vI (J 80 h), vI (J 86 ((40 * (J 78 h)) + (J 79 h)).toNat), vI ((40 * (J 78 h)) + (J 79 h)), vR 86] S J Q
          obtain ⟨K1, K2⟩ := K
          refine v_if_ne 156 dX3_stand_132 (by decide) (fun c5 => ?_) (fun c5 => ?_)
          · have K := K2 c5
            refine v_iconst dX3_stand_156 (in_lit (by decide)) ?_
            obtain ⟨o10, K⟩ := K
            refine v_iadd dX3_stand_157 o10 ?_
            refine st_86 dX3_stand_158 hL o8 o9 ?_
            show V w 2 mX3_stand 159 [some (vR 84), some (vI ((h : Nat) : Int)), none] [] S (up J 86 ((40 * (J 78 h)) + (J 79 h)).toNat ((J 86 ((40 * (J 78 h)) + (J 79 h)).toNat) + 0)) Q
            obtain ⟨o11, K⟩ := K
            refine v_iinc dX3_stand_159 rfl o11 ?_
            show V w 2 mX3_stand 162 [some (vR 84), some (vI ((h + 1 : Nat) : Int)), none] [] S (up J 86 ((40 * (J 78 h)) + (J 79 h)).toNat ((J 86 ((40 * (J 78 h)) + (J 79 h)).toNat) + 0)) Q
            refine v_goto 24 dX3_stand_162 (by decide) ?_
            exact K
          · have K := K1 c5
            refine v_aload_n dX3_stand_135 rfl ?_
            refine v_getR dX3_stand_136 frX3_3_3 rfl (L_84 hL).1 (LR_84_22 hL) (Or.inl rfl) ?_
            refine v_getR dX3_stand_139 frX3_127_1 rfl (L_64 hL).1 (LR_64_6 hL) (Or.inl rfl) ?_
            refine v_aload_n dX3_stand_142 rfl ?_
            refine v_getR dX3_stand_143 frX3_3_3 rfl (L_84 hL).1 (LR_84_22 hL) (Or.inl rfl) ?_
            refine v_getR dX3_stand_146 frX3_130_1 rfl (L_64 hL).1 (LR_64_7 hL) (Or.inl rfl) ?_
            refine v_iload_n dX3_stand_149 rfl ?_
            refine ld_77 dX3_stand_150 hL (by omega) o1 ?_
            show V w 2 mX3_stand 151 [some (vR 84), some (vI ((h : Nat) : Int)), none] [vI (J 77 h), vR 76, vI (J 86 ((40 * (J 78 h)) + (J 79 h)).toNat), vI ((40 * (J 78 h)) + (J 79 h)), vR 86] S J Q
            obtain ⟨o12, K⟩ := K
            obtain ⟨o13, K⟩ := K
            refine ld_76 dX3_stand_151 hL o12 o13 ?_
            obtain ⟨o14, K⟩ := K
            refine v_ineg dX3_stand_152 o14 ?_
            refine v_goto 157 dX3_stand_153 (by decide) ?_
            obtain ⟨o15, K⟩ := K
            refine v_iadd dX3_stand_157 o15 ?_
            refine st_86 dX3_stand_158 hL o8 o9 ?_
            show V w 2 mX3_stand 159 [some (vR 84), some (vI ((h : Nat) : Int)), none] [] S (up J 86 ((40 * (J 78 h)) + (J 79 h)).toNat ((J 86 ((40 * (J 78 h)) + (J 79 h)).toNat) + (-(J 76 (J 77 h).toNat)))) Q
            obtain ⟨o16, K⟩ := K
            refine v_iinc dX3_stand_159 rfl o16 ?_
            show V w 2 mX3_stand 162 [some (vR 84), some (vI ((h + 1 : Nat) : Int)), none] [] S (up J 86 ((40 * (J 78 h)) + (J 79 h)).toNat ((J 86 ((40 * (J 78 h)) + (J 79 h)).toNat) + (-(J 76 (J 77 h).toNat)))) Q
            refine v_goto 24 dX3_stand_162 (by decide) ?_
            exact K
        · have K := K1 c4
          refine v_aload_n dX3_stand_103 rfl ?_
          refine v_getR dX3_stand_104 frX3_3_3 rfl (L_84 hL).1 (LR_84_22 hL) (Or.inl rfl) ?_
          refine v_getR dX3_stand_107 frX3_127_1 rfl (L_64 hL).1 (LR_64_6 hL) (Or.inl rfl) ?_
          refine v_aload_n dX3_stand_110 rfl ?_
          refine v_getR dX3_stand_111 frX3_3_3 rfl (L_84 hL).1 (LR_84_22 hL) (Or.inl rfl) ?_
          refine v_getR dX3_stand_114 frX3_130_1 rfl (L_64 hL).1 (LR_64_7 hL) (Or.inl rfl) ?_
          refine v_iload_n dX3_stand_117 rfl ?_
          refine ld_77 dX3_stand_118 hL (by omega) o1 ?_
          show V w 2 mX3_stand 119 [some (vR 84), some (vI ((h : Nat) : Int)), none] [vI (J 77 h), vR 76, vI (J 86 ((40 * (J 78 h)) + (J 79 h)).toNat), vI ((40 * (J 78 h)) + (J 79 h)), vR 86] S J Q
          obtain ⟨o17, K⟩ := K
          obtain ⟨o18, K⟩ := K
          refine ld_76 dX3_stand_119 hL o17 o18 ?_
          refine v_goto 157 dX3_stand_120 (by decide) ?_
          obtain ⟨o19, K⟩ := K
          refine v_iadd dX3_stand_157 o19 ?_
          refine st_86 dX3_stand_158 hL o8 o9 ?_
          show V w 2 mX3_stand 159 [some (vR 84), some (vI ((h : Nat) : Int)), none] [] S (up J 86 ((40 * (J 78 h)) + (J 79 h)).toNat ((J 86 ((40 * (J 78 h)) + (J 79 h)).toNat) + (J 76 (J 77 h).toNat))) Q
          obtain ⟨o20, K⟩ := K
          refine v_iinc dX3_stand_159 rfl o20 ?_
          show V w 2 mX3_stand 162 [some (vR 84), some (vI ((h + 1 : Nat) : Int)), none] [] S (up J 86 ((40 * (J 78 h)) + (J 79 h)).toNat ((J 86 ((40 * (J 78 h)) + (J 79 h)).toNat) + (J 76 (J 77 h).toNat))) Q
          refine v_goto 24 dX3_stand_162 (by decide) ?_
          exact K
theorem gX3_stand_167 {w : Wd} {S : Sh} {J : Jm} {Q : Out → Sh → Jm → Prop} (hL : Lay S) (s : Nat)
    (K : Br (40 ≤ ((s : Nat) : Int)) (V w 2 mX3_stand 188 [some (vR 84), some (vI 0), none] [] S J Q) ((((s : Nat) : Int) < 40) ∧ (-2147483648 ≤ ((s : Nat) : Int) + 1 ∧ ((s : Nat) : Int) + 1 ≤ 2147483647) ∧ V w 2 mX3_stand 167 [some (vR 84), some (vI ((s + 1 : Nat) : Int)), none] [] S (up J 85 s ((s : Nat) : Int)) Q)) :
    V w 2 mX3_stand 167 [some (vR 84), some (vI ((s : Nat) : Int)), none] [] S J Q := by
  refine v_iload_n dX3_stand_167 rfl ?_
  refine v_bipush dX3_stand_168 (by decide) (in_lit (by decide)) ?_
  obtain ⟨K1, K2⟩ := K
  refine v_icmp_ge 186 dX3_stand_170 (by decide) (fun c1 => ?_) (fun c1 => ?_)
  · have K := K1 c1
    refine v_iconst dX3_stand_186 (in_lit (by decide)) ?_
    refine v_istore_n dX3_stand_187 (Nat.le_of_ble_eq_true rfl) ?_
    show V w 2 mX3_stand 188 [some (vR 84), some (vI 0), none] [] S J Q
    exact K
  · have K := K2 c1
    refine v_aload_n dX3_stand_173 rfl ?_
    refine v_getR dX3_stand_174 frX3_15_3 rfl (L_84 hL).1 (LR_84_0 hL) (Or.inl rfl) ?_
    refine v_iload_n dX3_stand_177 rfl ?_
    refine v_iload_n dX3_stand_178 rfl ?_
    obtain ⟨o1, K⟩ := K
    refine st_85 dX3_stand_179 hL (by omega) o1 ?_
    show V w 2 mX3_stand 180 [some (vR 84), some (vI ((s : Nat) : Int)), none] [] S (up J 85 s ((s : Nat) : Int)) Q
    obtain ⟨o2, K⟩ := K
    refine v_iinc dX3_stand_180 rfl o2 ?_
    show V w 2 mX3_stand 183 [some (vR 84), some (vI ((s + 1 : Nat) : Int)), none] [] S (up J 85 s ((s : Nat) : Int)) Q
    refine v_goto 167 dX3_stand_183 (by decide) ?_
    exact K
theorem gX3_stand_188 {w : Wd} {S : Sh} {J : Jm} {Q : Out → Sh → Jm → Prop} (hL : Lay S) (a : Nat)
    (K : Br (40 ≤ ((a : Nat) : Int)) (Q (.inl none) S J) ((-2147483648 ≤ ((a : Nat) : Int) + 1 ∧ ((a : Nat) : Int) + 1 ≤ 2147483647) ∧ V w 2 mX3_stand 198 [some (vR 84), some (vI ((a : Nat) : Int)), some (vI ((a + 1 : Nat) : Int))] [] S J Q)) :
    V w 2 mX3_stand 188 [some (vR 84), some (vI ((a : Nat) : Int)), none] [] S J Q := by
  refine v_iload_n dX3_stand_188 rfl ?_
  refine v_bipush dX3_stand_189 (by decide) (in_lit (by decide)) ?_
  obtain ⟨K1, K2⟩ := K
  refine v_icmp_ge 240 dX3_stand_191 (by decide) (fun c1 => ?_) (fun c1 => ?_)
  · have K := K1 c1
    exact v_vret dX3_stand_240 rfl K
  · have K := K2 c1
    refine v_iload_n dX3_stand_194 rfl ?_
    refine v_iconst dX3_stand_195 (in_lit (by decide)) ?_
    obtain ⟨o1, K⟩ := K
    refine v_iadd dX3_stand_196 o1 ?_
    show V w 2 mX3_stand 197 [some (vR 84), some (vI ((a : Nat) : Int)), none] [vI ((a + 1 : Nat) : Int)] S J Q
    refine v_istore_n dX3_stand_197 (Nat.le_of_ble_eq_true rfl) ?_
    show V w 2 mX3_stand 198 [some (vR 84), some (vI ((a : Nat) : Int)), some (vI ((a + 1 : Nat) : Int))] [] S J Q
    exact K
theorem gX3_stand_198 {w : Wd} {S : Sh} {J : Jm} {Q : Out → Sh → Jm → Prop} (hL : Lay S) (a : Nat) (b : Nat)
    (K : Br (40 ≤ ((b : Nat) : Int)) ((-2147483648 ≤ ((a : Nat) : Int) + 1 ∧ ((a : Nat) : Int) + 1 ≤ 2147483647) ∧ V w 2 mX3_stand 188 [some (vR 84), some (vI ((a + 1 : Nat) : Int)), none] [] S J Q) ((-2147483648 ≤ 40 * ((a : Nat) : Int) ∧ 40 * ((a : Nat) : Int) ≤ 2147483647) ∧ (-2147483648 ≤ ((40 * a : Nat) : Int) + ((b : Nat) : Int) ∧ ((40 * a : Nat) : Int) + ((b : Nat) : Int) ≤ 2147483647) ∧ ((((40 * a) + b : Nat) : Int) < 1600) ∧ Br (J 86 ((40 * a) + b) ≤ 0) ((-2147483648 ≤ ((b : Nat) : Int) + 1 ∧ ((b : Nat) : Int) + 1 ≤ 2147483647) ∧ V w 2 mX3_stand 198 [some (vR 84), some (vI ((a : Nat) : Int)), some (vI ((b + 1 : Nat) : Int))] [] S J Q) ((85 = 85 ∨ 85 = 286) ∧ (0 ≤ ((a : Nat) : Int) ∧ ((a : Nat) : Int) < 40) ∧ (0 ≤ ((b : Nat) : Int) ∧ ((b : Nat) : Int) < 40) ∧ (∀ (J1 : Jm), PJn J 85 ((a : Nat) : Int) ((b : Nat) : Int) J1 → (-2147483648 ≤ ((b : Nat) : Int) + 1 ∧ ((b : Nat) : Int) + 1 ≤ 2147483647) ∧ V w 2 mX3_stand 198 [some (vR 84), some (vI ((a : Nat) : Int)), some (vI ((b + 1 : Nat) : Int))] [] S J1 Q)))) :
    V w 2 mX3_stand 198 [some (vR 84), some (vI ((a : Nat) : Int)), some (vI ((b : Nat) : Int))] [] S J Q := by
  refine v_iload_n dX3_stand_198 rfl ?_
  refine v_bipush dX3_stand_199 (by decide) (in_lit (by decide)) ?_
  obtain ⟨K1, K2⟩ := K
  refine v_icmp_ge 234 dX3_stand_201 (by decide) (fun c1 => ?_) (fun c1 => ?_)
  · have K := K1 c1
    obtain ⟨o1, K⟩ := K
    refine v_iinc dX3_stand_234 rfl o1 ?_
    show V w 2 mX3_stand 237 [some (vR 84), some (vI ((a + 1 : Nat) : Int)), some (vI ((b : Nat) : Int))] [] S J Q
    refine v_goto 188 dX3_stand_237 (by decide) ?_
    exact v_forget (fg_some (fg_some (fg_none fg_nil))) K
  · have K := K2 c1
    refine v_aload_n dX3_stand_204 rfl ?_
    refine v_getR dX3_stand_205 frX3_19_3 rfl (L_84 hL).1 (LR_84_1 hL) (Or.inl rfl) ?_
    refine v_bipush dX3_stand_208 (by decide) (in_lit (by decide)) ?_
    refine v_iload_n dX3_stand_210 rfl ?_
    obtain ⟨o2, K⟩ := K
    refine v_imul dX3_stand_211 o2 ?_
    show V w 2 mX3_stand 212 [some (vR 84), some (vI ((a : Nat) : Int)), some (vI ((b : Nat) : Int))] [vI ((40 * a : Nat) : Int), vR 86] S J Q
    refine v_iload_n dX3_stand_212 rfl ?_
    obtain ⟨o3, K⟩ := K
    refine v_iadd dX3_stand_213 o3 ?_
    show V w 2 mX3_stand 214 [some (vR 84), some (vI ((a : Nat) : Int)), some (vI ((b : Nat) : Int))] [vI (((40 * a) + b : Nat) : Int), vR 86] S J Q
    obtain ⟨o4, K⟩ := K
    refine ld_86 dX3_stand_214 hL (by omega) o4 ?_
    show V w 2 mX3_stand 215 [some (vR 84), some (vI ((a : Nat) : Int)), some (vI ((b : Nat) : Int))] [vI (J 86 ((40 * a) + b))] S J Q
    obtain ⟨K1, K2⟩ := K
    refine v_if_le 228 dX3_stand_215 (by decide) (fun c2 => ?_) (fun c2 => ?_)
    · have K := K1 c2
      obtain ⟨o5, K⟩ := K
      refine v_iinc dX3_stand_228 rfl o5 ?_
      show V w 2 mX3_stand 231 [some (vR 84), some (vI ((a : Nat) : Int)), some (vI ((b + 1 : Nat) : Int))] [] S J Q
      refine v_goto 198 dX3_stand_231 (by decide) ?_
      exact K
    · have K := K2 c2
      refine v_aload_n dX3_stand_218 rfl ?_
      refine v_aload_n dX3_stand_219 rfl ?_
      refine v_getR dX3_stand_220 frX3_15_3 rfl (L_84 hL).1 (LR_84_0 hL) (Or.inl rfl) ?_
      refine v_iload_n dX3_stand_223 rfl ?_
      refine v_iload_n dX3_stand_224 rfl ?_
      refine v_callV (d' := 1) (rest := []) [vR 85, vI ((a : Nat) : Int), vI ((b : Nat) : Int)] dX3_stand_225 vrX3_133_3 (L_84 hL).1 rfl rfl (one_O (one_I (one_I one_nil))) (Nat.le_of_ble_eq_true rfl) (Nat.le_of_ble_eq_true rfl) (Nat.le_of_ble_eq_true rfl) ?_
      obtain ⟨o6, K⟩ := K
      obtain ⟨o7, K⟩ := K
      obtain ⟨o8, K⟩ := K
      refine s_joinsX hL 85 ((a : Nat) : Int) ((b : Nat) : Int) o6 o7 o8 (fun J1 hp => ?_)
      have K := K J1 hp
      show V w 2 mX3_stand 228 [some (vR 84), some (vI ((a : Nat) : Int)), some (vI ((b : Nat) : Int))] [] S J1 Q
      obtain ⟨o9, K⟩ := K
      refine v_iinc dX3_stand_228 rfl o9 ?_
      show V w 2 mX3_stand 231 [some (vR 84), some (vI ((a : Nat) : Int)), some (vI ((b + 1 : Nat) : Int))] [] S J1 Q
      refine v_goto 198 dX3_stand_231 (by decide) ?_
      exact K

/-- what counts: of those with P, the last of M alone -/
noncomputable def lsP (P : Nat → Prop) (val : Nat → Int) (M : Nat) : Nat → Int
  | 0 => 0
  | n + 1 => lsP P val M n + @ite _ (P n ∧ ¬ ∃ k, n < k ∧ k < M ∧ P k) (Classical.propDecidable _) (val n) 0
theorem lsP_zero {P : Nat → Prop} {val : Nat → Int} {M : Nat} (h : P M) : ∀ n, n ≤ M → lsP P val (M + 1) n = 0
  | 0, _ => rfl
  | n + 1, hn => by
    rw [lsP, lsP_zero h n (by omega), if_neg (fun q => q.2 ⟨M, by omega, by omega, h⟩)]
    rfl
theorem lsP_same {P : Nat → Prop} {val : Nat → Int} {M : Nat} (h : ¬ P M) : ∀ n, n ≤ M → lsP P val (M + 1) n = lsP P val M n
  | 0, _ => rfl
  | n + 1, hn => by
    rw [lsP, lsP, lsP_same h n (by omega)]
    congr 1
    by_cases q : P n ∧ ¬ ∃ k, n < k ∧ k < M ∧ P k
    · rw [if_pos q, if_pos ⟨q.1, fun ⟨k, k1, k2, k3⟩ => by
        by_cases e : k = M
        · subst e; exact h k3
        · exact q.2 ⟨k, k1, by omega, k3⟩⟩]
    · rw [if_neg q, if_neg (fun z => q ⟨z.1, fun ⟨k, k1, k2, k3⟩ => z.2 ⟨k, k1, by omega, k3⟩⟩)]
theorem lsP_mtV {J : Jm} {hh : Nat} {a b known : Int} : ∀ N, lsP (fun k => J 327 k = hh ∧ J 328 k = a ∧ J 329 k = b ∧ J 331 k ≤ known) (fun k => mtT J hh (J 330 k)) N N = mtT J hh (mtV J hh a b known N)
  | 0 => by simp [lsP, mtV, mtT]
  | N + 1 => by
    rw [lsP, mtV]
    by_cases c : J 327 N = hh ∧ J 328 N = a ∧ J 329 N = b ∧ J 331 N ≤ known
    · rw [lsP_zero (P := fun k => J 327 k = hh ∧ J 328 k = a ∧ J 329 k = b ∧ J 331 k ≤ known) c N (Nat.le_refl _), if_pos ⟨c, fun ⟨k, k1, k2, k3⟩ => by omega⟩, if_pos c]
      omega
    · rw [lsP_same (P := fun k => J 327 k = hh ∧ J 328 k = a ∧ J 329 k = b ∧ J 331 k ≤ known) c N (Nat.le_refl _), lsP_mtV N, if_neg (fun q => c q.1), if_neg c]
      omega
/-- what GridRoom sums up for a pair -/
noncomputable def hsN (J : Jm) (known a b : Int) (M : Nat) : Nat → Int
  | 0 => 0
  | n + 1 => hsN J known a b M n + @ite _ ((J 331 n ≤ known ∧ ¬ ∃ k, n < k ∧ k < M ∧ J 331 k ≤ known ∧ J 327 k = J 327 n ∧ J 328 k = J 328 n ∧ J 329 k = J 329 n) ∧ J 328 n = a ∧ J 329 n = b) (Classical.propDecidable _) (mtT J (J 327 n).toNat (J 330 n)) 0
theorem hsN_split {J : Jm} (hM : MHeld J) {known a b : Int} {M : Nat} : ∀ n : Nat, (n : Int) ≤ J 313 25 → hsN J known a b M n = lsP (fun k => J 327 k = ((0 : Nat) : Int) ∧ J 328 k = a ∧ J 329 k = b ∧ J 331 k ≤ known) (fun k => mtT J 0 (J 330 k)) M n + lsP (fun k => J 327 k = ((1 : Nat) : Int) ∧ J 328 k = a ∧ J 329 k = b ∧ J 331 k ≤ known) (fun k => mtT J 1 (J 330 k)) M n + lsP (fun k => J 327 k = ((2 : Nat) : Int) ∧ J 328 k = a ∧ J 329 k = b ∧ J 331 k ≤ known) (fun k => mtT J 2 (J 330 k)) M n + lsP (fun k => J 327 k = ((3 : Nat) : Int) ∧ J 328 k = a ∧ J 329 k = b ∧ J 331 k ≤ known) (fun k => mtT J 3 (J 330 k)) M n
  | 0, _ => rfl
  | n + 1, hn => by
    have h1 := (hM.2.2 n (by omega)).1
    rw [hsN, lsP, lsP, lsP, lsP, hsN_split hM n (by omega)]
    have key : ∀ hh : Nat, J 327 n = (hh : Int) → (((J 331 n ≤ known ∧ ¬ ∃ k, n < k ∧ k < M ∧ J 331 k ≤ known ∧ J 327 k = J 327 n ∧ J 328 k = J 328 n ∧ J 329 k = J 329 n) ∧ J 328 n = a ∧ J 329 n = b) ↔ ((J 327 n = (hh : Int) ∧ J 328 n = a ∧ J 329 n = b ∧ J 331 n ≤ known) ∧ ¬ ∃ k, n < k ∧ k < M ∧ J 327 k = (hh : Int) ∧ J 328 k = a ∧ J 329 k = b ∧ J 331 k ≤ known)) := by
      intro hh e
      constructor
      · rintro ⟨⟨q1, q2⟩, q3, q4⟩
        exact ⟨⟨e, q3, q4, q1⟩, fun ⟨k, k1, k2, k3, k4, k5, k6⟩ => q2 ⟨k, k1, k2, k6, by omega, by omega, by omega⟩⟩
      · rintro ⟨⟨q0, q1, q2, q3⟩, q4⟩
        exact ⟨⟨q3, fun ⟨k, k1, k2, k3, k4, k5, k6⟩ => q4 ⟨k, k1, k2, by omega, by omega, by omega, k3⟩⟩, q1, q2⟩
    have off : ∀ hh : Nat, J 327 n ≠ (hh : Int) → ¬ ((J 327 n = (hh : Int) ∧ J 328 n = a ∧ J 329 n = b ∧ J 331 n ≤ known) ∧ ¬ ∃ k, n < k ∧ k < M ∧ J 327 k = (hh : Int) ∧ J 328 k = a ∧ J 329 k = b ∧ J 331 k ≤ known) := fun hh e q => e q.1.1
    have cases4 : J 327 n = ((0 : Nat) : Int) ∨ J 327 n = ((1 : Nat) : Int) ∨ J 327 n = ((2 : Nat) : Int) ∨ J 327 n = ((3 : Nat) : Int) := by omega
    rcases cases4 with e | e | e | e
    all_goals
      have kk := key _ e
      by_cases c : ((J 331 n ≤ known ∧ ¬ ∃ k, n < k ∧ k < M ∧ J 331 k ≤ known ∧ J 327 k = J 327 n ∧ J 328 k = J 328 n ∧ J 329 k = J 329 n) ∧ J 328 n = a ∧ J 329 n = b)
      · have c2 := kk.mp c
        have et := congrArg Int.toNat e
        rw [Int.toNat_natCast] at et
        rw [if_pos c, et]
        first
          | rw [if_pos c2, if_neg (off 1 (by omega)), if_neg (off 2 (by omega)), if_neg (off 3 (by omega))]
          | rw [if_neg (off 0 (by omega)), if_pos c2, if_neg (off 2 (by omega)), if_neg (off 3 (by omega))]
          | rw [if_neg (off 0 (by omega)), if_neg (off 1 (by omega)), if_pos c2, if_neg (off 3 (by omega))]
          | rw [if_neg (off 0 (by omega)), if_neg (off 1 (by omega)), if_neg (off 2 (by omega)), if_pos c2]
        omega
      · have c2 := fun q => c (kk.mpr q)
        rw [if_neg c]
        first
          | rw [if_neg c2, if_neg (off 1 (by omega)), if_neg (off 2 (by omega)), if_neg (off 3 (by omega))]
          | rw [if_neg (off 0 (by omega)), if_neg c2, if_neg (off 2 (by omega)), if_neg (off 3 (by omega))]
          | rw [if_neg (off 0 (by omega)), if_neg (off 1 (by omega)), if_neg c2, if_neg (off 3 (by omega))]
          | rw [if_neg (off 0 (by omega)), if_neg (off 1 (by omega)), if_neg (off 2 (by omega)), if_neg c2]
        omega
theorem hsN_mtS {J : Jm} (hM : MHeld J) {known a b : Int} : hsN J known a b (J 313 25).toNat (J 313 25).toNat = mtS J a b known 4 := by
  rw [hsN_split hM _ (by have := hM.1; omega), lsP_mtV, lsP_mtV, lsP_mtV, lsP_mtV]
  simp only [mtS]
  omega
theorem mtT_in {J : Jm} (hM : MHeld J) {h : Nat} (hh : h < 4) (v : Int) : -99 ≤ mtT J h v ∧ mtT J h v ≤ 99 := by
  have := hM.2.1 h hh
  unfold mtT
  split
  · omega
  · split <;> omega
theorem hsN_in {J : Jm} (hM : MHeld J) {known a b : Int} {M : Nat} : ∀ n : Nat, (n : Int) ≤ J 313 25 → -99 * (n : Int) ≤ hsN J known a b M n ∧ hsN J known a b M n ≤ 99 * (n : Int)
  | 0, _ => by simp [hsN]
  | n + 1, hn => by
    have ih := hsN_in hM (known := known) (a := a) (b := b) (M := M) n (by omega)
    have h1 := (hM.2.2 n (by omega)).1
    have h2 := mtT_in hM (h := (J 327 n).toNat) (by omega) (J 330 n)
    rw [hsN]
    by_cases c : ((J 331 n ≤ known ∧ ¬ ∃ k, n < k ∧ k < M ∧ J 331 k ≤ known ∧ J 327 k = J 327 n ∧ J 328 k = J 328 n ∧ J 329 k = J 329 n) ∧ J 328 n = a ∧ J 329 n = b)
    · rw [if_pos c]; push_cast; omega
    · rw [if_neg c]; push_cast; omega

/-- what is held, in both -/
def HeldX (J σ : Jm) : Prop := J 64 12 = σ 313 25 ∧ (∀ h, h < 4 → J 76 h = σ 326 h) ∧ ∀ k : Nat, (k : Int) < σ 313 25 → J 77 k = σ 327 k ∧ J 78 k = σ 328 k ∧ J 79 k = σ 329 k ∧ J 80 k = σ 330 k ∧ J 81 k = σ 331 k
def PXst (J σ : Jm) (known : Int) (J' : Jm) : Prop := (∀ a k, a ≠ 85 → a ≠ 86 → J' a k = J a k) ∧ ∀ s : Nat, s < 40 → J' 85 s = ((labOf (EH σ known) s : Nat) : Int)
theorem s_xstand {w : Wd} {S : Sh} {J : Jm} {Q : Out → Sh → Jm → Prop} (hL : Lay S) (σ : Jm) (hX : HeldX J σ) (hM : MHeld σ) (K : ∀ J', PXst J σ (J 84 5) J' → Q (.inl none) S J') : V w 2 mX3_stand 0 (ent mX3_stand [vR 84]) [] S J Q := by
  obtain ⟨x1, x2, x3⟩ := hX
  obtain ⟨N, eN⟩ : ∃ N : Nat, σ 313 25 = N := ⟨(σ 313 25).toNat, by have := hM.1; omega⟩
  have hN : N ≤ 200 := by have := hM.1; omega
  generalize hk : J 84 5 = known at K
  -- the joins
  have last : ∀ J1 : Jm, (∀ a k, a ≠ 85 → a ≠ 86 → J1 a k = J a k) → (∀ a b : Nat, a < b → b < 40 → J1 86 (40 * a + b) = mtS σ (a : Int) (b : Int) known 4) → (∀ s : Nat, s < 40 → J1 85 s = ((s : Nat) : Int)) → V w 2 mX3_stand 188 [some (vR 84), some (vI ((0 : Nat) : Int)), none] [] S J1 Q := by
    intro J1 f1 h86 h85
    refine up_loop (P := fun a J2 => (∀ x k, x ≠ 85 → J2 x k = J1 x k) ∧ ∃ L, LabW (EH σ known) (fun x y => EH σ known x y ∧ x < a) L ∧ ∀ s : Nat, s < 40 → J2 85 s = ((L s : Nat) : Int)) 40
      (fun a J2 => V w 2 mX3_stand 188 [some (vR 84), some (vI (a : Int)), none] [] S J2 Q) ?_ ?_ 0 J1 (by omega) ⟨fun _ _ _ => rfl, fun s => s, (LabW.start _).weaken (fun x y h => absurd h.2 (by omega)), h85⟩
    · intro a J2 ha ⟨f2, L, hW, hl⟩ ih
      refine gX3_stand_188 (J := J2) hL a (br_n (by omega) ⟨by omega, ?_⟩)
      have go := up_loop (P := fun v J3 => (∀ x k, x ≠ 85 → J3 x k = J1 x k) ∧ ∃ L, LabW (EH σ known) (fun x y => EH σ known x y ∧ (x < a ∨ (x = a ∧ y < a + 1 + v))) L ∧ ∀ s : Nat, s < 40 → J3 85 s = ((L s : Nat) : Int)) (39 - a)
        (fun v J3 => V w 2 mX3_stand 198 [some (vR 84), some (vI (a : Int)), some (vI ((a + 1 + v : Nat) : Int))] [] S J3 Q) (by
          intro v J3 hv ⟨f3, L3, hW3, hl3⟩ ih3
          have e86 : J3 86 (40 * a + (a + 1 + v)) = mtS σ (a : Int) ((a + 1 + v : Nat) : Int) known 4 := by rw [f3 _ _ (by decide)]; exact h86 a (a + 1 + v) (by omega) (by omega)
          refine gX3_stand_198 (J := J3) hL a (a + 1 + v) (br_n (by omega) ?_)
          rw [e86]
          (repeat' (first | ((with_reducible refine And.intro ?_ ?_); omega)))
          refine br_i (fun c => ?_) (fun c => ?_)
          · (repeat' (first | ((with_reducible refine And.intro ?_ ?_); omega)))
            refine ih3 J3 ⟨f3, L3, hW3.weaken (fun x y h => ?_), hl3⟩
            by_cases q : x = a ∧ y = a + 1 + v
            · exfalso
              have := h.1.2.2
              rw [q.1, q.2] at this
              omega
            · exact Or.inl ⟨h.1, by omega⟩
          · (repeat' (first | ((with_reducible refine And.intro ?_ ?_); omega)))
            intro J4 hp
            (repeat' (first | ((with_reducible refine And.intro ?_ ?_); omega)))
            have hE : EH σ known a (a + 1 + v) := ⟨by omega, by omega, by omega⟩
            have hj := hp.2 L3 hl3
            rw [Int.toNat_natCast, Int.toNat_natCast] at hj
            refine ih3 J4 ⟨fun x k q => by rw [hp.1 x k q, f3 x k q], joinL L3 (L3 a) (L3 (a + 1 + v)), (hW3.join hE (by omega) (by omega)).weaken (fun x y h => Or.inl ?_), hj⟩
            by_cases q : x = a ∧ y = a + 1 + v
            · exact Or.inr q
            · exact Or.inl ⟨h.1, by omega⟩) (by
          intro J3 ⟨f3, L3, hW3, hl3⟩
          refine gX3_stand_198 (J := J3) hL a (a + 1 + (39 - a)) (br_y (by omega) ?_)
          (repeat' (first | ((with_reducible refine And.intro ?_ ?_); omega)))
          exact ih J3 ⟨f3, L3, hW3.weaken (fun x y h => Or.inl ⟨h.1, by have := h.1.2.1; have := h.2; omega⟩), hl3⟩)
      exact go 0 J2 (by omega) ⟨f2, L, hW.weaken (fun x y h => Or.inl ⟨h.1, by have := h.1.1; have := h.2; omega⟩), hl⟩
    · intro J2 ⟨f2, L, hW, hl⟩
      refine gX3_stand_188 (J := J2) hL 40 (br_y (by omega) (K J2 ⟨fun a k q1 q2 => by rw [f2 a k q1, f1 a k q1 q2], fun s hs => ?_⟩))
      have hlab : IsLab (EH σ known) L := hW.fin (fun a b hE => ⟨hE, by have := hE.1; have := hE.2.1; omega⟩)
      rw [hl s hs, labOf_eq hlab hs]
  have mid : ∀ J1 : Jm, (∀ a k, a ≠ 86 → J1 a k = J a k) → (∀ a b : Nat, a < b → b < 40 → J1 86 (40 * a + b) = mtS σ (a : Int) (b : Int) known 4) → V w 2 mX3_stand 167 [some (vR 84), some (vI ((0 : Nat) : Int)), none] [] S J1 Q := by
    intro J1 f1 h86
    refine up_loop (P := fun s J2 => (∀ x k, x ≠ 85 → J2 x k = J1 x k) ∧ ∀ j : Nat, j < s → J2 85 j = ((j : Nat) : Int)) 40
      (fun s J2 => V w 2 mX3_stand 167 [some (vR 84), some (vI (s : Int)), none] [] S J2 Q) ?_ ?_ 0 J1 (by omega) ⟨fun _ _ _ => rfl, fun j hj => absurd hj (by omega)⟩
    · intro s J2 hs ⟨f2, h2⟩ ih
      refine gX3_stand_167 (J := J2) hL s (br_n (by omega) ?_)
      (repeat' (first | ((with_reducible refine And.intro ?_ ?_); omega)))
      refine ih _ ⟨fun x k q => by rw [up_na q, f2 x k q], fun j hj => ?_⟩
      by_cases e : j = s
      · rw [e, up_self]
      · rw [up_nk e]; exact h2 j (by omega)
    · intro J2 ⟨f2, h2⟩
      refine gX3_stand_167 (J := J2) hL 40 (br_y (by omega) ?_)
      exact last J2 (fun a k q1 q2 => by rw [f2 a k q1, f1 a k q2]) (fun a b hab hb => by rw [f2 _ _ (by decide)]; exact h86 a b hab hb) h2
  have sums : ∀ J1 : Jm, (∀ a k, a ≠ 86 → J1 a k = J a k) → (∀ q, q < 1600 → J1 86 q = 0) → V w 2 mX3_stand 24 [some (vR 84), some (vI ((0 : Nat) : Int)), none] [] S J1 Q := by
    intro J1 f1 h86
    refine up_loop (P := fun h J2 => (∀ x k, x ≠ 86 → J2 x k = J x k) ∧ ∀ a b : Nat, a < 40 → b < 40 → J2 86 (40 * a + b) = hsN σ known (a : Int) (b : Int) N h) N
      (fun h J2 => V w 2 mX3_stand 24 [some (vR 84), some (vI (h : Int)), none] [] S J2 Q) ?_ ?_ 0 J1 (by omega) ⟨f1, fun a b ha hb => h86 _ (by omega)⟩
    · intro h J2 hh ⟨f2, h2⟩ ih
      have e12 : J2 64 12 = N := by rw [f2 _ _ (by decide), x1, eN]
      have e5 : J2 84 5 = known := by rw [f2 _ _ (by decide)]; exact hk
      have xk : ∀ k : Nat, k < N → J2 77 k = σ 327 k ∧ J2 78 k = σ 328 k ∧ J2 79 k = σ 329 k ∧ J2 80 k = σ 330 k ∧ J2 81 k = σ 331 k := fun k hk => by
        rw [f2 _ _ (by decide), f2 _ _ (by decide), f2 _ _ (by decide), f2 _ _ (by decide), f2 _ _ (by decide)]
        exact x3 k (by omega)
      obtain ⟨g1, g2, g3, g4, g5⟩ := xk h hh
      obtain ⟨m1, m2, m3⟩ := hM.2.2 h (by omega)
      have hlt : LtH J2 h ↔ ∃ k, h < k ∧ k < N ∧ σ 331 k ≤ known ∧ σ 327 k = σ 327 h ∧ σ 328 k = σ 328 h ∧ σ 329 k = σ 329 h := by
        unfold LtH
        rw [e12, e5, g1, g2, g3]
        constructor
        · rintro ⟨k, k1, k2, k3, k4, k5, k6⟩
          obtain ⟨a1, a2, a3, a4, a5⟩ := xk k (by omega)
          exact ⟨k, k1, by omega, by omega, by omega, by omega, by omega⟩
        · rintro ⟨k, k1, k2, k3, k4, k5, k6⟩
          obtain ⟨a1, a2, a3, a4, a5⟩ := xk k k2
          exact ⟨k, k1, by omega, by omega, by omega, by omega, by omega⟩
      -- nothing is added
      have skip : (∀ a b : Nat, ¬ ((σ 331 h ≤ known ∧ ¬ ∃ k, h < k ∧ k < N ∧ σ 331 k ≤ known ∧ σ 327 k = σ 327 h ∧ σ 328 k = σ 328 h ∧ σ 329 k = σ 329 h) ∧ σ 328 h = (a : Int) ∧ σ 329 h = (b : Int))) → V w 2 mX3_stand 24 [some (vR 84), some (vI ((h + 1 : Nat) : Int)), none] [] S J2 Q := fun hno => by
        refine ih J2 ⟨f2, fun a b ha hb => ?_⟩
        rw [hsN, if_neg (hno a b), h2 a b ha hb]
        omega
      obtain ⟨A, eA⟩ : ∃ m : Nat, σ 328 h = m := ⟨(σ 328 h).toNat, by omega⟩
      obtain ⟨B, eB⟩ : ∃ m : Nat, σ 329 h = m := ⟨(σ 329 h).toNat, by omega⟩
      obtain ⟨H, eH⟩ : ∃ m : Nat, σ 327 h = m := ⟨(σ 327 h).toNat, by omega⟩
      have e76 : J2 76 H = σ 326 H := by rw [f2 _ _ (by decide)]; exact x2 H (by omega)
      have bt := hM.2.1 H (by omega)
      have bs := hsN_in hM (known := known) (a := (A : Int)) (b := (B : Int)) (M := N) h (by omega)
      have eidx : (40 * (A : Int) + (B : Int)).toNat = 40 * A + B := by omega
      have e86 : J2 86 (40 * A + B) = hsN σ known (A : Int) (B : Int) N h := h2 A B (by omega) (by omega)
      have add : ∀ z : Int, z = mtT σ H (σ 330 h) → (σ 331 h ≤ known ∧ ¬ ∃ k, h < k ∧ k < N ∧ σ 331 k ≤ known ∧ σ 327 k = σ 327 h ∧ σ 328 k = σ 328 h ∧ σ 329 k = σ 329 h) → V w 2 mX3_stand 24 [some (vR 84), some (vI ((h + 1 : Nat) : Int)), none] [] S (up J2 86 (40 * A + B) (hsN σ known (A : Int) (B : Int) N h + z)) Q := fun z hz hc => by
        refine ih _ ⟨fun x k q => by rw [up_na q, f2 x k q], fun a b ha hb => ?_⟩
        by_cases q : a = A ∧ b = B
        · rw [q.1, q.2, up_self, hsN, if_pos ⟨hc, eA, eB⟩, hz, eH, Int.toNat_natCast]
        · rw [up_nk (by omega), hsN, if_neg (fun z => q ⟨by omega, by omega⟩), h2 a b ha hb]
          omega
      refine gX3_stand_24 (J := J2) hL h (br_n (by omega) ?_)
      rw [Int.toNat_natCast, e12, e5, g1, g2, g3, g4, g5, eA, eB, eH, eidx, Int.toNat_natCast, e76, e86]
      (repeat' (first | ((with_reducible refine And.intro ?_ ?_); omega)))
      refine br_i (fun c1 => ?_) (fun c1 => ?_)
      · (repeat' (first | ((with_reducible refine And.intro ?_ ?_); omega)))
        exact skip (fun a b q => by have := q.1.1; omega)
      · (repeat' (first | ((with_reducible refine And.intro ?_ ?_); omega)))
        refine br_i (fun c2 => ?_) (fun c2 => ?_)
        · (repeat' (first | ((with_reducible refine And.intro ?_ ?_); omega)))
          exact skip (fun a b q => q.1.2 (hlt.mp c2))
        · have hc : (σ 331 h ≤ known ∧ ¬ ∃ k, h < k ∧ k < N ∧ σ 331 k ≤ known ∧ σ 327 k = σ 327 h ∧ σ 328 k = σ 328 h ∧ σ 329 k = σ 329 h) := ⟨by omega, fun q => c2 (hlt.mpr q)⟩
          clear hlt xk skip ih
          (repeat' (first | ((with_reducible refine And.intro ?_ ?_); omega)))
          refine br_i (fun c3 => ?_) (fun c3 => ?_)
          · (repeat' (first | ((with_reducible refine And.intro ?_ ?_); omega)))
            exact add _ (by unfold mtT; rw [if_pos c3]) hc
          · refine br_i (fun c4 => ?_) (fun c4 => ?_)
            · (repeat' (first | ((with_reducible refine And.intro ?_ ?_); omega)))
              exact add _ (by unfold mtT; rw [if_neg c3, if_pos c4]) hc
            · (repeat' (first | ((with_reducible refine And.intro ?_ ?_); omega)))
              exact add _ (by unfold mtT; rw [if_neg c3, if_neg c4]) hc
    · intro J2 ⟨f2, h2⟩
      refine gX3_stand_24 (J := J2) hL N (br_y (by rw [f2 _ _ (by decide), x1, eN]; omega) ?_)
      refine mid J2 f2 (fun a b hab hb => ?_)
      rw [h2 a b (by omega) hb, ← hsN_mtS hM, eN, Int.toNat_natCast]
  refine gX3_stand_0 hL ?_
  refine up_loop (P := fun k J1 => (∀ x j, x ≠ 86 → J1 x j = J x j) ∧ ∀ q, q < k → J1 86 q = 0) 1600
    (fun k J1 => V w 2 mX3_stand 2 [some (vR 84), some (vI (k : Int)), none] [] S J1 Q) ?_ ?_ 0 J (by omega) ⟨fun _ _ _ => rfl, fun q hq => absurd hq (by omega)⟩
  · intro k J1 hk ⟨f1, h1⟩ ih
    refine gX3_stand_2 (J := J1) hL k (br_n (by omega) ?_)
    (repeat' (first | ((with_reducible refine And.intro ?_ ?_); omega)))
    refine ih _ ⟨fun x j q => by rw [up_na q, f1 x j q], fun q hq => ?_⟩
    by_cases e : q = k
    · rw [e, up_self]
    · rw [up_nk e]; exact h1 q (by omega)
  · intro J1 ⟨f1, h1⟩
    refine gX3_stand_2 (J := J1) hL 1600 (br_y (by omega) ?_)
    exact sums J1 f1 h1
