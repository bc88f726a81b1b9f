/-! the model: often, rank -/
set_option maxRecDepth 100000
theorem gX5_oftenOf_0 {w : Wd} {S : Sh} {J : Jm} {Q : Out → Sh → Jm → Prop} (hL : Lay S) (s : Int) (known : Int) (what : Int)
    (K : V w 2 mX5_oftenOf 6 [some (vR 313), some (vI s), some (vI known), some (vI what), some (vI 0), some (vI 0), none, none, none] [] S J Q) :
    V w 2 mX5_oftenOf 0 (ent mX5_oftenOf [vR 313, vI s, vI known, vI what]) [] S J Q := by
  show V w 2 mX5_oftenOf 0 [some (vR 313), some (vI s), some (vI known), some (vI what), none, none, none, none, none] [] S J Q
  refine v_iconst dX5_oftenOf_0 (in_lit (by decide)) ?_
  refine v_istore dX5_oftenOf_1 (Nat.le_of_ble_eq_true rfl) ?_
  show V w 2 mX5_oftenOf 3 [some (vR 313), some (vI s), some (vI known), some (vI what), some (vI 0), none, none, none, none] [] S J Q
  refine v_iconst dX5_oftenOf_3 (in_lit (by decide)) ?_
  refine v_istore dX5_oftenOf_4 (Nat.le_of_ble_eq_true rfl) ?_
  show V w 2 mX5_oftenOf 6 [some (vR 313), some (vI s), some (vI known), some (vI what), some (vI 0), some (vI 0), none, none, none] [] S J Q
  exact K
theorem gX5_oftenOf_6 {w : Wd} {S : Sh} {J : Jm} {Q : Out → Sh → Jm → Prop} (hL : Lay S) (s : Int) (known : Int) (what : Int) (n : Nat) (r : Nat)
    (K : (-2147483648 ≤ 8 * (J 313 2) ∧ 8 * (J 313 2) ≤ 2147483647) ∧ Br (8 * (J 313 2) ≤ ((r : Nat) : Int)) (Q (.inl (some (vI ((n : Nat) : Int)))) S J) ((((r / 8 : Nat) : Int) < 25) ∧ Br (J 316 (r / 8) ≤ ((r % 8 : Nat) : Int)) ((-2147483648 ≤ ((r : Nat) : Int) + 1 ∧ ((r : Nat) : Int) + 1 ≤ 2147483647) ∧ V w 2 mX5_oftenOf 6 [some (vR 313), some (vI s), some (vI known), some (vI what), some (vI ((n : Nat) : Int)), some (vI ((r + 1 : Nat) : Int)), none, none, none] [] S J Q) ((0 ≤ ((r / 8 : Nat) : Int) ∧ ((r / 8 : Nat) : Int) < 24) ∧ Br (J 314 ((r / 8 : Nat) : Int).toNat ≤ known ∧ known < J 315 ((r / 8 : Nat) : Int).toNat) (V w 2 mX5_oftenOf 55 [some (vR 313), some (vI s), some (vI known), some (vI what), some (vI ((n : Nat) : Int)), some (vI ((r : Nat) : Int)), some (vI 0), none, none] [] S J Q) ((-2147483648 ≤ ((r : Nat) : Int) + 1 ∧ ((r : Nat) : Int) + 1 ≤ 2147483647) ∧ V w 2 mX5_oftenOf 6 [some (vR 313), some (vI s), some (vI known), some (vI what), some (vI ((n : Nat) : Int)), some (vI ((r + 1 : Nat) : Int)), none, none, none] [] S J Q)))) :
    V w 2 mX5_oftenOf 6 [some (vR 313), some (vI s), some (vI known), some (vI what), some (vI ((n : Nat) : Int)), some (vI ((r : Nat) : Int)), none, none, none] [] S J Q := by
  refine v_iload dX5_oftenOf_6 rfl ?_
  refine v_bipush dX5_oftenOf_8 (by decide) (in_lit (by decide)) ?_
  refine v_aload_n dX5_oftenOf_10 rfl ?_
  refine v_getI dX5_oftenOf_11 frX5_243_5 rfl rfl (L_313 hL).1 ?_
  obtain ⟨o1, K⟩ := K
  refine v_imul dX5_oftenOf_14 o1 ?_
  obtain ⟨K1, K2⟩ := K
  refine v_icmp_ge 173 dX5_oftenOf_15 (by decide) (fun c1 => ?_) (fun c1 => ?_)
  · have K := K1 c1
    refine v_iload dX5_oftenOf_173 rfl ?_
    exact v_iret dX5_oftenOf_175 rfl rfl K
  · have K := K2 c1
    refine v_iload dX5_oftenOf_18 rfl ?_
    refine v_bipush dX5_oftenOf_20 (by decide) (in_lit (by decide)) ?_
    refine v_irem dX5_oftenOf_22 (by omega) (by decide) ?_
    show V w 2 mX5_oftenOf 23 [some (vR 313), some (vI s), some (vI known), some (vI what), some (vI ((n : Nat) : Int)), some (vI ((r : Nat) : Int)), none, none, none] [vI ((r % 8 : Nat) : Int)] S J Q
    refine v_aload_n dX5_oftenOf_23 rfl ?_
    refine v_getR dX5_oftenOf_24 frX5_20_5 rfl (L_313 hL).1 (LR_313_5 hL) (Or.inl rfl) ?_
    refine v_iload dX5_oftenOf_27 rfl ?_
    refine v_bipush dX5_oftenOf_29 (by decide) (in_lit (by decide)) ?_
    refine v_idiv dX5_oftenOf_31 (by omega) (by decide) ?_
    show V w 2 mX5_oftenOf 32 [some (vR 313), some (vI s), some (vI known), some (vI what), some (vI ((n : Nat) : Int)), some (vI ((r : Nat) : Int)), none, none, none] [vI ((r / 8 : Nat) : Int), vR 316, vI ((r % 8 : Nat) : Int)] S J Q
    obtain ⟨o2, K⟩ := K
    refine ld_316 dX5_oftenOf_32 hL (by omega) o2 ?_
    show V w 2 mX5_oftenOf 33 [some (vR 313), some (vI s), some (vI known), some (vI what), some (vI ((n : Nat) : Int)), some (vI ((r : Nat) : Int)), none, none, none] [vI (J 316 (r / 8)), vI ((r % 8 : Nat) : Int)] S J Q
    obtain ⟨K1, K2⟩ := K
    refine v_icmp_ge 167 dX5_oftenOf_33 (by decide) (fun c2 => ?_) (fun c2 => ?_)
    · have K := K1 c2
      obtain ⟨o3, K⟩ := K
      refine v_iinc dX5_oftenOf_167 rfl o3 ?_
      show V w 2 mX5_oftenOf 170 [some (vR 313), some (vI s), some (vI known), some (vI what), some (vI ((n : Nat) : Int)), some (vI ((r + 1 : Nat) : Int)), none, none, none] [] S J Q
      refine v_goto 6 dX5_oftenOf_170 (by decide) ?_
      exact K
    · have K := K2 c2
      refine v_aload_n dX5_oftenOf_36 rfl ?_
      refine v_iload dX5_oftenOf_37 rfl ?_
      refine v_bipush dX5_oftenOf_39 (by decide) (in_lit (by decide)) ?_
      refine v_idiv dX5_oftenOf_41 (by omega) (by decide) ?_
      show V w 2 mX5_oftenOf 42 [some (vR 313), some (vI s), some (vI known), some (vI what), some (vI ((n : Nat) : Int)), some (vI ((r : Nat) : Int)), none, none, none] [vI ((r / 8 : Nat) : Int), vR 313] S J Q
      refine v_iload_n dX5_oftenOf_42 rfl ?_
      refine v_callV (d' := 1) (rest := []) [vI ((r / 8 : Nat) : Int), vI known] dX5_oftenOf_43 vrX5_314_5 (L_313 hL).1 rfl rfl (one_I (one_I one_nil)) (Nat.le_of_ble_eq_true rfl) (Nat.le_of_ble_eq_true rfl) (Nat.le_of_ble_eq_true rfl) ?_
      obtain ⟨o4, K⟩ := K
      obtain ⟨K1, K2⟩ := K
      refine sX5_tabletCounts hL ((r / 8 : Nat) : Int) known o4 (fun c3 => ?_) (fun c3 => ?_)
      · have K := K1 c3
        show V w 2 mX5_oftenOf 46 [some (vR 313), some (vI s), some (vI known), some (vI what), some (vI ((n : Nat) : Int)), some (vI ((r : Nat) : Int)), none, none, none] [vI 1] S J Q
        refine v_if_ne 52 dX5_oftenOf_46 (by decide) (fun _ => ?_) (fun cQ => absurd cQ (by decide))
        refine v_iconst dX5_oftenOf_52 (in_lit (by decide)) ?_
        refine v_istore dX5_oftenOf_53 (Nat.le_of_ble_eq_true rfl) ?_
        show V w 2 mX5_oftenOf 55 [some (vR 313), some (vI s), some (vI known), some (vI what), some (vI ((n : Nat) : Int)), some (vI ((r : Nat) : Int)), some (vI 0), none, none] [] S J Q
        exact K
      · have K := K2 c3
        show V w 2 mX5_oftenOf 46 [some (vR 313), some (vI s), some (vI known), some (vI what), some (vI ((n : Nat) : Int)), some (vI ((r : Nat) : Int)), none, none, none] [vI 0] S J Q
        refine v_if_ne 52 dX5_oftenOf_46 (by decide) (fun cQ => absurd cQ (by decide)) (fun _ => ?_)
        refine v_goto 167 dX5_oftenOf_49 (by decide) ?_
        obtain ⟨o5, K⟩ := K
        refine v_iinc dX5_oftenOf_167 rfl o5 ?_
        show V w 2 mX5_oftenOf 170 [some (vR 313), some (vI s), some (vI known), some (vI what), some (vI ((n : Nat) : Int)), some (vI ((r + 1 : Nat) : Int)), none, none, none] [] S J Q
        refine v_goto 6 dX5_oftenOf_170 (by decide) ?_
        exact K
theorem gX5_oftenOf_55 {w : Wd} {S : Sh} {J : Jm} {Q : Out → Sh → Jm → Prop} (hL : Lay S) (s : Int) (known : Int) (what : Int) (n : Nat) (r : Nat) (i : Nat)
    (K : (((r : Nat) : Int) < 200) ∧ Br (J 317 r ≤ ((i : Nat) : Int)) ((-2147483648 ≤ ((r : Nat) : Int) + 1 ∧ ((r : Nat) : Int) + 1 ≤ 2147483647) ∧ V w 2 mX5_oftenOf 6 [some (vR 313), some (vI s), some (vI known), some (vI what), some (vI ((n : Nat) : Int)), some (vI ((r + 1 : Nat) : Int)), none, none, none] [] S J Q) ((-2147483648 ≤ 6 * ((r : Nat) : Int) ∧ 6 * ((r : Nat) : Int) ≤ 2147483647) ∧ (-2147483648 ≤ ((6 * r : Nat) : Int) + ((i : Nat) : Int) ∧ ((6 * r : Nat) : Int) + ((i : Nat) : Int) ≤ 2147483647) ∧ ((((6 * r) + i : Nat) : Int) < 1200) ∧ Br (J 318 ((6 * r) + i) = (-1)) ((-2147483648 ≤ ((i : Nat) : Int) + 1 ∧ ((i : Nat) : Int) + 1 ≤ 2147483647) ∧ V w 2 mX5_oftenOf 55 [some (vR 313), some (vI s), some (vI known), some (vI what), some (vI ((n : Nat) : Int)), some (vI ((r : Nat) : Int)), some (vI ((i + 1 : Nat) : Int)), none, none] [] S J Q) ((0 ≤ J 318 ((6 * r) + i)) ∧ (J 318 ((6 * r) + i) < 40) ∧ Br (J 332 (J 318 ((6 * r) + i)).toNat = s) (Br (J 317 r = 1) (Br (what = 4) ((-2147483648 ≤ ((n : Nat) : Int) + 1 ∧ ((n : Nat) : Int) + 1 ≤ 2147483647) ∧ (-2147483648 ≤ ((i : Nat) : Int) + 1 ∧ ((i : Nat) : Int) + 1 ≤ 2147483647) ∧ V w 2 mX5_oftenOf 55 [some (vR 313), some (vI s), some (vI known), some (vI what), some (vI ((n + 1 : Nat) : Int)), some (vI ((r : Nat) : Int)), some (vI ((i + 1 : Nat) : Int)), none, none] [] S J Q) (Br (2 = what) ((-2147483648 ≤ ((n : Nat) : Int) + 1 ∧ ((n : Nat) : Int) + 1 ≤ 2147483647) ∧ (-2147483648 ≤ ((i : Nat) : Int) + 1 ∧ ((i : Nat) : Int) + 1 ≤ 2147483647) ∧ V w 2 mX5_oftenOf 55 [some (vR 313), some (vI s), some (vI known), some (vI what), some (vI ((n + 1 : Nat) : Int)), some (vI ((r : Nat) : Int)), some (vI ((i + 1 : Nat) : Int)), none, none] [] S J Q) ((-2147483648 ≤ ((i : Nat) : Int) + 1 ∧ ((i : Nat) : Int) + 1 ≤ 2147483647) ∧ V w 2 mX5_oftenOf 55 [some (vR 313), some (vI s), some (vI known), some (vI what), some (vI ((n : Nat) : Int)), some (vI ((r : Nat) : Int)), some (vI ((i + 1 : Nat) : Int)), none, none] [] S J Q))) (Br (((i : Nat) : Int) = 0) (Br (what = 4) ((-2147483648 ≤ ((n : Nat) : Int) + 1 ∧ ((n : Nat) : Int) + 1 ≤ 2147483647) ∧ (-2147483648 ≤ ((i : Nat) : Int) + 1 ∧ ((i : Nat) : Int) + 1 ≤ 2147483647) ∧ V w 2 mX5_oftenOf 55 [some (vR 313), some (vI s), some (vI known), some (vI what), some (vI ((n + 1 : Nat) : Int)), some (vI ((r : Nat) : Int)), some (vI ((i + 1 : Nat) : Int)), none, none] [] S J Q) (Br (0 = what) ((-2147483648 ≤ ((n : Nat) : Int) + 1 ∧ ((n : Nat) : Int) + 1 ≤ 2147483647) ∧ (-2147483648 ≤ ((i : Nat) : Int) + 1 ∧ ((i : Nat) : Int) + 1 ≤ 2147483647) ∧ V w 2 mX5_oftenOf 55 [some (vR 313), some (vI s), some (vI known), some (vI what), some (vI ((n + 1 : Nat) : Int)), some (vI ((r : Nat) : Int)), some (vI ((i + 1 : Nat) : Int)), none, none] [] S J Q) ((-2147483648 ≤ ((i : Nat) : Int) + 1 ∧ ((i : Nat) : Int) + 1 ≤ 2147483647) ∧ V w 2 mX5_oftenOf 55 [some (vR 313), some (vI s), some (vI known), some (vI what), some (vI ((n : Nat) : Int)), some (vI ((r : Nat) : Int)), some (vI ((i + 1 : Nat) : Int)), none, none] [] S J Q))) ((-2147483648 ≤ (J 317 r) - 1 ∧ (J 317 r) - 1 ≤ 2147483647) ∧ Br (((i : Nat) : Int) = (J 317 r) - 1) (Br (what = 4) ((-2147483648 ≤ ((n : Nat) : Int) + 1 ∧ ((n : Nat) : Int) + 1 ≤ 2147483647) ∧ (-2147483648 ≤ ((i : Nat) : Int) + 1 ∧ ((i : Nat) : Int) + 1 ≤ 2147483647) ∧ V w 2 mX5_oftenOf 55 [some (vR 313), some (vI s), some (vI known), some (vI what), some (vI ((n + 1 : Nat) : Int)), some (vI ((r : Nat) : Int)), some (vI ((i + 1 : Nat) : Int)), none, none] [] S J Q) (Br (1 = what) ((-2147483648 ≤ ((n : Nat) : Int) + 1 ∧ ((n : Nat) : Int) + 1 ≤ 2147483647) ∧ (-2147483648 ≤ ((i : Nat) : Int) + 1 ∧ ((i : Nat) : Int) + 1 ≤ 2147483647) ∧ V w 2 mX5_oftenOf 55 [some (vR 313), some (vI s), some (vI known), some (vI what), some (vI ((n + 1 : Nat) : Int)), some (vI ((r : Nat) : Int)), some (vI ((i + 1 : Nat) : Int)), none, none] [] S J Q) ((-2147483648 ≤ ((i : Nat) : Int) + 1 ∧ ((i : Nat) : Int) + 1 ≤ 2147483647) ∧ V w 2 mX5_oftenOf 55 [some (vR 313), some (vI s), some (vI known), some (vI what), some (vI ((n : Nat) : Int)), some (vI ((r : Nat) : Int)), some (vI ((i + 1 : Nat) : Int)), none, none] [] S J Q))) (Br (what = 4) ((-2147483648 ≤ ((n : Nat) : Int) + 1 ∧ ((n : Nat) : Int) + 1 ≤ 2147483647) ∧ (-2147483648 ≤ ((i : Nat) : Int) + 1 ∧ ((i : Nat) : Int) + 1 ≤ 2147483647) ∧ V w 2 mX5_oftenOf 55 [some (vR 313), some (vI s), some (vI known), some (vI what), some (vI ((n + 1 : Nat) : Int)), some (vI ((r : Nat) : Int)), some (vI ((i + 1 : Nat) : Int)), none, none] [] S J Q) (Br (3 = what) ((-2147483648 ≤ ((n : Nat) : Int) + 1 ∧ ((n : Nat) : Int) + 1 ≤ 2147483647) ∧ (-2147483648 ≤ ((i : Nat) : Int) + 1 ∧ ((i : Nat) : Int) + 1 ≤ 2147483647) ∧ V w 2 mX5_oftenOf 55 [some (vR 313), some (vI s), some (vI known), some (vI what), some (vI ((n + 1 : Nat) : Int)), some (vI ((r : Nat) : Int)), some (vI ((i + 1 : Nat) : Int)), none, none] [] S J Q) ((-2147483648 ≤ ((i : Nat) : Int) + 1 ∧ ((i : Nat) : Int) + 1 ≤ 2147483647) ∧ V w 2 mX5_oftenOf 55 [some (vR 313), some (vI s), some (vI known), some (vI what), some (vI ((n : Nat) : Int)), some (vI ((r : Nat) : Int)), some (vI ((i + 1 : Nat) : Int)), none, none] [] S J Q)))))) ((-2147483648 ≤ ((i : Nat) : Int) + 1 ∧ ((i : Nat) : Int) + 1 ≤ 2147483647) ∧ V w 2 mX5_oftenOf 55 [some (vR 313), some (vI s), some (vI known), some (vI what), some (vI ((n : Nat) : Int)), some (vI ((r : Nat) : Int)), some (vI ((i + 1 : Nat) : Int)), none, none] [] S J Q)))) :
    V w 2 mX5_oftenOf 55 [some (vR 313), some (vI s), some (vI known), some (vI what), some (vI ((n : Nat) : Int)), some (vI ((r : Nat) : Int)), some (vI ((i : Nat) : Int)), none, none] [] S J Q := by
  refine v_iload dX5_oftenOf_55 rfl ?_
  refine v_aload_n dX5_oftenOf_57 rfl ?_
  refine v_getR dX5_oftenOf_58 frX5_23_5 rfl (L_313 hL).1 (LR_313_6 hL) (Or.inl rfl) ?_
  refine v_iload dX5_oftenOf_61 rfl ?_
  obtain ⟨o1, K⟩ := K
  refine ld_317 dX5_oftenOf_63 hL (by omega) o1 ?_
  show V w 2 mX5_oftenOf 64 [some (vR 313), some (vI s), some (vI known), some (vI what), some (vI ((n : Nat) : Int)), some (vI ((r : Nat) : Int)), some (vI ((i : Nat) : Int)), none, none] [vI (J 317 r), vI ((i : Nat) : Int)] S J Q
  obtain ⟨K1, K2⟩ := K
  refine v_icmp_ge 167 dX5_oftenOf_64 (by decide) (fun c1 => ?_) (fun c1 => ?_)
  · have K := K1 c1
    obtain ⟨o2, K⟩ := K
    refine v_iinc dX5_oftenOf_167 rfl o2 ?_
    show V w 2 mX5_oftenOf 170 [some (vR 313), some (vI s), some (vI known), some (vI what), some (vI ((n : Nat) : Int)), some (vI ((r + 1 : Nat) : Int)), some (vI ((i : Nat) : Int)), none, none] [] S J Q
    refine v_goto 6 dX5_oftenOf_170 (by decide) ?_
    exact v_forget (fg_some (fg_some (fg_some (fg_some (fg_some (fg_some (fg_none (fg_none (fg_none fg_nil))))))))) K
  · have K := K2 c1
    refine v_aload_n dX5_oftenOf_67 rfl ?_
    refine v_getR dX5_oftenOf_68 frX5_26_5 rfl (L_313 hL).1 (LR_313_7 hL) (Or.inl rfl) ?_
    refine v_bipush dX5_oftenOf_71 (by decide) (in_lit (by decide)) ?_
    refine v_iload dX5_oftenOf_73 rfl ?_
    obtain ⟨o3, K⟩ := K
    refine v_imul dX5_oftenOf_75 o3 ?_
    show V w 2 mX5_oftenOf 76 [some (vR 313), some (vI s), some (vI known), some (vI what), some (vI ((n : Nat) : Int)), some (vI ((r : Nat) : Int)), some (vI ((i : Nat) : Int)), none, none] [vI ((6 * r : Nat) : Int), vR 318] S J Q
    refine v_iload dX5_oftenOf_76 rfl ?_
    obtain ⟨o4, K⟩ := K
    refine v_iadd dX5_oftenOf_78 o4 ?_
    show V w 2 mX5_oftenOf 79 [some (vR 313), some (vI s), some (vI known), some (vI what), some (vI ((n : Nat) : Int)), some (vI ((r : Nat) : Int)), some (vI ((i : Nat) : Int)), none, none] [vI (((6 * r) + i : Nat) : Int), vR 318] S J Q
    obtain ⟨o5, K⟩ := K
    refine ld_318 dX5_oftenOf_79 hL (by omega) o5 ?_
    show V w 2 mX5_oftenOf 80 [some (vR 313), some (vI s), some (vI known), some (vI what), some (vI ((n : Nat) : Int)), some (vI ((r : Nat) : Int)), some (vI ((i : Nat) : Int)), none, none] [vI (J 318 ((6 * r) + i))] S J Q
    refine v_istore dX5_oftenOf_80 (Nat.le_of_ble_eq_true rfl) ?_
    show V w 2 mX5_oftenOf 82 [some (vR 313), some (vI s), some (vI known), some (vI what), some (vI ((n : Nat) : Int)), some (vI ((r : Nat) : Int)), some (vI ((i : Nat) : Int)), some (vI (J 318 ((6 * r) + i))), none] [] S J Q
    refine v_iload dX5_oftenOf_82 rfl ?_
    refine v_iconst dX5_oftenOf_84 (in_lit (by decide)) ?_
    obtain ⟨K1, K2⟩ := K
    refine v_icmp_eq 161 dX5_oftenOf_85 (by decide) (fun c2 => ?_) (fun c2 => ?_)
    · have K := K1 c2
      obtain ⟨o6, K⟩ := K
      refine v_iinc dX5_oftenOf_161 rfl o6 ?_
      show V w 2 mX5_oftenOf 164 [some (vR 313), some (vI s), some (vI known), some (vI what), some (vI ((n : Nat) : Int)), some (vI ((r : Nat) : Int)), some (vI ((i + 1 : Nat) : Int)), some (vI (J 318 ((6 * r) + i))), none] [] S J Q
      refine v_goto 55 dX5_oftenOf_164 (by decide) ?_
      exact v_forget (fg_some (fg_some (fg_some (fg_some (fg_some (fg_some (fg_some (fg_none (fg_none fg_nil))))))))) K
    · have K := K2 c2
      refine v_aload_n dX5_oftenOf_88 rfl ?_
      refine v_getR dX5_oftenOf_89 frX5_72_5 rfl (L_313 hL).1 (LR_313_31 hL) (Or.inl rfl) ?_
      refine v_iload dX5_oftenOf_92 rfl ?_
      obtain ⟨o7, K⟩ := K
      obtain ⟨o8, K⟩ := K
      refine ld_332 dX5_oftenOf_94 hL o7 o8 ?_
      refine v_iload_n dX5_oftenOf_95 rfl ?_
      obtain ⟨K1, K2⟩ := K
      refine v_icmp_eq 102 dX5_oftenOf_96 (by decide) (fun c3 => ?_) (fun c3 => ?_)
      · have K := K1 c3
        refine v_aload_n dX5_oftenOf_102 rfl ?_
        refine v_getR dX5_oftenOf_103 frX5_23_5 rfl (L_313 hL).1 (LR_313_6 hL) (Or.inl rfl) ?_
        refine v_iload dX5_oftenOf_106 rfl ?_
        refine ld_317 dX5_oftenOf_108 hL (by omega) o1 ?_
        show V w 2 mX5_oftenOf 109 [some (vR 313), some (vI s), some (vI known), some (vI what), some (vI ((n : Nat) : Int)), some (vI ((r : Nat) : Int)), some (vI ((i : Nat) : Int)), some (vI (J 318 ((6 * r) + i))), none] [vI (J 317 r)] S J Q
        refine v_iconst dX5_oftenOf_109 (in_lit (by decide)) ?_
        obtain ⟨K1, K2⟩ := K
        refine v_icmp_ne 117 dX5_oftenOf_110 (by decide) (fun c4 => ?_) (fun c4 => ?_)
        · have K := K2 c4
          refine v_iload dX5_oftenOf_117 rfl ?_
          obtain ⟨K1, K2⟩ := K
          refine v_if_ne 126 dX5_oftenOf_119 (by decide) (fun c5 => ?_) (fun c5 => ?_)
          · have K := K2 c5
            refine v_iload dX5_oftenOf_126 rfl ?_
            refine v_aload_n dX5_oftenOf_128 rfl ?_
            refine v_getR dX5_oftenOf_129 frX5_23_5 rfl (L_313 hL).1 (LR_313_6 hL) (Or.inl rfl) ?_
            refine v_iload dX5_oftenOf_132 rfl ?_
            refine ld_317 dX5_oftenOf_134 hL (by omega) o1 ?_
            show V w 2 mX5_oftenOf 135 [some (vR 313), some (vI s), some (vI known), some (vI what), some (vI ((n : Nat) : Int)), some (vI ((r : Nat) : Int)), some (vI ((i : Nat) : Int)), some (vI (J 318 ((6 * r) + i))), none] [vI (J 317 r), vI ((i : Nat) : Int)] S J Q
            refine v_iconst dX5_oftenOf_135 (in_lit (by decide)) ?_
            obtain ⟨o9, K⟩ := K
            refine v_isub dX5_oftenOf_136 o9 ?_
            obtain ⟨K1, K2⟩ := K
            refine v_icmp_ne 144 dX5_oftenOf_137 (by decide) (fun c6 => ?_) (fun c6 => ?_)
            · have K := K2 c6
              refine v_iconst dX5_oftenOf_144 (in_lit (by decide)) ?_
              refine v_istore dX5_oftenOf_145 (Nat.le_of_ble_eq_true rfl) ?_
              show V w 2 mX5_oftenOf 147 [some (vR 313), some (vI s), some (vI known), some (vI what), some (vI ((n : Nat) : Int)), some (vI ((r : Nat) : Int)), some (vI ((i : Nat) : Int)), some (vI (J 318 ((6 * r) + i))), some (vI 3)] [] S J Q
              refine v_iload_n dX5_oftenOf_147 rfl ?_
              refine v_iconst dX5_oftenOf_148 (in_lit (by decide)) ?_
              obtain ⟨K1, K2⟩ := K
              refine v_icmp_eq 158 dX5_oftenOf_149 (by decide) (fun c7 => ?_) (fun c7 => ?_)
              · have K := K1 c7
                obtain ⟨o10, K⟩ := K
                refine v_iinc dX5_oftenOf_158 rfl o10 ?_
                show V w 2 mX5_oftenOf 161 [some (vR 313), some (vI s), some (vI known), some (vI what), some (vI ((n + 1 : Nat) : Int)), some (vI ((r : Nat) : Int)), some (vI ((i : Nat) : Int)), some (vI (J 318 ((6 * r) + i))), some (vI 3)] [] S J Q
                obtain ⟨o11, K⟩ := K
                refine v_iinc dX5_oftenOf_161 rfl o11 ?_
                show V w 2 mX5_oftenOf 164 [some (vR 313), some (vI s), some (vI known), some (vI what), some (vI ((n + 1 : Nat) : Int)), some (vI ((r : Nat) : Int)), some (vI ((i + 1 : Nat) : Int)), some (vI (J 318 ((6 * r) + i))), some (vI 3)] [] S J Q
                refine v_goto 55 dX5_oftenOf_164 (by decide) ?_
                exact v_forget (fg_some (fg_some (fg_some (fg_some (fg_some (fg_some (fg_some (fg_none (fg_none fg_nil))))))))) K
              · have K := K2 c7
                refine v_iload dX5_oftenOf_152 rfl ?_
                refine v_iload_n dX5_oftenOf_154 rfl ?_
                obtain ⟨K1, K2⟩ := K
                refine v_icmp_ne 161 dX5_oftenOf_155 (by decide) (fun c8 => ?_) (fun c8 => ?_)
                · have K := K2 c8
                  obtain ⟨o12, K⟩ := K
                  refine v_iinc dX5_oftenOf_161 rfl o12 ?_
                  show V w 2 mX5_oftenOf 164 [some (vR 313), some (vI s), some (vI known), some (vI what), some (vI ((n : Nat) : Int)), some (vI ((r : Nat) : Int)), some (vI ((i + 1 : Nat) : Int)), some (vI (J 318 ((6 * r) + i))), some (vI 3)] [] S J Q
                  refine v_goto 55 dX5_oftenOf_164 (by decide) ?_
                  exact v_forget (fg_some (fg_some (fg_some (fg_some (fg_some (fg_some (fg_some (fg_none (fg_none fg_nil))))))))) K
                · have K := K1 c8
                  obtain ⟨o13, K⟩ := K
                  refine v_iinc dX5_oftenOf_158 rfl o13 ?_
                  show V w 2 mX5_oftenOf 161 [some (vR 313), some (vI s), some (vI known), some (vI what), some (vI ((n + 1 : Nat) : Int)), some (vI ((r : Nat) : Int)), some (vI ((i : Nat) : Int)), some (vI (J 318 ((6 * r) + i))), some (vI 3)] [] S J Q
                  obtain ⟨o14, K⟩ := K
                  refine v_iinc dX5_oftenOf_161 rfl o14 ?_
                  show V w 2 mX5_oftenOf 164 [some (vR 313), some (vI s), some (vI known), some (vI what), some (vI ((n + 1 : Nat) : Int)), some (vI ((r : Nat) : Int)), some (vI ((i + 1 : Nat) : Int)), some (vI (J 318 ((6 * r) + i))), some (vI 3)] [] S J Q
                  refine v_goto 55 dX5_oftenOf_164 (by decide) ?_
                  exact v_forget (fg_some (fg_some (fg_some (fg_some (fg_some (fg_some (fg_some (fg_none (fg_none fg_nil))))))))) K
            · have K := K1 c6
              refine v_iconst dX5_oftenOf_140 (in_lit (by decide)) ?_
              refine v_goto 145 dX5_oftenOf_141 (by decide) ?_
              refine v_istore dX5_oftenOf_145 (Nat.le_of_ble_eq_true rfl) ?_
              show V w 2 mX5_oftenOf 147 [some (vR 313), some (vI s), some (vI known), some (vI what), some (vI ((n : Nat) : Int)), some (vI ((r : Nat) : Int)), some (vI ((i : Nat) : Int)), some (vI (J 318 ((6 * r) + i))), some (vI 1)] [] S J Q
              refine v_iload_n dX5_oftenOf_147 rfl ?_
              refine v_iconst dX5_oftenOf_148 (in_lit (by decide)) ?_
              obtain ⟨K1, K2⟩ := K
              refine v_icmp_eq 158 dX5_oftenOf_149 (by decide) (fun c9 => ?_) (fun c9 => ?_)
              · have K := K1 c9
                obtain ⟨o15, K⟩ := K
                refine v_iinc dX5_oftenOf_158 rfl o15 ?_
                show V w 2 mX5_oftenOf 161 [some (vR 313), some (vI s), some (vI known), some (vI what), some (vI ((n + 1 : Nat) : Int)), some (vI ((r : Nat) : Int)), some (vI ((i : Nat) : Int)), some (vI (J 318 ((6 * r) + i))), some (vI 1)] [] S J Q
                obtain ⟨o16, K⟩ := K
                refine v_iinc dX5_oftenOf_161 rfl o16 ?_
                show V w 2 mX5_oftenOf 164 [some (vR 313), some (vI s), some (vI known), some (vI what), some (vI ((n + 1 : Nat) : Int)), some (vI ((r : Nat) : Int)), some (vI ((i + 1 : Nat) : Int)), some (vI (J 318 ((6 * r) + i))), some (vI 1)] [] S J Q
                refine v_goto 55 dX5_oftenOf_164 (by decide) ?_
                exact v_forget (fg_some (fg_some (fg_some (fg_some (fg_some (fg_some (fg_some (fg_none (fg_none fg_nil))))))))) K
              · have K := K2 c9
                refine v_iload dX5_oftenOf_152 rfl ?_
                refine v_iload_n dX5_oftenOf_154 rfl ?_
                obtain ⟨K1, K2⟩ := K
                refine v_icmp_ne 161 dX5_oftenOf_155 (by decide) (fun c10 => ?_) (fun c10 => ?_)
                · have K := K2 c10
                  obtain ⟨o17, K⟩ := K
                  refine v_iinc dX5_oftenOf_161 rfl o17 ?_
                  show V w 2 mX5_oftenOf 164 [some (vR 313), some (vI s), some (vI known), some (vI what), some (vI ((n : Nat) : Int)), some (vI ((r : Nat) : Int)), some (vI ((i + 1 : Nat) : Int)), some (vI (J 318 ((6 * r) + i))), some (vI 1)] [] S J Q
                  refine v_goto 55 dX5_oftenOf_164 (by decide) ?_
                  exact v_forget (fg_some (fg_some (fg_some (fg_some (fg_some (fg_some (fg_some (fg_none (fg_none fg_nil))))))))) K
                · have K := K1 c10
                  obtain ⟨o18, K⟩ := K
                  refine v_iinc dX5_oftenOf_158 rfl o18 ?_
                  show V w 2 mX5_oftenOf 161 [some (vR 313), some (vI s), some (vI known), some (vI what), some (vI ((n + 1 : Nat) : Int)), some (vI ((r : Nat) : Int)), some (vI ((i : Nat) : Int)), some (vI (J 318 ((6 * r) + i))), some (vI 1)] [] S J Q
                  obtain ⟨o19, K⟩ := K
                  refine v_iinc dX5_oftenOf_161 rfl o19 ?_
                  show V w 2 mX5_oftenOf 164 [some (vR 313), some (vI s), some (vI known), some (vI what), some (vI ((n + 1 : Nat) : Int)), some (vI ((r : Nat) : Int)), some (vI ((i + 1 : Nat) : Int)), some (vI (J 318 ((6 * r) + i))), some (vI 1)] [] S J Q
                  refine v_goto 55 dX5_oftenOf_164 (by decide) ?_
                  exact v_forget (fg_some (fg_some (fg_some (fg_some (fg_some (fg_some (fg_some (fg_none (fg_none fg_nil))))))))) K
          · have K := K1 c5
            refine v_iconst dX5_oftenOf_122 (in_lit (by decide)) ?_
            refine v_goto 145 dX5_oftenOf_123 (by decide) ?_
            refine v_istore dX5_oftenOf_145 (Nat.le_of_ble_eq_true rfl) ?_
            show V w 2 mX5_oftenOf 147 [some (vR 313), some (vI s), some (vI known), some (vI what), some (vI ((n : Nat) : Int)), some (vI ((r : Nat) : Int)), some (vI ((i : Nat) : Int)), some (vI (J 318 ((6 * r) + i))), some (vI 0)] [] S J Q
            refine v_iload_n dX5_oftenOf_147 rfl ?_
            refine v_iconst dX5_oftenOf_148 (in_lit (by decide)) ?_
            obtain ⟨K1, K2⟩ := K
            refine v_icmp_eq 158 dX5_oftenOf_149 (by decide) (fun c11 => ?_) (fun c11 => ?_)
            · have K := K1 c11
              obtain ⟨o20, K⟩ := K
              refine v_iinc dX5_oftenOf_158 rfl o20 ?_
              show V w 2 mX5_oftenOf 161 [some (vR 313), some (vI s), some (vI known), some (vI what), some (vI ((n + 1 : Nat) : Int)), some (vI ((r : Nat) : Int)), some (vI ((i : Nat) : Int)), some (vI (J 318 ((6 * r) + i))), some (vI 0)] [] S J Q
              obtain ⟨o21, K⟩ := K
              refine v_iinc dX5_oftenOf_161 rfl o21 ?_
              show V w 2 mX5_oftenOf 164 [some (vR 313), some (vI s), some (vI known), some (vI what), some (vI ((n + 1 : Nat) : Int)), some (vI ((r : Nat) : Int)), some (vI ((i + 1 : Nat) : Int)), some (vI (J 318 ((6 * r) + i))), some (vI 0)] [] S J Q
              refine v_goto 55 dX5_oftenOf_164 (by decide) ?_
              exact v_forget (fg_some (fg_some (fg_some (fg_some (fg_some (fg_some (fg_some (fg_none (fg_none fg_nil))))))))) K
            · have K := K2 c11
              refine v_iload dX5_oftenOf_152 rfl ?_
              refine v_iload_n dX5_oftenOf_154 rfl ?_
              obtain ⟨K1, K2⟩ := K
              refine v_icmp_ne 161 dX5_oftenOf_155 (by decide) (fun c12 => ?_) (fun c12 => ?_)
              · have K := K2 c12
                obtain ⟨o22, K⟩ := K
                refine v_iinc dX5_oftenOf_161 rfl o22 ?_
                show V w 2 mX5_oftenOf 164 [some (vR 313), some (vI s), some (vI known), some (vI what), some (vI ((n : Nat) : Int)), some (vI ((r : Nat) : Int)), some (vI ((i + 1 : Nat) : Int)), some (vI (J 318 ((6 * r) + i))), some (vI 0)] [] S J Q
                refine v_goto 55 dX5_oftenOf_164 (by decide) ?_
                exact v_forget (fg_some (fg_some (fg_some (fg_some (fg_some (fg_some (fg_some (fg_none (fg_none fg_nil))))))))) K
              · have K := K1 c12
                obtain ⟨o23, K⟩ := K
                refine v_iinc dX5_oftenOf_158 rfl o23 ?_
                show V w 2 mX5_oftenOf 161 [some (vR 313), some (vI s), some (vI known), some (vI what), some (vI ((n + 1 : Nat) : Int)), some (vI ((r : Nat) : Int)), some (vI ((i : Nat) : Int)), some (vI (J 318 ((6 * r) + i))), some (vI 0)] [] S J Q
                obtain ⟨o24, K⟩ := K
                refine v_iinc dX5_oftenOf_161 rfl o24 ?_
                show V w 2 mX5_oftenOf 164 [some (vR 313), some (vI s), some (vI known), some (vI what), some (vI ((n + 1 : Nat) : Int)), some (vI ((r : Nat) : Int)), some (vI ((i + 1 : Nat) : Int)), some (vI (J 318 ((6 * r) + i))), some (vI 0)] [] S J Q
                refine v_goto 55 dX5_oftenOf_164 (by decide) ?_
                exact v_forget (fg_some (fg_some (fg_some (fg_some (fg_some (fg_some (fg_some (fg_none (fg_none fg_nil))))))))) K
        · have K := K1 c4
          refine v_iconst dX5_oftenOf_113 (in_lit (by decide)) ?_
          refine v_goto 145 dX5_oftenOf_114 (by decide) ?_
          refine v_istore dX5_oftenOf_145 (Nat.le_of_ble_eq_true rfl) ?_
          show V w 2 mX5_oftenOf 147 [some (vR 313), some (vI s), some (vI known), some (vI what), some (vI ((n : Nat) : Int)), some (vI ((r : Nat) : Int)), some (vI ((i : Nat) : Int)), some (vI (J 318 ((6 * r) + i))), some (vI 2)] [] S J Q
          refine v_iload_n dX5_oftenOf_147 rfl ?_
          refine v_iconst dX5_oftenOf_148 (in_lit (by decide)) ?_
          obtain ⟨K1, K2⟩ := K
          refine v_icmp_eq 158 dX5_oftenOf_149 (by decide) (fun c13 => ?_) (fun c13 => ?_)
          · have K := K1 c13
            obtain ⟨o25, K⟩ := K
            refine v_iinc dX5_oftenOf_158 rfl o25 ?_
            show V w 2 mX5_oftenOf 161 [some (vR 313), some (vI s), some (vI known), some (vI what), some (vI ((n + 1 : Nat) : Int)), some (vI ((r : Nat) : Int)), some (vI ((i : Nat) : Int)), some (vI (J 318 ((6 * r) + i))), some (vI 2)] [] S J Q
            obtain ⟨o26, K⟩ := K
            refine v_iinc dX5_oftenOf_161 rfl o26 ?_
            show V w 2 mX5_oftenOf 164 [some (vR 313), some (vI s), some (vI known), some (vI what), some (vI ((n + 1 : Nat) : Int)), some (vI ((r : Nat) : Int)), some (vI ((i + 1 : Nat) : Int)), some (vI (J 318 ((6 * r) + i))), some (vI 2)] [] S J Q
            refine v_goto 55 dX5_oftenOf_164 (by decide) ?_
            exact v_forget (fg_some (fg_some (fg_some (fg_some (fg_some (fg_some (fg_some (fg_none (fg_none fg_nil))))))))) K
          · have K := K2 c13
            refine v_iload dX5_oftenOf_152 rfl ?_
            refine v_iload_n dX5_oftenOf_154 rfl ?_
            obtain ⟨K1, K2⟩ := K
            refine v_icmp_ne 161 dX5_oftenOf_155 (by decide) (fun c14 => ?_) (fun c14 => ?_)
            · have K := K2 c14
              obtain ⟨o27, K⟩ := K
              refine v_iinc dX5_oftenOf_161 rfl o27 ?_
              show V w 2 mX5_oftenOf 164 [some (vR 313), some (vI s), some (vI known), some (vI what), some (vI ((n : Nat) : Int)), some (vI ((r : Nat) : Int)), some (vI ((i + 1 : Nat) : Int)), some (vI (J 318 ((6 * r) + i))), some (vI 2)] [] S J Q
              refine v_goto 55 dX5_oftenOf_164 (by decide) ?_
              exact v_forget (fg_some (fg_some (fg_some (fg_some (fg_some (fg_some (fg_some (fg_none (fg_none fg_nil))))))))) K
            · have K := K1 c14
              obtain ⟨o28, K⟩ := K
              refine v_iinc dX5_oftenOf_158 rfl o28 ?_
              show V w 2 mX5_oftenOf 161 [some (vR 313), some (vI s), some (vI known), some (vI what), some (vI ((n + 1 : Nat) : Int)), some (vI ((r : Nat) : Int)), some (vI ((i : Nat) : Int)), some (vI (J 318 ((6 * r) + i))), some (vI 2)] [] S J Q
              obtain ⟨o29, K⟩ := K
              refine v_iinc dX5_oftenOf_161 rfl o29 ?_
              show V w 2 mX5_oftenOf 164 [some (vR 313), some (vI s), some (vI known), some (vI what), some (vI ((n + 1 : Nat) : Int)), some (vI ((r : Nat) : Int)), some (vI ((i + 1 : Nat) : Int)), some (vI (J 318 ((6 * r) + i))), some (vI 2)] [] S J Q
              refine v_goto 55 dX5_oftenOf_164 (by decide) ?_
              exact v_forget (fg_some (fg_some (fg_some (fg_some (fg_some (fg_some (fg_some (fg_none (fg_none fg_nil))))))))) K
      · have K := K2 c3
        refine v_goto 161 dX5_oftenOf_99 (by decide) ?_
        obtain ⟨o30, K⟩ := K
        refine v_iinc dX5_oftenOf_161 rfl o30 ?_
        show V w 2 mX5_oftenOf 164 [some (vR 313), some (vI s), some (vI known), some (vI what), some (vI ((n : Nat) : Int)), some (vI ((r : Nat) : Int)), some (vI ((i + 1 : Nat) : Int)), some (vI (J 318 ((6 * r) + i))), none] [] S J Q
        refine v_goto 55 dX5_oftenOf_164 (by decide) ?_
        exact v_forget (fg_some (fg_some (fg_some (fg_some (fg_some (fg_some (fg_some (fg_none (fg_none fg_nil))))))))) K

/-- where in its row: 2 alone, 0 first, 1 last, 3 within -/
def posI (size : Int) (i : Nat) : Int := if size = 1 then 2 else if i = 0 then 0 else if (i : Int) = size - 1 then 1 else 3
def occB (J : Jm) (st : Nat → Int) (s what : Int) (r i : Nat) : Bool := decide (J 318 (6 * r + i) ≠ -1 ∧ st (J 318 (6 * r + i)).toNat = s ∧ (what = 4 ∨ posI (J 317 r) i = what))
def ofN (J : Jm) (st : Nat → Int) (known s what : Int) : Nat → Nat
  | 0 => 0
  | r + 1 => ofN J st known s what r + if rwB J known r = true then cntB (occB J st s what r) (J 317 r).toNat else 0
/-- how often a sign stands in the rows that count -/
def ofM (J : Jm) (st : Nat → Int) (known s what : Int) : Int := ((ofN J st known s what (8 * (J 313 2).toNat) : Nat) : Int)
theorem MTab.row {J : Jm} (hT : MTab J) {known : Int} {r : Nat} (h : rwB J known r = true) : (1 ≤ J 317 r ∧ J 317 r ≤ 6) ∧ ∀ i : Nat, (i : Int) < J 317 r → -1 ≤ J 318 (6 * r + i) ∧ J 318 (6 * r + i) < 40 := by
  unfold rwB at h
  simp only [Bool.and_eq_true, decide_eq_true_iff] at h
  have e := hT.2 (r / 8) (by omega)
  have e2 := e.2 (r % 8) h.2.1
  rw [show 8 * (r / 8) + r % 8 = r by omega] at e2
  exact e2
theorem ofN_le {J : Jm} (hT : MTab J) (st : Nat → Int) (known s what : Int) : ∀ r, ofN J st known s what r ≤ 6 * r
  | 0 => by simp [ofN]
  | r + 1 => by
    have h1 := ofN_le hT st known s what r
    rw [ofN]
    by_cases h : rwB J known r = true
    · rw [if_pos h]
      have h2 := (hT.row h).1
      have h3 := cntB_le (occB J st s what r) (J 317 r).toNat
      omega
    · rw [if_neg h]; omega
theorem ofM_le {J : Jm} (hT : MTab J) (st : Nat → Int) (known s what : Int) : 0 ≤ ofM J st known s what ∧ ofM J st known s what ≤ 1152 := by
  have h1 := ofN_le hT st known s what (8 * (J 313 2).toNat)
  have h2 := hT.1
  unfold ofM
  omega
theorem s_oftenOf {w : Wd} {S : Sh} {J : Jm} {Q : Out → Sh → Jm → Prop} (hL : Lay S) (s known what : Int) (hT : MTab J) (K : Q (.inl (some (vI (ofM J (J 332) known s what)))) S J) : V w 2 mX5_oftenOf 0 (ent mX5_oftenOf [vR 313, vI s, vI known, vI what]) [] S J Q := by
  obtain ⟨T, eT⟩ : ∃ T : Nat, J 313 2 = T := ⟨(J 313 2).toNat, by have := hT.1.1; omega⟩
  have hT24 : T ≤ 24 := by have := hT.1.2; omega
  unfold ofM at K
  rw [eT, Int.toNat_natCast] at K
  refine gX5_oftenOf_0 hL s known what ?_
  have loop : ∀ (m r : Nat), r + m = 8 * T → V w 2 mX5_oftenOf 6 [some (vR 313), some (vI s), some (vI known), some (vI what), some (vI ((ofN J (J 332) known s what r : Nat) : Int)), some (vI (r : Int)), none, none, none] [] S J Q := by
    intro m
    induction m with
    | zero =>
      intro r hr
      obtain rfl : r = 8 * T := by omega
      refine gX5_oftenOf_6 hL s known what _ (8 * T) ?_
      (repeat' (first | ((with_reducible refine And.intro ?_ ?_); omega)))
      exact br_y (by rw [eT]; push_cast; omega) K
    | succ m ih =>
      intro r hr
      have ih1 := ih (r + 1) (by omega)
      have hb : ((r / 8 : Nat) : Int) < J 313 2 := by rw [eT]; omega
      refine gX5_oftenOf_6 hL s known what _ r ?_
      rw [Int.toNat_natCast]
      (repeat' (first | ((with_reducible refine And.intro ?_ ?_); omega)))
      refine br_n (by rw [eT]; omega) ?_
      (repeat' (first | ((with_reducible refine And.intro ?_ ?_); omega)))
      refine br_i (fun c1 => ?_) (fun c1 => ?_)
      · (repeat' (first | ((with_reducible refine And.intro ?_ ?_); omega)))
        rw [ofN, if_neg] at ih1
        · exact ih1
        · intro q
          unfold rwB at q
          simp only [Bool.and_eq_true, decide_eq_true_iff] at q
          omega
      · (repeat' (first | ((with_reducible refine And.intro ?_ ?_); omega)))
        refine br_i (fun c2 => ?_) (fun c2 => ?_)
        · have hr : rwB J known r = true := by
            unfold rwB tabB
            simp only [Bool.and_eq_true, decide_eq_true_iff]
            exact ⟨by rw [eT]; omega, by omega, c2⟩
          rw [ofN, if_pos hr] at ih1
          have hrow := hT.row hr
          obtain ⟨N, eN⟩ : ∃ N : Nat, J 317 r = N := ⟨(J 317 r).toNat, by omega⟩
          have hR := ofN_le hT (J 332) known s what r
          rw [eN, Int.toNat_natCast] at ih1
          have inner : ∀ (v i : Nat), i + v = N → V w 2 mX5_oftenOf 55 [some (vR 313), some (vI s), some (vI known), some (vI what), some (vI ((ofN J (J 332) known s what r + cntB (occB J (J 332) s what r) i : Nat) : Int)), some (vI (r : Int)), some (vI (i : Int)), none, none] [] S J Q := by
            intro v
            induction v with
            | zero =>
              intro i hi
              obtain rfl : i = N := by omega
              refine gX5_oftenOf_55 hL s known what _ r i ?_
              (repeat' (first | ((with_reducible refine And.intro ?_ ?_); omega)))
              rw [eN]
              refine br_y (by omega) ?_
              (repeat' (first | ((with_reducible refine And.intro ?_ ?_); omega)))
              exact ih1
            | succ v ihv =>
              intro i hi
              have iv := ihv (i + 1) (by omega)
              rw [cntB] at iv
              have hp := hrow.2 i (by omega)
              have hc := cntB_le (occB J (J 332) s what r) i
              refine gX5_oftenOf_55 hL s known what _ r i ?_
              rw [eN]
              have yes : occB J (J 332) s what r i = true → V w 2 mX5_oftenOf 55 [some (vR 313), some (vI s), some (vI known), some (vI what), some (vI ((ofN J (J 332) known s what r + cntB (occB J (J 332) s what r) i + 1 : Nat) : Int)), some (vI (r : Int)), some (vI ((i + 1 : Nat) : Int)), none, none] [] S J Q := fun q => by rw [if_pos q] at iv; exact iv
              have no : ¬ occB J (J 332) s what r i = true → V w 2 mX5_oftenOf 55 [some (vR 313), some (vI s), some (vI known), some (vI what), some (vI ((ofN J (J 332) known s what r + cntB (occB J (J 332) s what r) i : Nat) : Int)), some (vI (r : Int)), some (vI ((i + 1 : Nat) : Int)), none, none] [] S J Q := fun q => by rw [if_neg q] at iv; exact iv
              have eO : occB J (J 332) s what r i = decide (J 318 (6 * r + i) ≠ -1 ∧ J 332 (J 318 (6 * r + i)).toNat = s ∧ (what = 4 ∨ (if (N : Int) = 1 then 2 else if i = 0 then 0 else if (i : Int) = (N : Int) - 1 then 1 else 3) = what)) := by unfold occB posI; rw [eN]
              rw [eO, decide_eq_true_iff] at yes no
              clear iv ihv ih1 ih K
              (repeat' (first | ((with_reducible refine And.intro ?_ ?_); omega)))
              refine br_n (by omega) ?_
              (repeat' (first | ((with_reducible refine And.intro ?_ ?_); omega)))
              refine br_i (fun d1 => ?_) (fun d1 => ?_)
              · (repeat' (first | ((with_reducible refine And.intro ?_ ?_); omega)))
                exact no (fun q => q.1 d1)
              · (repeat' (first | ((with_reducible refine And.intro ?_ ?_); omega)))
                refine br_i (fun d2 => ?_) (fun d2 => ?_)
                · refine br_i (fun d3 => ?_) (fun d3 => ?_)
                  · rw [if_pos d3] at yes no
                    refine br_i (fun d6 => ?_) (fun d6 => ?_)
                    · (repeat' (first | ((with_reducible refine And.intro ?_ ?_); omega)))
                      exact yes ⟨d1, d2, .inl d6⟩
                    · refine br_i (fun d7 => ?_) (fun d7 => ?_)
                      · (repeat' (first | ((with_reducible refine And.intro ?_ ?_); omega)))
                        exact yes ⟨d1, d2, .inr d7⟩
                      · (repeat' (first | ((with_reducible refine And.intro ?_ ?_); omega)))
                        exact no (fun q => q.2.2.elim d6 d7)
                  · rw [if_neg d3] at yes no
                    refine br_i (fun d4 => ?_) (fun d4 => ?_)
                    · rw [if_pos (by omega)] at yes no
                      refine br_i (fun d6 => ?_) (fun d6 => ?_)
                      · (repeat' (first | ((with_reducible refine And.intro ?_ ?_); omega)))
                        exact yes ⟨d1, d2, .inl d6⟩
                      · refine br_i (fun d7 => ?_) (fun d7 => ?_)
                        · (repeat' (first | ((with_reducible refine And.intro ?_ ?_); omega)))
                          exact yes ⟨d1, d2, .inr d7⟩
                        · (repeat' (first | ((with_reducible refine And.intro ?_ ?_); omega)))
                          exact no (fun q => q.2.2.elim d6 d7)
                    · rw [if_neg (by omega)] at yes no
                      (repeat' (first | ((with_reducible refine And.intro ?_ ?_); omega)))
                      refine br_i (fun d5 => ?_) (fun d5 => ?_)
                      · rw [if_pos d5] at yes no
                        refine br_i (fun d6 => ?_) (fun d6 => ?_)
                        · (repeat' (first | ((with_reducible refine And.intro ?_ ?_); omega)))
                          exact yes ⟨d1, d2, .inl d6⟩
                        · refine br_i (fun d7 => ?_) (fun d7 => ?_)
                          · (repeat' (first | ((with_reducible refine And.intro ?_ ?_); omega)))
                            exact yes ⟨d1, d2, .inr d7⟩
                          · (repeat' (first | ((with_reducible refine And.intro ?_ ?_); omega)))
                            exact no (fun q => q.2.2.elim d6 d7)
                      · rw [if_neg d5] at yes no
                        refine br_i (fun d6 => ?_) (fun d6 => ?_)
                        · (repeat' (first | ((with_reducible refine And.intro ?_ ?_); omega)))
                          exact yes ⟨d1, d2, .inl d6⟩
                        · refine br_i (fun d7 => ?_) (fun d7 => ?_)
                          · (repeat' (first | ((with_reducible refine And.intro ?_ ?_); omega)))
                            exact yes ⟨d1, d2, .inr d7⟩
                          · (repeat' (first | ((with_reducible refine And.intro ?_ ?_); omega)))
                            exact no (fun q => q.2.2.elim d6 d7)
                · (repeat' (first | ((with_reducible refine And.intro ?_ ?_); omega)))
                  exact no (fun q => d2 q.2.1)
          exact inner N 0 (by omega)
        · (repeat' (first | ((with_reducible refine And.intro ?_ ?_); omega)))
          rw [ofN, if_neg] at ih1
          · exact ih1
          · intro q
            unfold rwB tabB at q
            simp only [Bool.and_eq_true, decide_eq_true_iff] at q
            exact c2 q.2.2
  exact loop (8 * T) 0 (by omega)
theorem gX5_often_0 {w : Wd} {S : Sh} {J : Jm} {Q : Out → Sh → Jm → Prop} (hL : Lay S) (s : Int) (known : Int) (what : Int)
    (K : Br (0 ≤ s ∧ s < 40) (Br (0 ≤ known ∧ known ≤ (J 313 1)) (Br ((0 : Int) ≤ what ∧ what ≤ (4 : Int)) ((MHeld (up J 313 0 0)) ∧ (∀ (J1 : Jm), PStand (up J 313 0 0) known J1 → (MTab J1) ∧ Q (.inl (some (vI (ofM J1 (J1 332) known (J1 332 s.toNat) what)))) S J1)) (Q (.inl (some (vI (-1)))) S (up J 313 0 0))) (Q (.inl (some (vI (-1)))) S (up J 313 0 0))) (Q (.inl (some (vI (-1)))) S (up J 313 0 0))) :
    V w 3 mX5_often 0 (ent mX5_often [vR 313, vI s, vI known, vI what]) [] S J Q := by
  show V w 3 mX5_often 0 [some (vR 313), some (vI s), some (vI known), some (vI what)] [] S J Q
  refine v_aload_n dX5_often_0 rfl ?_
  refine v_iconst dX5_often_1 (in_lit (by decide)) ?_
  refine v_putI dX5_often_2 frX5_1_5 (fun _ _ _ h => by cases h; exact Or.inl rfl) rfl rfl zfit_int (L_313 hL).1 ?_
  show V w 3 mX5_often 5 [some (vR 313), some (vI s), some (vI known), some (vI what)] [] S (up J 313 0 0) Q
  refine v_iload_n dX5_often_5 rfl ?_
  refine v_callS (d' := 0) (rest := []) [vI s] dX5_often_6 srX5_288 rfl (one_I one_nil) (Nat.le_of_ble_eq_true rfl) (Nat.le_of_ble_eq_true rfl) (Nat.le_of_ble_eq_true rfl) ?_
  obtain ⟨K1, K2⟩ := K
  refine sX5_isSignNumber hL s  (fun c1 => ?_) (fun c1 => ?_)
  · have K := K1 c1
    show V w 3 mX5_often 9 [some (vR 313), some (vI s), some (vI known), some (vI what)] [vI 1] S (up J 313 0 0) Q
    refine v_if_eq 29 dX5_often_9 (by decide) (fun cQ => absurd cQ (by decide)) (fun _ => ?_)
    refine v_aload_n dX5_often_12 rfl ?_
    refine v_iload_n dX5_often_13 rfl ?_
    refine v_callV (d' := 0) (rest := []) [vI known] dX5_often_14 vrX5_298_5 (L_313 hL).1 rfl rfl (one_I one_nil) (Nat.le_of_ble_eq_true rfl) (Nat.le_of_ble_eq_true rfl) (Nat.le_of_ble_eq_true rfl) ?_
    obtain ⟨K1, K2⟩ := K
    refine sX5_isKnown hL known  (fun c2 => ?_) (fun c2 => ?_)
    · have K := K1 c2
      show V w 3 mX5_often 17 [some (vR 313), some (vI s), some (vI known), some (vI what)] [vI 1] S (up J 313 0 0) Q
      refine v_if_eq 29 dX5_often_17 (by decide) (fun cQ => absurd cQ (by decide)) (fun _ => ?_)
      refine v_iload_n dX5_often_20 rfl ?_
      refine v_iconst dX5_often_21 (in_lit (by decide)) ?_
      refine v_iconst dX5_often_22 (in_lit (by decide)) ?_
      refine v_callS (d' := 0) (rest := []) [vI what, vI 0, vI 4] dX5_often_23 srX5_169 rfl (one_I (one_I (one_I one_nil))) (Nat.le_of_ble_eq_true rfl) (Nat.le_of_ble_eq_true rfl) (Nat.le_of_ble_eq_true rfl) ?_
      obtain ⟨K1, K2⟩ := K
      refine sX5_within hL what (0 : Int) (4 : Int)  (fun c3 => ?_) (fun c3 => ?_)
      · have K := K1 c3
        show V w 3 mX5_often 26 [some (vR 313), some (vI s), some (vI known), some (vI what)] [vI 1] S (up J 313 0 0) Q
        refine v_if_ne 31 dX5_often_26 (by decide) (fun _ => ?_) (fun cQ => absurd cQ (by decide))
        refine v_aload_n dX5_often_31 rfl ?_
        refine v_iload_n dX5_often_32 rfl ?_
        refine v_callV (d' := 1) (rest := []) [vI known] dX5_often_33 vrX5_301_5 (L_313 hL).1 rfl rfl (one_I one_nil) (Nat.le_of_ble_eq_true rfl) (Nat.le_of_ble_eq_true rfl) (Nat.le_of_ble_eq_true rfl) ?_
        obtain ⟨o1, K⟩ := K
        refine s_findStands hL known o1 (fun J1 hp => ?_)
        have K := K J1 hp
        show V w 3 mX5_often 36 [some (vR 313), some (vI s), some (vI known), some (vI what)] [] S J1 Q
        refine v_aload_n dX5_often_36 rfl ?_
        refine v_aload_n dX5_often_37 rfl ?_
        refine v_getR dX5_often_38 frX5_72_5 rfl (L_313 hL).1 (LR_313_31 hL) (Or.inl rfl) ?_
        refine v_iload_n dX5_often_41 rfl ?_
        refine ld_332 dX5_often_42 hL c1.1 c1.2 ?_
        refine v_iload_n dX5_often_43 rfl ?_
        refine v_iload_n dX5_often_44 rfl ?_
        refine v_callV (d' := 2) (rest := []) [vI (J1 332 s.toNat), vI known, vI what] dX5_often_45 vrX5_459_5 (L_313 hL).1 rfl rfl (one_I (one_I (one_I one_nil))) (Nat.le_of_ble_eq_true rfl) (Nat.le_of_ble_eq_true rfl) (Nat.le_of_ble_eq_true rfl) ?_
        obtain ⟨o2, K⟩ := K
        refine s_oftenOf hL (J1 332 s.toNat) known what o2 ?_
        show V w 3 mX5_often 48 [some (vR 313), some (vI s), some (vI known), some (vI what)] [vI (ofM J1 (J1 332) known (J1 332 s.toNat) what)] S J1 Q
        exact v_iret dX5_often_48 rfl rfl K
      · have K := K2 c3
        show V w 3 mX5_often 26 [some (vR 313), some (vI s), some (vI known), some (vI what)] [vI 0] S (up J 313 0 0) Q
        refine v_if_ne 31 dX5_often_26 (by decide) (fun cQ => absurd cQ (by decide)) (fun _ => ?_)
        refine v_iconst dX5_often_29 (in_lit (by decide)) ?_
        exact v_iret dX5_often_30 rfl rfl K
    · have K := K2 c2
      show V w 3 mX5_often 17 [some (vR 313), some (vI s), some (vI known), some (vI what)] [vI 0] S (up J 313 0 0) Q
      refine v_if_eq 29 dX5_often_17 (by decide) (fun _ => ?_) (fun cQ => absurd cQ (by decide))
      refine v_iconst dX5_often_29 (in_lit (by decide)) ?_
      exact v_iret dX5_often_30 rfl rfl K
  · have K := K2 c1
    show V w 3 mX5_often 9 [some (vR 313), some (vI s), some (vI known), some (vI what)] [vI 0] S (up J 313 0 0) Q
    refine v_if_eq 29 dX5_often_9 (by decide) (fun _ => ?_) (fun cQ => absurd cQ (by decide))
    refine v_iconst dX5_often_29 (in_lit (by decide)) ?_
    exact v_iret dX5_often_30 rfl rfl K
theorem gX5_rank_0 {w : Wd} {S : Sh} {J : Jm} {Q : Out → Sh → Jm → Prop} (hL : Lay S) (known : Int) (i : Int)
    (K : Br (0 ≤ known ∧ known ≤ (J 313 1)) (Br (0 ≤ i) ((MHeld (up J 313 0 0)) ∧ (∀ (J1 : Jm), PStand (up J 313 0 0) known J1 → V w 3 mX5_rank 26 [some (vR 313), some (vI known), some (vI i), some (vI 0), none, none, none, none, none] [] S J1 Q)) (Q (.inl (some (vI (-1)))) S (up J 313 0 0))) (Q (.inl (some (vI (-1)))) S (up J 313 0 0))) :
    V w 3 mX5_rank 0 (ent mX5_rank [vR 313, vI known, vI i]) [] S J Q := by
  show V w 3 mX5_rank 0 [some (vR 313), some (vI known), some (vI i), none, none, none, none, none, none] [] S J Q
  refine v_aload_n dX5_rank_0 rfl ?_
  refine v_iconst dX5_rank_1 (in_lit (by decide)) ?_
  refine v_putI dX5_rank_2 frX5_1_5 (fun _ _ _ h => by cases h; exact Or.inl rfl) rfl rfl zfit_int (L_313 hL).1 ?_
  show V w 3 mX5_rank 5 [some (vR 313), some (vI known), some (vI i), none, none, none, none, none, none] [] S (up J 313 0 0) Q
  refine v_aload_n dX5_rank_5 rfl ?_
  refine v_iload_n dX5_rank_6 rfl ?_
  refine v_callV (d' := 0) (rest := []) [vI known] dX5_rank_7 vrX5_298_5 (L_313 hL).1 rfl rfl (one_I one_nil) (Nat.le_of_ble_eq_true rfl) (Nat.le_of_ble_eq_true rfl) (Nat.le_of_ble_eq_true rfl) ?_
  obtain ⟨K1, K2⟩ := K
  refine sX5_isKnown hL known  (fun c1 => ?_) (fun c1 => ?_)
  · have K := K1 c1
    show V w 3 mX5_rank 10 [some (vR 313), some (vI known), some (vI i), none, none, none, none, none, none] [vI 1] S (up J 313 0 0) Q
    refine v_if_eq 17 dX5_rank_10 (by decide) (fun cQ => absurd cQ (by decide)) (fun _ => ?_)
    refine v_iload_n dX5_rank_13 rfl ?_
    obtain ⟨K1, K2⟩ := K
    refine v_if_ge 19 dX5_rank_14 (by decide) (fun c2 => ?_) (fun c2 => ?_)
    · have K := K1 c2
      refine v_aload_n dX5_rank_19 rfl ?_
      refine v_iload_n dX5_rank_20 rfl ?_
      refine v_callV (d' := 1) (rest := []) [vI known] dX5_rank_21 vrX5_301_5 (L_313 hL).1 rfl rfl (one_I one_nil) (Nat.le_of_ble_eq_true rfl) (Nat.le_of_ble_eq_true rfl) (Nat.le_of_ble_eq_true rfl) ?_
      obtain ⟨o1, K⟩ := K
      refine s_findStands hL known o1 (fun J1 hp => ?_)
      have K := K J1 hp
      show V w 3 mX5_rank 24 [some (vR 313), some (vI known), some (vI i), none, none, none, none, none, none] [] S J1 Q
      refine v_iconst dX5_rank_24 (in_lit (by decide)) ?_
      refine v_istore_n dX5_rank_25 (Nat.le_of_ble_eq_true rfl) ?_
      show V w 3 mX5_rank 26 [some (vR 313), some (vI known), some (vI i), some (vI 0), none, none, none, none, none] [] S J1 Q
      exact K
    · have K := K2 c2
      refine v_iconst dX5_rank_17 (in_lit (by decide)) ?_
      exact v_iret dX5_rank_18 rfl rfl K
  · have K := K2 c1
    show V w 3 mX5_rank 10 [some (vR 313), some (vI known), some (vI i), none, none, none, none, none, none] [vI 0] S (up J 313 0 0) Q
    refine v_if_eq 17 dX5_rank_10 (by decide) (fun _ => ?_) (fun cQ => absurd cQ (by decide))
    refine v_iconst dX5_rank_17 (in_lit (by decide)) ?_
    exact v_iret dX5_rank_18 rfl rfl K
theorem gX5_rank_26 {w : Wd} {S : Sh} {J : Jm} {Q : Out → Sh → Jm → Prop} (hL : Lay S) (known : Int) (i : Int) (s : Nat)
    (K : Br (40 ≤ ((s : Nat) : Int)) (Q (.inl (some (vI (-1)))) S J) ((MTab J) ∧ Br (ofM J (J 332) known ((s : Nat) : Int) (4 : Int) = 0) ((-2147483648 ≤ ((s : Nat) : Int) + 1 ∧ ((s : Nat) : Int) + 1 ≤ 2147483647) ∧ V w 3 mX5_rank 26 [some (vR 313), some (vI known), some (vI i), some (vI ((s + 1 : Nat) : Int)), none, none, none, none, none] [] S J Q) (V w 3 mX5_rank 64 [some (vR 313), some (vI known), some (vI i), some (vI ((s : Nat) : Int)), some (vI (ofM J (J 332) known ((s : Nat) : Int) (4 : Int))), some (vI (ofM J (J 332) known ((s : Nat) : Int) (0 : Int))), some (vI 0), some (vI 0), none] [] S J Q))) :
    V w 3 mX5_rank 26 [some (vR 313), some (vI known), some (vI i), some (vI ((s : Nat) : Int)), none, none, none, none, none] [] S J Q := by
  refine v_iload_n dX5_rank_26 rfl ?_
  refine v_bipush dX5_rank_27 (by decide) (in_lit (by decide)) ?_
  obtain ⟨K1, K2⟩ := K
  refine v_icmp_ge 152 dX5_rank_29 (by decide) (fun c1 => ?_) (fun c1 => ?_)
  · have K := K1 c1
    refine v_iconst dX5_rank_152 (in_lit (by decide)) ?_
    exact v_iret dX5_rank_153 rfl rfl K
  · have K := K2 c1
    refine v_aload_n dX5_rank_32 rfl ?_
    refine v_iload_n dX5_rank_33 rfl ?_
    refine v_iload_n dX5_rank_34 rfl ?_
    refine v_iconst dX5_rank_35 (in_lit (by decide)) ?_
    refine v_callV (d' := 2) (rest := []) [vI ((s : Nat) : Int), vI known, vI 4] dX5_rank_36 vrX5_459_5 (L_313 hL).1 rfl rfl (one_I (one_I (one_I one_nil))) (Nat.le_of_ble_eq_true rfl) (Nat.le_of_ble_eq_true rfl) (Nat.le_of_ble_eq_true rfl) ?_
    obtain ⟨o1, K⟩ := K
    refine s_oftenOf hL ((s : Nat) : Int) known (4 : Int) o1 ?_
    show V w 3 mX5_rank 39 [some (vR 313), some (vI known), some (vI i), some (vI ((s : Nat) : Int)), none, none, none, none, none] [vI (ofM J (J 332) known ((s : Nat) : Int) (4 : Int))] S J Q
    refine v_istore dX5_rank_39 (Nat.le_of_ble_eq_true rfl) ?_
    show V w 3 mX5_rank 41 [some (vR 313), some (vI known), some (vI i), some (vI ((s : Nat) : Int)), some (vI (ofM J (J 332) known ((s : Nat) : Int) (4 : Int))), none, none, none, none] [] S J Q
    refine v_iload dX5_rank_41 rfl ?_
    obtain ⟨K1, K2⟩ := K
    refine v_if_ne 49 dX5_rank_43 (by decide) (fun c2 => ?_) (fun c2 => ?_)
    · have K := K2 c2
      refine v_aload_n dX5_rank_49 rfl ?_
      refine v_iload_n dX5_rank_50 rfl ?_
      refine v_iload_n dX5_rank_51 rfl ?_
      refine v_iconst dX5_rank_52 (in_lit (by decide)) ?_
      refine v_callV (d' := 2) (rest := []) [vI ((s : Nat) : Int), vI known, vI 0] dX5_rank_53 vrX5_459_5 (L_313 hL).1 rfl rfl (one_I (one_I (one_I one_nil))) (Nat.le_of_ble_eq_true rfl) (Nat.le_of_ble_eq_true rfl) (Nat.le_of_ble_eq_true rfl) ?_
      refine s_oftenOf hL ((s : Nat) : Int) known (0 : Int) o1 ?_
      show V w 3 mX5_rank 56 [some (vR 313), some (vI known), some (vI i), some (vI ((s : Nat) : Int)), some (vI (ofM J (J 332) known ((s : Nat) : Int) (4 : Int))), none, none, none, none] [vI (ofM J (J 332) known ((s : Nat) : Int) (0 : Int))] S J Q
      refine v_istore dX5_rank_56 (Nat.le_of_ble_eq_true rfl) ?_
      show V w 3 mX5_rank 58 [some (vR 313), some (vI known), some (vI i), some (vI ((s : Nat) : Int)), some (vI (ofM J (J 332) known ((s : Nat) : Int) (4 : Int))), some (vI (ofM J (J 332) known ((s : Nat) : Int) (0 : Int))), none, none, none] [] S J Q
      refine v_iconst dX5_rank_58 (in_lit (by decide)) ?_
      refine v_istore dX5_rank_59 (Nat.le_of_ble_eq_true rfl) ?_
      show V w 3 mX5_rank 61 [some (vR 313), some (vI known), some (vI i), some (vI ((s : Nat) : Int)), some (vI (ofM J (J 332) known ((s : Nat) : Int) (4 : Int))), some (vI (ofM J (J 332) known ((s : Nat) : Int) (0 : Int))), some (vI 0), none, none] [] S J Q
      refine v_iconst dX5_rank_61 (in_lit (by decide)) ?_
      refine v_istore dX5_rank_62 (Nat.le_of_ble_eq_true rfl) ?_
      show V w 3 mX5_rank 64 [some (vR 313), some (vI known), some (vI i), some (vI ((s : Nat) : Int)), some (vI (ofM J (J 332) known ((s : Nat) : Int) (4 : Int))), some (vI (ofM J (J 332) known ((s : Nat) : Int) (0 : Int))), some (vI 0), some (vI 0), none] [] S J Q
      exact K
    · have K := K1 c2
      refine v_goto 146 dX5_rank_46 (by decide) ?_
      obtain ⟨o2, K⟩ := K
      refine v_iinc dX5_rank_146 rfl o2 ?_
      show V w 3 mX5_rank 149 [some (vR 313), some (vI known), some (vI i), some (vI ((s + 1 : Nat) : Int)), some (vI (ofM J (J 332) known ((s : Nat) : Int) (4 : Int))), none, none, none, none] [] S J Q
      refine v_goto 26 dX5_rank_149 (by decide) ?_
      exact v_forget (fg_some (fg_some (fg_some (fg_some (fg_none (fg_none (fg_none (fg_none (fg_none fg_nil))))))))) K
theorem gX5_rank_64 {w : Wd} {S : Sh} {J : Jm} {Q : Out → Sh → Jm → Prop} (hL : Lay S) (known : Int) (i : Int) (s : Nat) (all : Int) (first : Int) (ahead : Nat) (o : Nat)
    (K : Br (40 ≤ ((o : Nat) : Int)) (Br (((ahead : Nat) : Int) = i) (Q (.inl (some (vI ((s : Nat) : Int)))) S J) ((-2147483648 ≤ ((s : Nat) : Int) + 1 ∧ ((s : Nat) : Int) + 1 ≤ 2147483647) ∧ V w 3 mX5_rank 26 [some (vR 313), some (vI known), some (vI i), some (vI ((s + 1 : Nat) : Int)), none, none, none, none, none] [] S J Q)) ((MTab J) ∧ (-2147483648 ≤ first * (ofM J (J 332) known ((o : Nat) : Int) (4 : Int)) ∧ first * (ofM J (J 332) known ((o : Nat) : Int) (4 : Int)) ≤ 2147483647) ∧ (-2147483648 ≤ (ofM J (J 332) known ((o : Nat) : Int) (0 : Int)) * all ∧ (ofM J (J 332) known ((o : Nat) : Int) (0 : Int)) * all ≤ 2147483647) ∧ (-2147483648 ≤ (first * (ofM J (J 332) known ((o : Nat) : Int) (4 : Int))) - ((ofM J (J 332) known ((o : Nat) : Int) (0 : Int)) * all) ∧ (first * (ofM J (J 332) known ((o : Nat) : Int) (4 : Int))) - ((ofM J (J 332) known ((o : Nat) : Int) (0 : Int)) * all) ≤ 2147483647) ∧ Br (((o : Nat) : Int) = ((s : Nat) : Int)) ((-2147483648 ≤ ((o : Nat) : Int) + 1 ∧ ((o : Nat) : Int) + 1 ≤ 2147483647) ∧ V w 3 mX5_rank 64 [some (vR 313), some (vI known), some (vI i), some (vI ((s : Nat) : Int)), some (vI all), some (vI first), some (vI ((ahead : Nat) : Int)), some (vI ((o + 1 : Nat) : Int)), none] [] S J Q) (Br (ofM J (J 332) known ((o : Nat) : Int) (4 : Int) ≤ 0) ((-2147483648 ≤ ((o : Nat) : Int) + 1 ∧ ((o : Nat) : Int) + 1 ≤ 2147483647) ∧ V w 3 mX5_rank 64 [some (vR 313), some (vI known), some (vI i), some (vI ((s : Nat) : Int)), some (vI all), some (vI first), some (vI ((ahead : Nat) : Int)), some (vI ((o + 1 : Nat) : Int)), none] [] S J Q) (Br ((first * (ofM J (J 332) known ((o : Nat) : Int) (4 : Int))) - ((ofM J (J 332) known ((o : Nat) : Int) (0 : Int)) * all) < 0) ((-2147483648 ≤ ((ahead : Nat) : Int) + 1 ∧ ((ahead : Nat) : Int) + 1 ≤ 2147483647) ∧ (-2147483648 ≤ ((o : Nat) : Int) + 1 ∧ ((o : Nat) : Int) + 1 ≤ 2147483647) ∧ V w 3 mX5_rank 64 [some (vR 313), some (vI known), some (vI i), some (vI ((s : Nat) : Int)), some (vI all), some (vI first), some (vI ((ahead + 1 : Nat) : Int)), some (vI ((o + 1 : Nat) : Int)), none] [] S J Q) (Br ((first * (ofM J (J 332) known ((o : Nat) : Int) (4 : Int))) - ((ofM J (J 332) known ((o : Nat) : Int) (0 : Int)) * all) = 0) (Br (((s : Nat) : Int) ≤ ((o : Nat) : Int)) ((-2147483648 ≤ ((o : Nat) : Int) + 1 ∧ ((o : Nat) : Int) + 1 ≤ 2147483647) ∧ V w 3 mX5_rank 64 [some (vR 313), some (vI known), some (vI i), some (vI ((s : Nat) : Int)), some (vI all), some (vI first), some (vI ((ahead : Nat) : Int)), some (vI ((o + 1 : Nat) : Int)), none] [] S J Q) ((-2147483648 ≤ ((ahead : Nat) : Int) + 1 ∧ ((ahead : Nat) : Int) + 1 ≤ 2147483647) ∧ (-2147483648 ≤ ((o : Nat) : Int) + 1 ∧ ((o : Nat) : Int) + 1 ≤ 2147483647) ∧ V w 3 mX5_rank 64 [some (vR 313), some (vI known), some (vI i), some (vI ((s : Nat) : Int)), some (vI all), some (vI first), some (vI ((ahead + 1 : Nat) : Int)), some (vI ((o + 1 : Nat) : Int)), none] [] S J Q)) ((-2147483648 ≤ ((o : Nat) : Int) + 1 ∧ ((o : Nat) : Int) + 1 ≤ 2147483647) ∧ V w 3 mX5_rank 64 [some (vR 313), some (vI known), some (vI i), some (vI ((s : Nat) : Int)), some (vI all), some (vI first), some (vI ((ahead : Nat) : Int)), some (vI ((o + 1 : Nat) : Int)), none] [] S J Q)))))) :
    V w 3 mX5_rank 64 [some (vR 313), some (vI known), some (vI i), some (vI ((s : Nat) : Int)), some (vI all), some (vI first), some (vI ((ahead : Nat) : Int)), some (vI ((o : Nat) : Int)), none] [] S J Q := by
  refine v_iload dX5_rank_64 rfl ?_
  refine v_bipush dX5_rank_66 (by decide) (in_lit (by decide)) ?_
  obtain ⟨K1, K2⟩ := K
  refine v_icmp_ge 138 dX5_rank_68 (by decide) (fun c1 => ?_) (fun c1 => ?_)
  · have K := K1 c1
    refine v_iload dX5_rank_138 rfl ?_
    refine v_iload_n dX5_rank_140 rfl ?_
    obtain ⟨K1, K2⟩ := K
    refine v_icmp_ne 146 dX5_rank_141 (by decide) (fun c2 => ?_) (fun c2 => ?_)
    · have K := K2 c2
      obtain ⟨o1, K⟩ := K
      refine v_iinc dX5_rank_146 rfl o1 ?_
      show V w 3 mX5_rank 149 [some (vR 313), some (vI known), some (vI i), some (vI ((s + 1 : Nat) : Int)), some (vI all), some (vI first), some (vI ((ahead : Nat) : Int)), some (vI ((o : Nat) : Int)), none] [] S J Q
      refine v_goto 26 dX5_rank_149 (by decide) ?_
      exact v_forget (fg_some (fg_some (fg_some (fg_some (fg_none (fg_none (fg_none (fg_none (fg_none fg_nil))))))))) K
    · have K := K1 c2
      refine v_iload_n dX5_rank_144 rfl ?_
      exact v_iret dX5_rank_145 rfl rfl K
  · have K := K2 c1
    refine v_iload dX5_rank_71 rfl ?_
    refine v_aload_n dX5_rank_73 rfl ?_
    refine v_iload dX5_rank_74 rfl ?_
    refine v_iload_n dX5_rank_76 rfl ?_
    refine v_iconst dX5_rank_77 (in_lit (by decide)) ?_
    refine v_callV (d' := 2) (rest := [vI first]) [vI ((o : Nat) : Int), vI known, vI 4] dX5_rank_78 vrX5_459_5 (L_313 hL).1 rfl rfl (one_I (one_I (one_I one_nil))) (Nat.le_of_ble_eq_true rfl) (Nat.le_of_ble_eq_true rfl) (Nat.le_of_ble_eq_true rfl) ?_
    obtain ⟨o2, K⟩ := K
    refine s_oftenOf hL ((o : Nat) : Int) known (4 : Int) o2 ?_
    show V w 3 mX5_rank 81 [some (vR 313), some (vI known), some (vI i), some (vI ((s : Nat) : Int)), some (vI all), some (vI first), some (vI ((ahead : Nat) : Int)), some (vI ((o : Nat) : Int)), none] [vI (ofM J (J 332) known ((o : Nat) : Int) (4 : Int)), vI first] S J Q
    obtain ⟨o3, K⟩ := K
    refine v_imul dX5_rank_81 o3 ?_
    refine v_aload_n dX5_rank_82 rfl ?_
    refine v_iload dX5_rank_83 rfl ?_
    refine v_iload_n dX5_rank_85 rfl ?_
    refine v_iconst dX5_rank_86 (in_lit (by decide)) ?_
    refine v_callV (d' := 2) (rest := [vI (first * (ofM J (J 332) known ((o : Nat) : Int) (4 : Int)))]) [vI ((o : Nat) : Int), vI known, vI 0] dX5_rank_87 vrX5_459_5 (L_313 hL).1 rfl rfl (one_I (one_I (one_I one_nil))) (Nat.le_of_ble_eq_true rfl) (Nat.le_of_ble_eq_true rfl) (Nat.le_of_ble_eq_true rfl) ?_
    refine s_oftenOf hL ((o : Nat) : Int) known (0 : Int) o2 ?_
    show V w 3 mX5_rank 90 [some (vR 313), some (vI known), some (vI i), some (vI ((s : Nat) : Int)), some (vI all), some (vI first), some (vI ((ahead : Nat) : Int)), some (vI ((o : Nat) : Int)), none] [vI (ofM J (J 332) known ((o : Nat) : Int) (0 : Int)), vI (first * (ofM J (J 332) known ((o : Nat) : Int) (4 : Int)))] S J Q
    refine v_iload dX5_rank_90 rfl ?_
    obtain ⟨o4, K⟩ := K
    refine v_imul dX5_rank_92 o4 ?_
    obtain ⟨o5, K⟩ := K
    refine v_isub dX5_rank_93 o5 ?_
    refine v_istore dX5_rank_94 (Nat.le_of_ble_eq_true rfl) ?_
    show V w 3 mX5_rank 96 [some (vR 313), some (vI known), some (vI i), some (vI ((s : Nat) : Int)), some (vI all), some (vI first), some (vI ((ahead : Nat) : Int)), some (vI ((o : Nat) : Int)), some (vI ((first * (ofM J (J 332) known ((o : Nat) : Int) (4 : Int))) - ((ofM J (J 332) known ((o : Nat) : Int) (0 : Int)) * all)))] [] S J Q
    refine v_iload dX5_rank_96 rfl ?_
    refine v_iload_n dX5_rank_98 rfl ?_
    obtain ⟨K1, K2⟩ := K
    refine v_icmp_eq 132 dX5_rank_99 (by decide) (fun c3 => ?_) (fun c3 => ?_)
    · have K := K1 c3
      obtain ⟨o6, K⟩ := K
      refine v_iinc dX5_rank_132 rfl o6 ?_
      show V w 3 mX5_rank 135 [some (vR 313), some (vI known), some (vI i), some (vI ((s : Nat) : Int)), some (vI all), some (vI first), some (vI ((ahead : Nat) : Int)), some (vI ((o + 1 : Nat) : Int)), some (vI ((first * (ofM J (J 332) known ((o : Nat) : Int) (4 : Int))) - ((ofM J (J 332) known ((o : Nat) : Int) (0 : Int)) * all)))] [] S J Q
      refine v_goto 64 dX5_rank_135 (by decide) ?_
      exact v_forget (fg_some (fg_some (fg_some (fg_some (fg_some (fg_some (fg_some (fg_some (fg_none fg_nil))))))))) K
    · have K := K2 c3
      refine v_aload_n dX5_rank_102 rfl ?_
      refine v_iload dX5_rank_103 rfl ?_
      refine v_iload_n dX5_rank_105 rfl ?_
      refine v_iconst dX5_rank_106 (in_lit (by decide)) ?_
      refine v_callV (d' := 2) (rest := []) [vI ((o : Nat) : Int), vI known, vI 4] dX5_rank_107 vrX5_459_5 (L_313 hL).1 rfl rfl (one_I (one_I (one_I one_nil))) (Nat.le_of_ble_eq_true rfl) (Nat.le_of_ble_eq_true rfl) (Nat.le_of_ble_eq_true rfl) ?_
      refine s_oftenOf hL ((o : Nat) : Int) known (4 : Int) o2 ?_
      show V w 3 mX5_rank 110 [some (vR 313), some (vI known), some (vI i), some (vI ((s : Nat) : Int)), some (vI all), some (vI first), some (vI ((ahead : Nat) : Int)), some (vI ((o : Nat) : Int)), some (vI ((first * (ofM J (J 332) known ((o : Nat) : Int) (4 : Int))) - ((ofM J (J 332) known ((o : Nat) : Int) (0 : Int)) * all)))] [vI (ofM J (J 332) known ((o : Nat) : Int) (4 : Int))] S J Q
      obtain ⟨K1, K2⟩ := K
      refine v_if_le 132 dX5_rank_110 (by decide) (fun c4 => ?_) (fun c4 => ?_)
      · have K := K1 c4
        obtain ⟨o7, K⟩ := K
        refine v_iinc dX5_rank_132 rfl o7 ?_
        show V w 3 mX5_rank 135 [some (vR 313), some (vI known), some (vI i), some (vI ((s : Nat) : Int)), some (vI all), some (vI first), some (vI ((ahead : Nat) : Int)), some (vI ((o + 1 : Nat) : Int)), some (vI ((first * (ofM J (J 332) known ((o : Nat) : Int) (4 : Int))) - ((ofM J (J 332) known ((o : Nat) : Int) (0 : Int)) * all)))] [] S J Q
        refine v_goto 64 dX5_rank_135 (by decide) ?_
        exact v_forget (fg_some (fg_some (fg_some (fg_some (fg_some (fg_some (fg_some (fg_some (fg_none fg_nil))))))))) K
      · have K := K2 c4
        refine v_iload dX5_rank_113 rfl ?_
        obtain ⟨K1, K2⟩ := K
        refine v_if_lt 129 dX5_rank_115 (by decide) (fun c5 => ?_) (fun c5 => ?_)
        · have K := K1 c5
          obtain ⟨o8, K⟩ := K
          refine v_iinc dX5_rank_129 rfl o8 ?_
          show V w 3 mX5_rank 132 [some (vR 313), some (vI known), some (vI i), some (vI ((s : Nat) : Int)), some (vI all), some (vI first), some (vI ((ahead + 1 : Nat) : Int)), some (vI ((o : Nat) : Int)), some (vI ((first * (ofM J (J 332) known ((o : Nat) : Int) (4 : Int))) - ((ofM J (J 332) known ((o : Nat) : Int) (0 : Int)) * all)))] [] S J Q
          obtain ⟨o9, K⟩ := K
          refine v_iinc dX5_rank_132 rfl o9 ?_
          show V w 3 mX5_rank 135 [some (vR 313), some (vI known), some (vI i), some (vI ((s : Nat) : Int)), some (vI all), some (vI first), some (vI ((ahead + 1 : Nat) : Int)), some (vI ((o + 1 : Nat) : Int)), some (vI ((first * (ofM J (J 332) known ((o : Nat) : Int) (4 : Int))) - ((ofM J (J 332) known ((o : Nat) : Int) (0 : Int)) * all)))] [] S J Q
          refine v_goto 64 dX5_rank_135 (by decide) ?_
          exact v_forget (fg_some (fg_some (fg_some (fg_some (fg_some (fg_some (fg_some (fg_some (fg_none fg_nil))))))))) K
        · have K := K2 c5
          refine v_iload dX5_rank_118 rfl ?_
          obtain ⟨K1, K2⟩ := K
          refine v_if_ne 132 dX5_rank_120 (by decide) (fun c6 => ?_) (fun c6 => ?_)
          · have K := K2 c6
            obtain ⟨o10, K⟩ := K
            refine v_iinc dX5_rank_132 rfl o10 ?_
            show V w 3 mX5_rank 135 [some (vR 313), some (vI known), some (vI i), some (vI ((s : Nat) : Int)), some (vI all), some (vI first), some (vI ((ahead : Nat) : Int)), some (vI ((o + 1 : Nat) : Int)), some (vI ((first * (ofM J (J 332) known ((o : Nat) : Int) (4 : Int))) - ((ofM J (J 332) known ((o : Nat) : Int) (0 : Int)) * all)))] [] S J Q
            refine v_goto 64 dX5_rank_135 (by decide) ?_
            exact v_forget (fg_some (fg_some (fg_some (fg_some (fg_some (fg_some (fg_some (fg_some (fg_none fg_nil))))))))) K
          · have K := K1 c6
            refine v_iload dX5_rank_123 rfl ?_
            refine v_iload_n dX5_rank_125 rfl ?_
            obtain ⟨K1, K2⟩ := K
            refine v_icmp_ge 132 dX5_rank_126 (by decide) (fun c7 => ?_) (fun c7 => ?_)
            · have K := K1 c7
              obtain ⟨o11, K⟩ := K
              refine v_iinc dX5_rank_132 rfl o11 ?_
              show V w 3 mX5_rank 135 [some (vR 313), some (vI known), some (vI i), some (vI ((s : Nat) : Int)), some (vI all), some (vI first), some (vI ((ahead : Nat) : Int)), some (vI ((o + 1 : Nat) : Int)), some (vI ((first * (ofM J (J 332) known ((o : Nat) : Int) (4 : Int))) - ((ofM J (J 332) known ((o : Nat) : Int) (0 : Int)) * all)))] [] S J Q
              refine v_goto 64 dX5_rank_135 (by decide) ?_
              exact v_forget (fg_some (fg_some (fg_some (fg_some (fg_some (fg_some (fg_some (fg_some (fg_none fg_nil))))))))) K
            · have K := K2 c7
              obtain ⟨o12, K⟩ := K
              refine v_iinc dX5_rank_129 rfl o12 ?_
              show V w 3 mX5_rank 132 [some (vR 313), some (vI known), some (vI i), some (vI ((s : Nat) : Int)), some (vI all), some (vI first), some (vI ((ahead + 1 : Nat) : Int)), some (vI ((o : Nat) : Int)), some (vI ((first * (ofM J (J 332) known ((o : Nat) : Int) (4 : Int))) - ((ofM J (J 332) known ((o : Nat) : Int) (0 : Int)) * all)))] [] S J Q
              obtain ⟨o13, K⟩ := K
              refine v_iinc dX5_rank_132 rfl o13 ?_
              show V w 3 mX5_rank 135 [some (vR 313), some (vI known), some (vI i), some (vI ((s : Nat) : Int)), some (vI all), some (vI first), some (vI ((ahead + 1 : Nat) : Int)), some (vI ((o + 1 : Nat) : Int)), some (vI ((first * (ofM J (J 332) known ((o : Nat) : Int) (4 : Int))) - ((ofM J (J 332) known ((o : Nat) : Int) (0 : Int)) * all)))] [] S J Q
              refine v_goto 64 dX5_rank_135 (by decide) ?_
              exact v_forget (fg_some (fg_some (fg_some (fg_some (fg_some (fg_some (fg_some (fg_some (fg_none fg_nil))))))))) K

theorem ofM_cg {J J' : Jm} (hT : MTab J) (h : Mp J J') {st st' : Nat → Int} (hst : ∀ s, s < 40 → st' s = st s) (known s what : Int) : ofM J' st' known s what = ofM J st known s what := by
  have key : ∀ r : Nat, r ≤ 192 → ofN J' st' known s what r = ofN J st known s what r := by
    intro r
    induction r with
    | zero => intro _; rfl
    | succ r ih =>
      intro hr
      have e1 : rwB J' known r = rwB J known r := rwB_cg (h _ _ rfl) (h _ _ (by unfold mper scr; simp; omega)) (h _ _ rfl) (h _ _ rfl)
      rw [ofN, ofN, ih (by omega), e1]
      by_cases c : rwB J known r = true
      · have hrow := hT.row c
        have e2 : J' 317 r = J 317 r := h _ _ (by unfold mper scr; simp; omega)
        rw [if_pos c, if_pos c, e2]
        rw [cntB_cg _ (q := occB J st s what r)]
        intro i hi
        have e3 : J' 318 (6 * r + i) = J 318 (6 * r + i) := h _ _ (by unfold mper scr; simp; omega)
        have hp := hrow.2 i (by omega)
        unfold occB
        rw [e2, e3]
        congr 1
        by_cases d : J 318 (6 * r + i) = -1
        · simp [d]
        · rw [hst _ (by omega)]
      · rw [if_neg c, if_neg c]
  have h2 := hT.1
  have e0 : J' 313 2 = J 313 2 := h _ _ rfl
  unfold ofM
  rw [e0, key _ (by omega)]
noncomputable def rOften (J : Jm) (s known what : Int) : Int := if (0 ≤ s ∧ s < 40) ∧ kno J known ∧ (0 ≤ what ∧ what ≤ 4) then ofM J (stI J known) known (stI J known s.toNat) what else -1
theorem m_often {w : Wd} {S : Sh} {J : Jm} {Q : Out → Sh → Jm → Prop} (hL : Lay S) (s known what : Int) (hH : MHeld J) (hT : MTab J) (K : ∀ J', Kp J J' → Q (.inl (some (vI (rOften J s known what)))) S J') : V w 3 mX5_often 0 (ent mX5_often [vR 313, vI s, vI known, vI what]) [] S J Q := by
  have hm := (k0 J).mp
  have no : ¬ ((0 ≤ s ∧ s < 40) ∧ kno J known ∧ (0 ≤ what ∧ what ≤ 4)) → Q (.inl (some (vI (-1)))) S (up J 313 0 0) := by
    intro q
    have := K _ (k0 J)
    unfold rOften at this
    rw [if_neg q] at this
    exact this
  refine gX5_often_0 hL s known what ?_
  refine br_i (fun h1 => br_i (fun h2 => br_i (fun h3 => ⟨hH.mp hm, fun J1 hp => ?_⟩) (fun h3 => no (fun q => h3 q.2.2))) (fun h2 => no (fun q => h2 q.2.1))) (fun h1 => no (fun q => h1 q.1))
  have kp := (k0 J).trans (Kp.arr scr_stand hp.1)
  have fin := K J1 kp
  unfold rOften at fin
  rw [if_pos ⟨h1, h2, h3⟩] at fin
  have hs : ∀ t : Nat, t < 40 → J1 332 t = stI J known t := fun t ht => by rw [hp.2 t ht, EH_mp hm]; rfl
  (repeat' (first | ((with_reducible refine And.intro ?_ ?_); omega)))
  refine ⟨hT.mp kp.mp, ?_⟩
  rw [hs _ (by omega), ofM_cg hT kp.mp hs]
  exact fin
/-- sign o goes before sign s -/
def ahB (A F : Nat → Int) (s o : Nat) : Bool := decide (o ≠ s ∧ 0 < A o ∧ (F s * A o - F o * A s < 0 ∨ (F s * A o - F o * A s = 0 ∧ o < s)))
def rkB (A F : Nat → Int) (i : Int) (s : Nat) : Bool := decide (A s ≠ 0 ∧ ((cntB (ahB A F s) 40 : Nat) : Int) = i)
noncomputable def rRank (J : Jm) (known i : Int) : Int := if kno J known ∧ 0 ≤ i then (match dbI (rkB (fun o => ofM J (stI J known) known (o : Int) 4) (fun o => ofM J (stI J known) known (o : Int) 0) i) 40 0 with
    | none => -1
    | some s => ((s : Nat) : Int)) else -1
theorem mul_in {a b : Int} (ha : 0 ≤ a ∧ a ≤ 1152) (hb : 0 ≤ b ∧ b ≤ 1152) : 0 ≤ a * b ∧ a * b ≤ 1327104 := by
  have h1 := Int.mul_nonneg ha.1 hb.1
  have h2 : a * b ≤ 1152 * 1152 := Int.mul_le_mul ha.2 hb.2 hb.1 (by decide)
  omega
theorem m_rank {w : Wd} {S : Sh} {J : Jm} {Q : Out → Sh → Jm → Prop} (hL : Lay S) (known i : Int) (hH : MHeld J) (hT : MTab J) (K : ∀ J', Kp J J' → Q (.inl (some (vI (rRank J known i)))) S J') : V w 3 mX5_rank 0 (ent mX5_rank [vR 313, vI known, vI i]) [] S J Q := by
  have hm := (k0 J).mp
  have no : ¬ (kno J known ∧ 0 ≤ i) → Q (.inl (some (vI (-1)))) S (up J 313 0 0) := by
    intro q
    have := K _ (k0 J)
    unfold rRank at this
    rw [if_neg q] at this
    exact this
  refine gX5_rank_0 hL known i ?_
  refine br_i (fun h1 => br_i (fun h2 => ⟨hH.mp hm, fun J1 hp => ?_⟩) (fun h2 => no (fun q => h2 q.2))) (fun h1 => no (fun q => h1 q.1))
  have kp := (k0 J).trans (Kp.arr scr_stand hp.1)
  have fin := K J1 kp
  unfold rRank at fin
  rw [if_pos ⟨h1, h2⟩] at fin
  have hs : ∀ t : Nat, t < 40 → J1 332 t = stI J known t := fun t ht => by rw [hp.2 t ht, EH_mp hm]; rfl
  have hT1 := hT.mp kp.mp
  have eo : ∀ o wh, ofM J1 (J1 332) known o wh = ofM J (stI J known) known o wh := fun o wh => ofM_cg hT kp.mp hs known o wh
  have bd : ∀ o wh, 0 ≤ ofM J (stI J known) known o wh ∧ ofM J (stI J known) known o wh ≤ 1152 := fun o wh => ofM_le hT _ _ _ _
  revert fin
  generalize hA : (fun o : Nat => ofM J (stI J known) known (o : Int) 4) = A
  generalize hF : (fun o : Nat => ofM J (stI J known) known (o : Int) 0) = F
  intro fin
  have eA : ∀ o : Nat, ofM J1 (J1 332) known (o : Int) 4 = A o := fun o => by rw [← hA, eo]
  have eF : ∀ o : Nat, ofM J1 (J1 332) known (o : Int) 0 = F o := fun o => by rw [← hF, eo]
  have bA : ∀ o, 0 ≤ A o ∧ A o ≤ 1152 := fun o => by rw [← hA]; exact bd _ _
  have bF : ∀ o, 0 ≤ F o ∧ F o ≤ 1152 := fun o => by rw [← hF]; exact bd _ _
  have loop : ∀ (m s : Nat), s + m = 40 → Q (.inl (some (vI (match dbI (rkB A F i) m s with | none => -1 | some s => ((s : Nat) : Int))))) S J1 → V w 3 mX5_rank 26 [some (vR 313), some (vI known), some (vI i), some (vI (s : Int)), none, none, none, none, none] [] S J1 Q := by
    intro m
    induction m with
    | zero =>
      intro s hs fin
      exact gX5_rank_26 hL known i s (br_y (by omega) fin)
    | succ m ih =>
      intro s hs fin
      have ih1 := ih (s + 1) (by omega)
      rw [dbI] at fin
      refine gX5_rank_26 hL known i s (br_n (by omega) ?_)
      rw [eA, eF]
      refine ⟨hT1, ?_⟩
      refine br_i (fun c1 => ?_) (fun c1 => ?_)
      · (repeat' (first | ((with_reducible refine And.intro ?_ ?_); omega)))
        refine ih1 ?_
        rw [if_neg] at fin
        · exact fin
        · unfold rkB
          rw [decide_eq_true_iff]
          exact fun q => q.1 c1
      · (repeat' (first | ((with_reducible refine And.intro ?_ ?_); omega)))
        have inner : ∀ (v o : Nat), o + v = 40 → V w 3 mX5_rank 64 [some (vR 313), some (vI known), some (vI i), some (vI (s : Int)), some (vI (A s)), some (vI (F s)), some (vI ((cntB (ahB A F s) o : Nat) : Int)), some (vI (o : Int)), none] [] S J1 Q := by
          intro v
          induction v with
          | zero =>
            intro o ho
            obtain rfl : o = 40 := by omega
            refine gX5_rank_64 hL known i s _ _ _ 40 (br_y (by omega) ?_)
            (repeat' (first | ((with_reducible refine And.intro ?_ ?_); omega)))
            refine br_i (fun c2 => ?_) (fun c2 => ?_)
            · rw [if_pos] at fin
              · exact fin
              · unfold rkB
                rw [decide_eq_true_iff]
                exact ⟨c1, c2⟩
            · (repeat' (first | ((with_reducible refine And.intro ?_ ?_); omega)))
              refine ih1 ?_
              rw [if_neg] at fin
              · exact fin
              · unfold rkB
                rw [decide_eq_true_iff]
                exact fun q => c2 q.2
          | succ v ihv =>
            intro o ho
            have iv := ihv (o + 1) (by omega)
            have hc := cntB_le (ahB A F s) o
            have m1 := mul_in (bF s) (bA o)
            have m2 := mul_in (bF o) (bA s)
            rw [cntB] at iv
            have yes : ahB A F s o = true → V w 3 mX5_rank 64 [some (vR 313), some (vI known), some (vI i), some (vI (s : Int)), some (vI (A s)), some (vI (F s)), some (vI ((cntB (ahB A F s) o + 1 : Nat) : Int)), some (vI ((o + 1 : Nat) : Int)), none] [] S J1 Q := fun q => by rw [if_pos q] at iv; exact iv
            have no : ¬ ahB A F s o = true → V w 3 mX5_rank 64 [some (vR 313), some (vI known), some (vI i), some (vI (s : Int)), some (vI (A s)), some (vI (F s)), some (vI ((cntB (ahB A F s) o : Nat) : Int)), some (vI ((o + 1 : Nat) : Int)), none] [] S J1 Q := fun q => by rw [if_neg q] at iv; exact iv
            have eO : ahB A F s o = decide (o ≠ s ∧ 0 < A o ∧ (F s * A o - F o * A s < 0 ∨ (F s * A o - F o * A s = 0 ∧ o < s))) := rfl
            rw [eO, decide_eq_true_iff] at yes no
            clear iv ihv ih1 ih fin
            refine gX5_rank_64 hL known i s _ _ _ o (br_n (by omega) ?_)
            rw [eA, eF]
            revert m1 m2 yes no
            generalize F s * A o = X
            generalize F o * A s = Y
            intro m1 m2 yes no
            (repeat' (first | ((with_reducible refine And.intro ?_ ?_); omega)))
            refine br_i (fun c2 => ?_) (fun c2 => ?_)
            · (repeat' (first | ((with_reducible refine And.intro ?_ ?_); omega)))
              exact no (fun q => q.1 (by omega))
            · (repeat' (first | ((with_reducible refine And.intro ?_ ?_); omega)))
              refine br_i (fun c3 => ?_) (fun c3 => ?_)
              · (repeat' (first | ((with_reducible refine And.intro ?_ ?_); omega)))
                exact no (fun q => by omega)
              · (repeat' (first | ((with_reducible refine And.intro ?_ ?_); omega)))
                refine br_i (fun c4 => ?_) (fun c4 => ?_)
                · (repeat' (first | ((with_reducible refine And.intro ?_ ?_); omega)))
                  exact yes ⟨by omega, by omega, .inl c4⟩
                · refine br_i (fun c5 => ?_) (fun c5 => ?_)
                  · refine br_i (fun c6 => ?_) (fun c6 => ?_)
                    · (repeat' (first | ((with_reducible refine And.intro ?_ ?_); omega)))
                      exact no (fun q => by omega)
                    · (repeat' (first | ((with_reducible refine And.intro ?_ ?_); omega)))
                      exact yes ⟨by omega, by omega, .inr ⟨c5, by omega⟩⟩
                  · (repeat' (first | ((with_reducible refine And.intro ?_ ?_); omega)))
                    exact no (fun q => by omega)
        exact inner 40 0 (by omega)
  exact loop 40 0 (by omega) fin
