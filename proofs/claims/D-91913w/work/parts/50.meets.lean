/-! the model: what is done with each way -/
set_option maxRecDepth 100000
theorem gX5_meets_0c0 {w : Wd} {S : Sh} {J : Jm} {Q : Out → Sh → Jm → Prop} (hL : Lay S) (known : Int)
    (K : (-2147483648 ≤ (J 313 68) + 1 ∧ (J 313 68) + 1 ≤ 2147483647) ∧ (-2147483648 ≤ 40 * (J 313 64) ∧ 40 * (J 313 64) ≤ 2147483647) ∧ V w 3 mX5_meets 25 [some (vR 313), some (vI 0), none, some (vI (40 * (J 313 64))), some (vI 0)] [] S (up J 313 68 ((J 313 68) + 1)) Q) :
    V w 3 mX5_meets 0 (ent mX5_meets [vR 313, vI 0, vI known]) [] S J Q := by
  show V w 3 mX5_meets 0 [some (vR 313), some (vI 0), some (vI known), none, none] [] S J Q
  refine v_aload_n dX5_meets_0 rfl ?_
  refine v_dup dX5_meets_1 trivial ?_
  refine v_getI dX5_meets_2 frX5_411_5 rfl rfl (L_313 hL).1 ?_
  refine v_iconst dX5_meets_5 (in_lit (by decide)) ?_
  obtain ⟨o1, K⟩ := K
  refine v_iadd dX5_meets_6 o1 ?_
  refine v_putI dX5_meets_7 frX5_411_5 (fun _ _ _ h => by cases h; exact Or.inl rfl) rfl rfl zfit_int (L_313 hL).1 ?_
  show V w 3 mX5_meets 10 [some (vR 313), some (vI 0), some (vI known), none, none] [] S (up J 313 68 ((J 313 68) + 1)) Q
  refine v_bipush dX5_meets_10 (by decide) (in_lit (by decide)) ?_
  refine v_aload_n dX5_meets_12 rfl ?_
  refine v_getI dX5_meets_13 frX5_414_5 rfl rfl (L_313 hL).1 ?_
  show V w 3 mX5_meets 16 [some (vR 313), some (vI 0), some (vI known), none, none] [vI (J 313 64), vI 40] S (up J 313 68 ((J 313 68) + 1)) Q
  obtain ⟨o2, K⟩ := K
  refine v_imul dX5_meets_16 o2 ?_
  refine v_istore_n dX5_meets_17 (Nat.le_of_ble_eq_true rfl) ?_
  show V w 3 mX5_meets 18 [some (vR 313), some (vI 0), some (vI known), some (vI (40 * (J 313 64))), none] [] S (up J 313 68 ((J 313 68) + 1)) Q
  refine v_iload_n dX5_meets_18 rfl ?_
  refine v_if_ne 85 dX5_meets_19 (by decide) (fun cQ => absurd cQ (by decide)) (fun _ => ?_)
  refine v_iconst dX5_meets_22 (in_lit (by decide)) ?_
  refine v_istore dX5_meets_23 (Nat.le_of_ble_eq_true rfl) ?_
  show V w 3 mX5_meets 25 [some (vR 313), some (vI 0), some (vI known), some (vI (40 * (J 313 64))), some (vI 0)] [] S (up J 313 68 ((J 313 68) + 1)) Q
  exact v_forget (fg_some (fg_some (fg_none (fg_some (fg_some fg_nil))))) K
theorem gX5_meets_25c0 {w : Wd} {S : Sh} {J : Jm} {Q : Out → Sh → Jm → Prop} (hL : Lay S) (b : Nat) (s : Nat)
    (K : Br (40 ≤ ((s : Nat) : Int)) (Q (.inl (some (vI 1))) S J) ((-2147483648 ≤ 136 * ((s : Nat) : Int) ∧ 136 * ((s : Nat) : Int) ≤ 2147483647) ∧ (-2147483648 ≤ ((b : Nat) : Int) + ((s : Nat) : Int) ∧ ((b : Nat) : Int) + ((s : Nat) : Int) ≤ 2147483647) ∧ (((b + s : Nat) : Int) < 320) ∧ Br (J 358 (b + s) = (-1)) ((-2147483648 ≤ ((136 * s : Nat) : Int) + 135 ∧ ((136 * s : Nat) : Int) + 135 ≤ 2147483647) ∧ ((((136 * s) + 135 : Nat) : Int) < 5440) ∧ (-2147483648 ≤ (J 361 ((136 * s) + 135)) + 1 ∧ (J 361 ((136 * s) + 135)) + 1 ≤ 2147483647) ∧ (-2147483648 ≤ ((s : Nat) : Int) + 1 ∧ ((s : Nat) : Int) + 1 ≤ 2147483647) ∧ V w 3 mX5_meets 25 [some (vR 313), some (vI 0), none, some (vI ((b : Nat) : Int)), some (vI ((s + 1 : Nat) : Int))] [] S (up J 361 ((136 * s) + 135) ((J 361 ((136 * s) + 135)) + 1)) Q) ((-2147483648 ≤ ((136 * s : Nat) : Int) + (J 358 (b + s)) ∧ ((136 * s : Nat) : Int) + (J 358 (b + s)) ≤ 2147483647) ∧ (0 ≤ ((136 * s : Nat) : Int) + (J 358 (b + s))) ∧ (((136 * s : Nat) : Int) + (J 358 (b + s)) < 5440) ∧ (-2147483648 ≤ (J 361 (((136 * s : Nat) : Int) + (J 358 (b + s))).toNat) + 1 ∧ (J 361 (((136 * s : Nat) : Int) + (J 358 (b + s))).toNat) + 1 ≤ 2147483647) ∧ (-2147483648 ≤ ((s : Nat) : Int) + 1 ∧ ((s : Nat) : Int) + 1 ≤ 2147483647) ∧ V w 3 mX5_meets 25 [some (vR 313), some (vI 0), none, some (vI ((b : Nat) : Int)), some (vI ((s + 1 : Nat) : Int))] [] S (up J 361 (((136 * s : Nat) : Int) + (J 358 (b + s))).toNat ((J 361 (((136 * s : Nat) : Int) + (J 358 (b + s))).toNat) + 1)) Q))) :
    V w 3 mX5_meets 25 [some (vR 313), some (vI 0), none, some (vI ((b : Nat) : Int)), some (vI ((s : Nat) : Int))] [] S J Q := by
  refine v_iload dX5_meets_25 rfl ?_
  refine v_bipush dX5_meets_27 (by decide) (in_lit (by decide)) ?_
  obtain ⟨K1, K2⟩ := K
  refine v_icmp_ge 82 dX5_meets_29 (by decide) (fun c1 => ?_) (fun c1 => ?_)
  · have K := K1 c1
    refine v_goto 179 dX5_meets_82 (by decide) ?_
    refine v_iload_n dX5_meets_179 rfl ?_
    refine v_iconst dX5_meets_180 (in_lit (by decide)) ?_
    refine v_icmp_eq 188 dX5_meets_181 (by decide) (fun cQ => absurd cQ (by decide)) (fun _ => ?_)
    refine v_iconst dX5_meets_184 (in_lit (by decide)) ?_
    refine v_goto 189 dX5_meets_185 (by decide) ?_
    exact v_iret dX5_meets_189 rfl (by decide) K
  · have K := K2 c1
    refine v_aload_n dX5_meets_32 rfl ?_
    refine v_getR dX5_meets_33 frX5_160_5 rfl (L_313 hL).1 (LR_313_72 hL) (Or.inl rfl) ?_
    refine v_sipush dX5_meets_36 (by decide) (in_lit (by decide)) ?_
    refine v_iload dX5_meets_39 rfl ?_
    obtain ⟨o1, K⟩ := K
    refine v_imul dX5_meets_41 o1 ?_
    show V w 3 mX5_meets 42 [some (vR 313), some (vI 0), none, some (vI ((b : Nat) : Int)), some (vI ((s : Nat) : Int))] [vI ((136 * s : Nat) : Int), vR 361] S J Q
    refine v_aload_n dX5_meets_42 rfl ?_
    refine v_getR dX5_meets_43 frX5_151_5 rfl (L_313 hL).1 (LR_313_67 hL) (Or.inl rfl) ?_
    refine v_iload_n dX5_meets_46 rfl ?_
    refine v_iload dX5_meets_47 rfl ?_
    obtain ⟨o2, K⟩ := K
    refine v_iadd dX5_meets_49 o2 ?_
    show V w 3 mX5_meets 50 [some (vR 313), some (vI 0), none, some (vI ((b : Nat) : Int)), some (vI ((s : Nat) : Int))] [vI ((b + s : Nat) : Int), vR 358, vI ((136 * s : Nat) : Int), vR 361] S J Q
    obtain ⟨o3, K⟩ := K
    refine ld_358 dX5_meets_50 hL (by omega) o3 ?_
    show V w 3 mX5_meets 51 [some (vR 313), some (vI 0), none, some (vI ((b : Nat) : Int)), some (vI ((s : Nat) : Int))] [vI (J 358 (b + s)), vI ((136 * s : Nat) : Int), vR 361] S J Q
    refine v_iconst dX5_meets_51 (in_lit (by decide)) ?_
    obtain ⟨K1, K2⟩ := K
    refine v_icmp_ne 61 dX5_meets_52 (by decide) (fun c2 => ?_) (fun c2 => ?_)
    · have K := K2 c2
      refine v_aload_n dX5_meets_61 rfl ?_
      refine v_getR dX5_meets_62 frX5_151_5 rfl (L_313 hL).1 (LR_313_67 hL) (Or.inl rfl) ?_
      refine v_iload_n dX5_meets_65 rfl ?_
      refine v_iload dX5_meets_66 rfl ?_
      refine v_iadd dX5_meets_68 o2 ?_
      show V w 3 mX5_meets 69 [some (vR 313), some (vI 0), none, some (vI ((b : Nat) : Int)), some (vI ((s : Nat) : Int))] [vI ((b + s : Nat) : Int), vR 358, vI ((136 * s : Nat) : Int), vR 361] S J Q
      refine ld_358 dX5_meets_69 hL (by omega) o3 ?_
      show V w 3 mX5_meets 70 [some (vR 313), some (vI 0), none, some (vI ((b : Nat) : Int)), some (vI ((s : Nat) : Int))] [vI (J 358 (b + s)), vI ((136 * s : Nat) : Int), vR 361] S J Q
      obtain ⟨o4, K⟩ := K
      refine v_iadd dX5_meets_70 o4 ?_
      refine v_dup2 dX5_meets_71 trivial trivial ?_
      obtain ⟨o5, K⟩ := K
      obtain ⟨o6, K⟩ := K
      refine ld_361 dX5_meets_72 hL o5 o6 ?_
      refine v_iconst dX5_meets_73 (in_lit (by decide)) ?_
      obtain ⟨o7, K⟩ := K
      refine v_iadd dX5_meets_74 o7 ?_
      refine st_361 dX5_meets_75 hL o5 o6 ?_
      show V w 3 mX5_meets 76 [some (vR 313), some (vI 0), none, some (vI ((b : Nat) : Int)), some (vI ((s : Nat) : Int))] [] S (up J 361 (((136 * s : Nat) : Int) + (J 358 (b + s))).toNat ((J 361 (((136 * s : Nat) : Int) + (J 358 (b + s))).toNat) + 1)) Q
      obtain ⟨o8, K⟩ := K
      refine v_iinc dX5_meets_76 rfl o8 ?_
      show V w 3 mX5_meets 79 [some (vR 313), some (vI 0), none, some (vI ((b : Nat) : Int)), some (vI ((s + 1 : Nat) : Int))] [] S (up J 361 (((136 * s : Nat) : Int) + (J 358 (b + s))).toNat ((J 361 (((136 * s : Nat) : Int) + (J 358 (b + s))).toNat) + 1)) Q
      refine v_goto 25 dX5_meets_79 (by decide) ?_
      exact K
    · have K := K1 c2
      refine v_sipush dX5_meets_55 (by decide) (in_lit (by decide)) ?_
      refine v_goto 70 dX5_meets_58 (by decide) ?_
      obtain ⟨o9, K⟩ := K
      refine v_iadd dX5_meets_70 o9 ?_
      show V w 3 mX5_meets 71 [some (vR 313), some (vI 0), none, some (vI ((b : Nat) : Int)), some (vI ((s : Nat) : Int))] [vI (((136 * s) + 135 : Nat) : Int), vR 361] S J Q
      refine v_dup2 dX5_meets_71 trivial trivial ?_
      obtain ⟨o10, K⟩ := K
      refine ld_361 dX5_meets_72 hL (by omega) o10 ?_
      show V w 3 mX5_meets 73 [some (vR 313), some (vI 0), none, some (vI ((b : Nat) : Int)), some (vI ((s : Nat) : Int))] [vI (J 361 ((136 * s) + 135)), vI (((136 * s) + 135 : Nat) : Int), vR 361] S J Q
      refine v_iconst dX5_meets_73 (in_lit (by decide)) ?_
      obtain ⟨o11, K⟩ := K
      refine v_iadd dX5_meets_74 o11 ?_
      refine st_361 dX5_meets_75 hL (by omega) o10 ?_
      show V w 3 mX5_meets 76 [some (vR 313), some (vI 0), none, some (vI ((b : Nat) : Int)), some (vI ((s : Nat) : Int))] [] S (up J 361 ((136 * s) + 135) ((J 361 ((136 * s) + 135)) + 1)) Q
      obtain ⟨o12, K⟩ := K
      refine v_iinc dX5_meets_76 rfl o12 ?_
      show V w 3 mX5_meets 79 [some (vR 313), some (vI 0), none, some (vI ((b : Nat) : Int)), some (vI ((s + 1 : Nat) : Int))] [] S (up J 361 ((136 * s) + 135) ((J 361 ((136 * s) + 135)) + 1)) Q
      refine v_goto 25 dX5_meets_79 (by decide) ?_
      exact K
theorem gX5_meets_0c1 {w : Wd} {S : Sh} {J : Jm} {Q : Out → Sh → Jm → Prop} (hL : Lay S) (known : Int)
    (K : (-2147483648 ≤ (J 313 68) + 1 ∧ (J 313 68) + 1 ≤ 2147483647) ∧ (-2147483648 ≤ 40 * (J 313 64) ∧ 40 * (J 313 64) ≤ 2147483647) ∧ Q (.inl (some (vI 0))) S (up J 313 68 ((J 313 68) + 1))) :
    V w 3 mX5_meets 0 (ent mX5_meets [vR 313, vI 1, vI known]) [] S J Q := by
  show V w 3 mX5_meets 0 [some (vR 313), some (vI 1), some (vI known), none, none] [] S J Q
  refine v_aload_n dX5_meets_0 rfl ?_
  refine v_dup dX5_meets_1 trivial ?_
  refine v_getI dX5_meets_2 frX5_411_5 rfl rfl (L_313 hL).1 ?_
  refine v_iconst dX5_meets_5 (in_lit (by decide)) ?_
  obtain ⟨o1, K⟩ := K
  refine v_iadd dX5_meets_6 o1 ?_
  refine v_putI dX5_meets_7 frX5_411_5 (fun _ _ _ h => by cases h; exact Or.inl rfl) rfl rfl zfit_int (L_313 hL).1 ?_
  show V w 3 mX5_meets 10 [some (vR 313), some (vI 1), some (vI known), none, none] [] S (up J 313 68 ((J 313 68) + 1)) Q
  refine v_bipush dX5_meets_10 (by decide) (in_lit (by decide)) ?_
  refine v_aload_n dX5_meets_12 rfl ?_
  refine v_getI dX5_meets_13 frX5_414_5 rfl rfl (L_313 hL).1 ?_
  show V w 3 mX5_meets 16 [some (vR 313), some (vI 1), some (vI known), none, none] [vI (J 313 64), vI 40] S (up J 313 68 ((J 313 68) + 1)) Q
  obtain ⟨o2, K⟩ := K
  refine v_imul dX5_meets_16 o2 ?_
  refine v_istore_n dX5_meets_17 (Nat.le_of_ble_eq_true rfl) ?_
  show V w 3 mX5_meets 18 [some (vR 313), some (vI 1), some (vI known), some (vI (40 * (J 313 64))), none] [] S (up J 313 68 ((J 313 68) + 1)) Q
  refine v_iload_n dX5_meets_18 rfl ?_
  refine v_if_ne 85 dX5_meets_19 (by decide) (fun _ => ?_) (fun cQ => absurd cQ (by decide))
  refine v_iload_n dX5_meets_85 rfl ?_
  refine v_iconst dX5_meets_86 (in_lit (by decide)) ?_
  refine v_icmp_ne 169 dX5_meets_87 (by decide) (fun _ => ?_) (fun cQ => absurd cQ (by decide))
  refine v_iload_n dX5_meets_169 rfl ?_
  refine v_iconst dX5_meets_170 (in_lit (by decide)) ?_
  refine v_icmp_ne 179 dX5_meets_171 (by decide) (fun _ => ?_) (fun cQ => absurd cQ (by decide))
  refine v_iload_n dX5_meets_179 rfl ?_
  refine v_iconst dX5_meets_180 (in_lit (by decide)) ?_
  refine v_icmp_eq 188 dX5_meets_181 (by decide) (fun _ => ?_) (fun cQ => absurd cQ (by decide))
  refine v_iconst dX5_meets_188 (in_lit (by decide)) ?_
  exact v_iret dX5_meets_189 rfl (by decide) K
theorem gX5_meets_0c2 {w : Wd} {S : Sh} {J : Jm} {Q : Out → Sh → Jm → Prop} (hL : Lay S) (known : Int)
    (K : (-2147483648 ≤ (J 313 68) + 1 ∧ (J 313 68) + 1 ≤ 2147483647) ∧ (-2147483648 ≤ 40 * (J 313 64) ∧ 40 * (J 313 64) ≤ 2147483647) ∧ (-2147483648 ≤ ((J 313 68) + 1) - 1 ∧ ((J 313 68) + 1) - 1 ≤ 2147483647) ∧ Br (((J 313 68) + 1) - 1 = J 313 69) (V w 3 mX5_meets 106 [some (vR 313), none, none, some (vI (40 * (J 313 64))), some (vI 0)] [] S (up J 313 68 ((J 313 68) + 1)) Q) (Q (.inl (some (vI 1))) S (up J 313 68 ((J 313 68) + 1)))) :
    V w 3 mX5_meets 0 (ent mX5_meets [vR 313, vI 2, vI known]) [] S J Q := by
  show V w 3 mX5_meets 0 [some (vR 313), some (vI 2), some (vI known), none, none] [] S J Q
  refine v_aload_n dX5_meets_0 rfl ?_
  refine v_dup dX5_meets_1 trivial ?_
  refine v_getI dX5_meets_2 frX5_411_5 rfl rfl (L_313 hL).1 ?_
  refine v_iconst dX5_meets_5 (in_lit (by decide)) ?_
  obtain ⟨o1, K⟩ := K
  refine v_iadd dX5_meets_6 o1 ?_
  refine v_putI dX5_meets_7 frX5_411_5 (fun _ _ _ h => by cases h; exact Or.inl rfl) rfl rfl zfit_int (L_313 hL).1 ?_
  show V w 3 mX5_meets 10 [some (vR 313), some (vI 2), some (vI known), none, none] [] S (up J 313 68 ((J 313 68) + 1)) Q
  refine v_bipush dX5_meets_10 (by decide) (in_lit (by decide)) ?_
  refine v_aload_n dX5_meets_12 rfl ?_
  refine v_getI dX5_meets_13 frX5_414_5 rfl rfl (L_313 hL).1 ?_
  show V w 3 mX5_meets 16 [some (vR 313), some (vI 2), some (vI known), none, none] [vI (J 313 64), vI 40] S (up J 313 68 ((J 313 68) + 1)) Q
  obtain ⟨o2, K⟩ := K
  refine v_imul dX5_meets_16 o2 ?_
  refine v_istore_n dX5_meets_17 (Nat.le_of_ble_eq_true rfl) ?_
  show V w 3 mX5_meets 18 [some (vR 313), some (vI 2), some (vI known), some (vI (40 * (J 313 64))), none] [] S (up J 313 68 ((J 313 68) + 1)) Q
  refine v_iload_n dX5_meets_18 rfl ?_
  refine v_if_ne 85 dX5_meets_19 (by decide) (fun _ => ?_) (fun cQ => absurd cQ (by decide))
  refine v_iload_n dX5_meets_85 rfl ?_
  refine v_iconst dX5_meets_86 (in_lit (by decide)) ?_
  refine v_icmp_ne 169 dX5_meets_87 (by decide) (fun cQ => absurd cQ (by decide)) (fun _ => ?_)
  refine v_aload_n dX5_meets_90 rfl ?_
  refine v_getI dX5_meets_91 frX5_411_5 rfl rfl (L_313 hL).1 ?_
  show V w 3 mX5_meets 94 [some (vR 313), some (vI 2), some (vI known), some (vI (40 * (J 313 64))), none] [vI ((J 313 68) + 1)] S (up J 313 68 ((J 313 68) + 1)) Q
  refine v_iconst dX5_meets_94 (in_lit (by decide)) ?_
  obtain ⟨o3, K⟩ := K
  refine v_isub dX5_meets_95 o3 ?_
  refine v_aload_n dX5_meets_96 rfl ?_
  refine v_getI dX5_meets_97 frX5_417_5 rfl rfl (L_313 hL).1 ?_
  show V w 3 mX5_meets 100 [some (vR 313), some (vI 2), some (vI known), some (vI (40 * (J 313 64))), none] [vI (J 313 69), vI (((J 313 68) + 1) - 1)] S (up J 313 68 ((J 313 68) + 1)) Q
  obtain ⟨K1, K2⟩ := K
  refine v_icmp_ne 169 dX5_meets_100 (by decide) (fun c1 => ?_) (fun c1 => ?_)
  · have K := K2 c1
    refine v_iload_n dX5_meets_169 rfl ?_
    refine v_iconst dX5_meets_170 (in_lit (by decide)) ?_
    refine v_icmp_ne 179 dX5_meets_171 (by decide) (fun _ => ?_) (fun cQ => absurd cQ (by decide))
    refine v_iload_n dX5_meets_179 rfl ?_
    refine v_iconst dX5_meets_180 (in_lit (by decide)) ?_
    refine v_icmp_eq 188 dX5_meets_181 (by decide) (fun cQ => absurd cQ (by decide)) (fun _ => ?_)
    refine v_iconst dX5_meets_184 (in_lit (by decide)) ?_
    refine v_goto 189 dX5_meets_185 (by decide) ?_
    exact v_iret dX5_meets_189 rfl (by decide) K
  · have K := K1 c1
    refine v_iconst dX5_meets_103 (in_lit (by decide)) ?_
    refine v_istore dX5_meets_104 (Nat.le_of_ble_eq_true rfl) ?_
    show V w 3 mX5_meets 106 [some (vR 313), some (vI 2), some (vI known), some (vI (40 * (J 313 64))), some (vI 0)] [] S (up J 313 68 ((J 313 68) + 1)) Q
    exact v_forget (fg_some (fg_none (fg_none (fg_some (fg_some fg_nil))))) K
theorem gX5_meets_106c2 {w : Wd} {S : Sh} {J : Jm} {Q : Out → Sh → Jm → Prop} (hL : Lay S) (b : Nat) (s : Nat)
    (K : Br (40 ≤ ((s : Nat) : Int)) (V w 3 mX5_meets 138 [some (vR 313), none, none, none, some (vI 0)] [] S J Q) ((-2147483648 ≤ ((b : Nat) : Int) + ((s : Nat) : Int) ∧ ((b : Nat) : Int) + ((s : Nat) : Int) ≤ 2147483647) ∧ (((b + s : Nat) : Int) < 320) ∧ (((s : Nat) : Int) < 40) ∧ (-2147483648 ≤ ((s : Nat) : Int) + 1 ∧ ((s : Nat) : Int) + 1 ≤ 2147483647) ∧ V w 3 mX5_meets 106 [some (vR 313), none, none, some (vI ((b : Nat) : Int)), some (vI ((s + 1 : Nat) : Int))] [] S (up J 360 s (J 358 (b + s))) Q)) :
    V w 3 mX5_meets 106 [some (vR 313), none, none, some (vI ((b : Nat) : Int)), some (vI ((s : Nat) : Int))] [] S J Q := by
  refine v_iload dX5_meets_106 rfl ?_
  refine v_bipush dX5_meets_108 (by decide) (in_lit (by decide)) ?_
  obtain ⟨K1, K2⟩ := K
  refine v_icmp_ge 135 dX5_meets_110 (by decide) (fun c1 => ?_) (fun c1 => ?_)
  · have K := K1 c1
    refine v_iconst dX5_meets_135 (in_lit (by decide)) ?_
    refine v_istore dX5_meets_136 (Nat.le_of_ble_eq_true rfl) ?_
    show V w 3 mX5_meets 138 [some (vR 313), none, none, some (vI ((b : Nat) : Int)), some (vI 0)] [] S J Q
    exact v_forget (fg_some (fg_none (fg_none (fg_none (fg_some fg_nil))))) K
  · have K := K2 c1
    refine v_aload_n dX5_meets_113 rfl ?_
    refine v_getR dX5_meets_114 frX5_157_5 rfl (L_313 hL).1 (LR_313_71 hL) (Or.inl rfl) ?_
    refine v_iload dX5_meets_117 rfl ?_
    refine v_aload_n dX5_meets_119 rfl ?_
    refine v_getR dX5_meets_120 frX5_151_5 rfl (L_313 hL).1 (LR_313_67 hL) (Or.inl rfl) ?_
    refine v_iload_n dX5_meets_123 rfl ?_
    refine v_iload dX5_meets_124 rfl ?_
    obtain ⟨o1, K⟩ := K
    refine v_iadd dX5_meets_126 o1 ?_
    show V w 3 mX5_meets 127 [some (vR 313), none, none, some (vI ((b : Nat) : Int)), some (vI ((s : Nat) : Int))] [vI ((b + s : Nat) : Int), vR 358, vI ((s : Nat) : Int), vR 360] S J Q
    obtain ⟨o2, K⟩ := K
    refine ld_358 dX5_meets_127 hL (by omega) o2 ?_
    show V w 3 mX5_meets 128 [some (vR 313), none, none, some (vI ((b : Nat) : Int)), some (vI ((s : Nat) : Int))] [vI (J 358 (b + s)), vI ((s : Nat) : Int), vR 360] S J Q
    obtain ⟨o3, K⟩ := K
    refine st_360 dX5_meets_128 hL (by omega) o3 ?_
    show V w 3 mX5_meets 129 [some (vR 313), none, none, some (vI ((b : Nat) : Int)), some (vI ((s : Nat) : Int))] [] S (up J 360 s (J 358 (b + s))) Q
    obtain ⟨o4, K⟩ := K
    refine v_iinc dX5_meets_129 rfl o4 ?_
    show V w 3 mX5_meets 132 [some (vR 313), none, none, some (vI ((b : Nat) : Int)), some (vI ((s + 1 : Nat) : Int))] [] S (up J 360 s (J 358 (b + s))) Q
    refine v_goto 106 dX5_meets_132 (by decide) ?_
    exact K
theorem gX5_meets_138c2 {w : Wd} {S : Sh} {J : Jm} {Q : Out → Sh → Jm → Prop} (hL : Lay S) (k : Nat)
    (K : Br (J 313 64 ≤ ((k : Nat) : Int)) (Q (.inl (some (vI 0))) S J) ((((k : Nat) : Int) < 7) ∧ (-2147483648 ≤ ((k : Nat) : Int) + 1 ∧ ((k : Nat) : Int) + 1 ≤ 2147483647) ∧ V w 3 mX5_meets 138 [some (vR 313), none, none, none, some (vI ((k + 1 : Nat) : Int))] [] S (up J 359 k (J 357 k)) Q)) :
    V w 3 mX5_meets 138 [some (vR 313), none, none, none, some (vI ((k : Nat) : Int))] [] S J Q := by
  refine v_iload dX5_meets_138 rfl ?_
  refine v_aload_n dX5_meets_140 rfl ?_
  refine v_getI dX5_meets_141 frX5_414_5 rfl rfl (L_313 hL).1 ?_
  obtain ⟨K1, K2⟩ := K
  refine v_icmp_ge 167 dX5_meets_144 (by decide) (fun c1 => ?_) (fun c1 => ?_)
  · have K := K1 c1
    refine v_iconst dX5_meets_167 (in_lit (by decide)) ?_
    exact v_iret dX5_meets_168 rfl (by decide) K
  · have K := K2 c1
    refine v_aload_n dX5_meets_147 rfl ?_
    refine v_getR dX5_meets_148 frX5_154_5 rfl (L_313 hL).1 (LR_313_70 hL) (Or.inl rfl) ?_
    refine v_iload dX5_meets_151 rfl ?_
    refine v_aload_n dX5_meets_153 rfl ?_
    refine v_getR dX5_meets_154 frX5_148_5 rfl (L_313 hL).1 (LR_313_66 hL) (Or.inl rfl) ?_
    refine v_iload dX5_meets_157 rfl ?_
    obtain ⟨o1, K⟩ := K
    refine ld_357 dX5_meets_159 hL (by omega) o1 ?_
    show V w 3 mX5_meets 160 [some (vR 313), none, none, none, some (vI ((k : Nat) : Int))] [vI (J 357 k), vI ((k : Nat) : Int), vR 359] S J Q
    refine st_359 dX5_meets_160 hL (by omega) o1 ?_
    show V w 3 mX5_meets 161 [some (vR 313), none, none, none, some (vI ((k : Nat) : Int))] [] S (up J 359 k (J 357 k)) Q
    obtain ⟨o2, K⟩ := K
    refine v_iinc dX5_meets_161 rfl o2 ?_
    show V w 3 mX5_meets 164 [some (vR 313), none, none, none, some (vI ((k + 1 : Nat) : Int))] [] S (up J 359 k (J 357 k)) Q
    refine v_goto 138 dX5_meets_164 (by decide) ?_
    exact K
theorem gX5_meets_0c3 {w : Wd} {S : Sh} {J : Jm} {Q : Out → Sh → Jm → Prop} (hL : Lay S) (known : Int)
    (K : (-2147483648 ≤ (J 313 68) + 1 ∧ (J 313 68) + 1 ≤ 2147483647) ∧ (-2147483648 ≤ 40 * (J 313 64) ∧ 40 * (J 313 64) ≤ 2147483647) ∧ V w 2 mX5_marksFits 0 (ent mX5_marksFits [vR 313, vI known]) [] S (up J 313 68 ((J 313 68) + 1)) (CallQ w 3 mX5_meets 176 [some (vR 313), some (vI 3), some (vI known), some (vI (40 * (J 313 64))), none] [] Q)) :
    V w 3 mX5_meets 0 (ent mX5_meets [vR 313, vI 3, vI known]) [] S J Q := by
  show V w 3 mX5_meets 0 [some (vR 313), some (vI 3), some (vI known), none, none] [] S J Q
  refine v_aload_n dX5_meets_0 rfl ?_
  refine v_dup dX5_meets_1 trivial ?_
  refine v_getI dX5_meets_2 frX5_411_5 rfl rfl (L_313 hL).1 ?_
  refine v_iconst dX5_meets_5 (in_lit (by decide)) ?_
  obtain ⟨o1, K⟩ := K
  refine v_iadd dX5_meets_6 o1 ?_
  refine v_putI dX5_meets_7 frX5_411_5 (fun _ _ _ h => by cases h; exact Or.inl rfl) rfl rfl zfit_int (L_313 hL).1 ?_
  show V w 3 mX5_meets 10 [some (vR 313), some (vI 3), some (vI known), none, none] [] S (up J 313 68 ((J 313 68) + 1)) Q
  refine v_bipush dX5_meets_10 (by decide) (in_lit (by decide)) ?_
  refine v_aload_n dX5_meets_12 rfl ?_
  refine v_getI dX5_meets_13 frX5_414_5 rfl rfl (L_313 hL).1 ?_
  show V w 3 mX5_meets 16 [some (vR 313), some (vI 3), some (vI known), none, none] [vI (J 313 64), vI 40] S (up J 313 68 ((J 313 68) + 1)) Q
  obtain ⟨o2, K⟩ := K
  refine v_imul dX5_meets_16 o2 ?_
  refine v_istore_n dX5_meets_17 (Nat.le_of_ble_eq_true rfl) ?_
  show V w 3 mX5_meets 18 [some (vR 313), some (vI 3), some (vI known), some (vI (40 * (J 313 64))), none] [] S (up J 313 68 ((J 313 68) + 1)) Q
  refine v_iload_n dX5_meets_18 rfl ?_
  refine v_if_ne 85 dX5_meets_19 (by decide) (fun _ => ?_) (fun cQ => absurd cQ (by decide))
  refine v_iload_n dX5_meets_85 rfl ?_
  refine v_iconst dX5_meets_86 (in_lit (by decide)) ?_
  refine v_icmp_ne 169 dX5_meets_87 (by decide) (fun _ => ?_) (fun cQ => absurd cQ (by decide))
  refine v_iload_n dX5_meets_169 rfl ?_
  refine v_iconst dX5_meets_170 (in_lit (by decide)) ?_
  refine v_icmp_ne 179 dX5_meets_171 (by decide) (fun cQ => absurd cQ (by decide)) (fun _ => ?_)
  refine v_aload_n dX5_meets_174 rfl ?_
  refine v_iload_n dX5_meets_175 rfl ?_
  refine v_callV (d' := 2) (rest := []) [vI known] dX5_meets_176 vrX5_420_5 (L_313 hL).1 rfl rfl (one_I one_nil) (Nat.le_of_ble_eq_true rfl) (Nat.le_of_ble_eq_true rfl) (Nat.le_of_ble_eq_true rfl) ?_
  exact K
theorem gX5_meets_0c6 {w : Wd} {S : Sh} {J : Jm} {Q : Out → Sh → Jm → Prop} (hL : Lay S) (known : Int)
    (K : (-2147483648 ≤ (J 313 68) + 1 ∧ (J 313 68) + 1 ≤ 2147483647) ∧ (-2147483648 ≤ 40 * (J 313 64) ∧ 40 * (J 313 64) ≤ 2147483647) ∧ Q (.inl (some (vI 1))) S (up J 313 68 ((J 313 68) + 1))) :
    V w 3 mX5_meets 0 (ent mX5_meets [vR 313, vI 6, vI known]) [] S J Q := by
  show V w 3 mX5_meets 0 [some (vR 313), some (vI 6), some (vI known), none, none] [] S J Q
  refine v_aload_n dX5_meets_0 rfl ?_
  refine v_dup dX5_meets_1 trivial ?_
  refine v_getI dX5_meets_2 frX5_411_5 rfl rfl (L_313 hL).1 ?_
  refine v_iconst dX5_meets_5 (in_lit (by decide)) ?_
  obtain ⟨o1, K⟩ := K
  refine v_iadd dX5_meets_6 o1 ?_
  refine v_putI dX5_meets_7 frX5_411_5 (fun _ _ _ h => by cases h; exact Or.inl rfl) rfl rfl zfit_int (L_313 hL).1 ?_
  show V w 3 mX5_meets 10 [some (vR 313), some (vI 6), some (vI known), none, none] [] S (up J 313 68 ((J 313 68) + 1)) Q
  refine v_bipush dX5_meets_10 (by decide) (in_lit (by decide)) ?_
  refine v_aload_n dX5_meets_12 rfl ?_
  refine v_getI dX5_meets_13 frX5_414_5 rfl rfl (L_313 hL).1 ?_
  show V w 3 mX5_meets 16 [some (vR 313), some (vI 6), some (vI known), none, none] [vI (J 313 64), vI 40] S (up J 313 68 ((J 313 68) + 1)) Q
  obtain ⟨o2, K⟩ := K
  refine v_imul dX5_meets_16 o2 ?_
  refine v_istore_n dX5_meets_17 (Nat.le_of_ble_eq_true rfl) ?_
  show V w 3 mX5_meets 18 [some (vR 313), some (vI 6), some (vI known), some (vI (40 * (J 313 64))), none] [] S (up J 313 68 ((J 313 68) + 1)) Q
  refine v_iload_n dX5_meets_18 rfl ?_
  refine v_if_ne 85 dX5_meets_19 (by decide) (fun _ => ?_) (fun cQ => absurd cQ (by decide))
  refine v_iload_n dX5_meets_85 rfl ?_
  refine v_iconst dX5_meets_86 (in_lit (by decide)) ?_
  refine v_icmp_ne 169 dX5_meets_87 (by decide) (fun _ => ?_) (fun cQ => absurd cQ (by decide))
  refine v_iload_n dX5_meets_169 rfl ?_
  refine v_iconst dX5_meets_170 (in_lit (by decide)) ?_
  refine v_icmp_ne 179 dX5_meets_171 (by decide) (fun _ => ?_) (fun cQ => absurd cQ (by decide))
  refine v_iload_n dX5_meets_179 rfl ?_
  refine v_iconst dX5_meets_180 (in_lit (by decide)) ?_
  refine v_icmp_eq 188 dX5_meets_181 (by decide) (fun cQ => absurd cQ (by decide)) (fun _ => ?_)
  refine v_iconst dX5_meets_184 (in_lit (by decide)) ?_
  refine v_goto 189 dX5_meets_185 (by decide) ?_
  exact v_iret dX5_meets_189 rfl (by decide) K

theorem rowsF_len {f : Nat → List Way} {B : Nat} (h : ∀ u, (f u).length ≤ B) : ∀ v u, (rowsF f v u).length ≤ v * B
  | 0, _ => Nat.zero_le _
  | v + 1, u => by
    have h1 := h u
    have h2 := rowsF_len h v (u + 1)
    rw [rowsF, List.length_append, Nat.succ_mul]
    omega
theorem wy_len (E : WE) : ∀ (m j : Nat) (ch : List Nat) (g : Nat → Int), (∀ i, j ≤ i → i < j + m → E.rw (E.tb i) ≤ 8) → (wy E m j ch g).length ≤ 8 ^ m
  | 0, _, _, _, _ => Nat.le_refl _
  | m + 1, j, ch, g, h => by
    rw [wy_succ]
    have h1 := rowsF_len (f := wyU E m j ch g) (B := 8 ^ m) (fun u => by
      unfold wyU
      split
      · exact Nat.zero_le _
      · exact wy_len E m (j + 1) _ _ (fun i h1 h2 => h i (by omega) (by omega))) (E.rw (E.tb j)) 0
    have h2 := h j (Nat.le_refl _) (by omega)
    have h3 : E.rw (E.tb j) * 8 ^ m ≤ 8 * 8 ^ m := Nat.mul_le_mul_right _ h2
    rw [Nat.pow_succ]
    omega
theorem wy_len7 {J : Jm} {E : WE} {N : Nat} (hE : EnvAt J E N) (ch : List Nat) (g : Nat → Int) : (wy E N 0 ch g).length ≤ 2097152 := by
  have h1 := wy_len E N 0 ch g (fun i _ h => (hE.2.2.1 i (by omega)).2.2.2.1.2)
  have h2 : 8 ^ N ≤ 8 ^ 7 := Nat.pow_le_pow_right (by decide) hE.2.1
  have h3 : 8 ^ 7 = 2097152 := by decide
  omega
/-- cells and no others are given -/
def inG (g : Nat → Int) : Prop := ∀ x, -1 ≤ g x ∧ g x ≤ 134
theorem put1_in {ag : Nat → Int → Nat → Int → Bool} {g g' : Nat → Int} {s : Nat} {c : Int} (hg : inG g) (hc : 0 ≤ c ∧ c ≤ 134) (h : put1 ag g s c = some g') : inG g' := by
  unfold put1 at h
  split at h
  · split at h
    · cases h
      intro x
      by_cases e : x = s
      · show -1 ≤ (if x = s then c else g x) ∧ (if x = s then c else g x) ≤ 134
        rw [if_pos e]; omega
      · show -1 ≤ (if x = s then c else g x) ∧ (if x = s then c else g x) ≤ 134
        rw [if_neg e]; exact hg x
    · cases h
  · split at h
    · cases h; exact hg
    · cases h
theorem putN_in {ag : Nat → Int → Nat → Int → Bool} {st : Nat → Nat} {P C : Nat → Int} (hC : ∀ i, 0 ≤ C i ∧ C i ≤ 134) : ∀ (m i : Nat) (g g' : Nat → Int), inG g → putN ag st P C m i g = some g' → inG g'
  | 0, _, g, g', hg, h => by cases h; exact hg
  | m + 1, i, g, g', hg, h => by
    rw [putN] at h
    split at h
    · exact putN_in hC m (i + 1) g g' hg h
    · split at h
      · cases h
      · rename_i g2 hp
        exact putN_in hC m (i + 1) g2 g' (put1_in hg (hC i) hp) h
def inC (cs : List Int) : Prop := ∀ i, 0 ≤ cs.getD i 0 ∧ cs.getD i 0 ≤ 134
theorem tryR_in {E : WE} {j : Nat} {ch : List Nat} {g g' : Nat → Int} {u : Nat} (hc : inC (E.cl j)) (hg : inG g) (h : tryR E j ch g u = some g') : inG g' := by
  unfold tryR putR at h
  split at h
  · cases h
  · split at h
    · exact putN_in hc _ _ _ _ hg h
    · cases h
theorem rowsF_mem {f : Nat → List Way} {x : Way} : ∀ v u, x ∈ rowsF f v u → ∃ i, u ≤ i ∧ i < u + v ∧ x ∈ f i
  | 0, _, h => by cases h
  | v + 1, u, h => by
    rw [rowsF] at h
    rcases List.mem_append.mp h with h | h
    · exact ⟨u, Nat.le_refl _, by omega, h⟩
    · obtain ⟨i, h1, h2, h3⟩ := rowsF_mem v (u + 1) h
      exact ⟨i, by omega, by omega, h3⟩
theorem wy_in (E : WE) : ∀ (m j : Nat) (ch : List Nat) (g : Nat → Int), (∀ i, j ≤ i → i < j + m → inC (E.cl i)) → inG g → ∀ x ∈ wy E m j ch g, inG x.2
  | 0, _, ch, g, _, hg, x, hx => by
    rw [List.mem_singleton.mp hx]
    exact hg
  | m + 1, j, ch, g, h, hg, x, hx => by
    rw [wy_succ] at hx
    obtain ⟨u, -, -, h3⟩ := rowsF_mem _ _ hx
    unfold wyU at h3
    split at h3
    · cases h3
    · rename_i g' hp
      exact wy_in E m (j + 1) _ g' (fun i h1 h2 => h i (by omega) (by omega)) (tryR_in (h j (Nat.le_refl _) (by omega)) hg hp) x h3
abbrev wy0 (E : WE) (N : Nat) : List Way := wy E N 0 [] (fun _ => -1)
theorem wy0_in {E : WE} {N : Nat} (h : ∀ j, j < N → inC (E.cl j)) {x : Way} (hx : x ∈ wy0 E N) : inG x.2 := wy_in E N 0 [] _ (fun i _ h2 => h i (by omega)) (fun _ => ⟨by omega, by omega⟩) x hx
theorem s_goes6 {w : Wd} {S : Sh} {J : Jm} {Q : Out → Sh → Jm → Prop} (hL : Lay S) (known : Int) (E : WE) (N : Nat) (hE : EnvAt J E N) (K : ∀ J', gtF J J' → J' 313 68 = ((wy0 E N).length : Nat) → Q (.inl none) S J') : V w 4 mX5_goesThrough 0 (ent mX5_goesThrough [vR 313, vI 6, vI known]) [] S J Q := by
  refine s_goes hL 6 known E N hE (fun i J1 => J1 313 68 = (i : Int)) (fun _ => False) (fun i J1 J2 h f => by rw [f _ _ (by decide) (by decide)]; exact h) up_self (fun i ch g J1 Q' hat f1 i1 c1 hl g1 KK => ?_) (fun J' f h => K J' f (h.elim id False.elim))
  have hlen := wy_len7 hE [] (fun _ => -1)
  have hi := (List.getElem?_eq_some_iff.mp hat).1
  have et : J1 313 64 = (N : Int) := by rw [f1 _ _ (by unfold gtS; omega)]; exact hE.1
  have hN := hE.2.1
  refine gX5_meets_0c6 (J := J1) hL known ?_
  rw [i1, et]
  (repeat' (first | ((with_reducible refine And.intro ?_ ?_); omega)))
  exact KK 1 _ (Or.inr rfl) (fun b k q => up_ne (fun e => q (by omega))) (fun _ => by rw [up_self]; push_cast; rfl) (fun h => absurd h (by decide))
theorem s_goes1 {w : Wd} {S : Sh} {J : Jm} {Q : Out → Sh → Jm → Prop} (hL : Lay S) (known : Int) (E : WE) (N : Nat) (hE : EnvAt J E N) (K : ∀ J', gtF J J' → (0 < J' 313 68 ↔ wy0 E N ≠ []) → Q (.inl none) S J') : V w 4 mX5_goesThrough 0 (ent mX5_goesThrough [vR 313, vI 1, vI known]) [] S J Q := by
  refine s_goes hL 1 known E N hE (fun i J1 => J1 313 68 = (i : Int)) (fun J1 => 0 < J1 313 68 ∧ wy0 E N ≠ []) (fun i J1 J2 h f => by rw [f _ _ (by decide) (by decide)]; exact h) up_self (fun i ch g J1 Q' hat f1 i1 c1 hl g1 KK => ?_) (fun J' f h => K J' f ?_)
  · have hlen := wy_len7 hE [] (fun _ => -1)
    have hi := (List.getElem?_eq_some_iff.mp hat).1
    have et : J1 313 64 = (N : Int) := by rw [f1 _ _ (by unfold gtS; omega)]; exact hE.1
    have hN := hE.2.1
    refine gX5_meets_0c1 (J := J1) hL known ?_
    rw [i1, et]
    (repeat' (first | ((with_reducible refine And.intro ?_ ?_); omega)))
    refine KK 0 _ (Or.inl rfl) (fun b k q => up_ne (fun e => q (by omega))) (fun h => absurd h (by decide)) (fun _ => ⟨by rw [up_self]; omega, fun q => ?_⟩)
    have q' : wy E N 0 [] (fun _ => -1) = [] := q
    rw [q'] at hi
    exact absurd hi (Nat.not_lt_zero _)
  · rcases h with h | h
    · rw [h]
      constructor
      · intro q e
        have e' : wy E N 0 [] (fun _ => -1) = [] := e
        rw [e'] at q
        exact absurd q (by decide)
      · intro q
        have := List.length_pos_iff.mpr q
        exact Int.natCast_pos.mpr this
    · exact ⟨fun _ => h.2, fun _ => h.1⟩
/-- a way was found -/
def FoundAt (J : Jm) (E : WE) (N : Nat) (x : Way) : Prop := (∀ s, s < 40 → J 360 s = x.2 s) ∧ x.1.length = N ∧ ∀ j, j < N → ∃ u : Nat, u < 8 ∧ J 359 j = (u : Int) ∧ x.1.getD j 0 = 8 * E.tb j + u
theorem s_goes2 {w : Wd} {S : Sh} {J : Jm} {Q : Out → Sh → Jm → Prop} (hL : Lay S) (known : Int) (E : WE) (N : Nat) (k : Nat) (hE : EnvAt J E N) (hk : J 313 69 = (k : Int)) (K0 : (wy0 E N)[k]? = none → ∀ J', gtF J J' → J' 313 68 ≤ (k : Int) → Q (.inl none) S J') (K1 : ∀ x, (wy0 E N)[k]? = some x → ∀ J', gtF J J' → (k : Int) < J' 313 68 → FoundAt J' E N x → Q (.inl none) S J') : V w 4 mX5_goesThrough 0 (ent mX5_goesThrough [vR 313, vI 2, vI known]) [] S J Q := by
  have hlen := wy_len7 hE [] (fun _ => -1)
  have hN := hE.2.1
  refine s_goes hL 2 known E N hE (fun i J1 => J1 313 68 = (i : Int) ∧ i ≤ k) (fun J1 => ∃ x, (wy0 E N)[k]? = some x ∧ (k : Int) < J1 313 68 ∧ FoundAt J1 E N x) (fun i J1 J2 h f => by rw [f _ _ (by decide) (by decide)]; exact h) ⟨up_self, Nat.zero_le _⟩ (fun i ch g J1 Q' hat f1 i1 c1 hl g1 KK => ?_) (fun J' f h => ?_)
  · have hi := (List.getElem?_eq_some_iff.mp hat).1
    have et : J1 313 64 = (N : Int) := by rw [f1 _ _ (by unfold gtS; omega)]; exact hE.1
    have ew : J1 313 69 = (k : Int) := by rw [f1 _ _ (by unfold gtS; omega)]; exact hk
    refine gX5_meets_0c2 (J := J1) hL known ?_
    rw [i1.1, et, ew]
    (repeat' (first | ((with_reducible refine And.intro ?_ ?_); omega)))
    refine br_i (fun h => ?_) (fun h => ?_)
    · obtain rfl : i = k := by omega
      rw [show 40 * (N : Int) = ((40 * N : Nat) : Int) by omega]
      show V w 3 mX5_meets 106 [some (vR 313), none, none, some (vI ((40 * N : Nat) : Int)), some (vI ((0 : Nat) : Int))] [] S _ Q'
      refine up_loop (P := fun x J2 => (∀ b j, b ≠ 360 → J2 b j = (up J1 313 68 ((i : Int) + 1)) b j) ∧ ∀ y, y < x → J2 360 y = g y) 40 (fun x J2 => V w 3 mX5_meets 106 [some (vR 313), none, none, some (vI ((40 * N : Nat) : Int)), some (vI (x : Int))] [] S J2 Q') ?_ ?_ 0 _ (by omega) ⟨fun _ _ _ => rfl, fun y hy => absurd hy (Nat.not_lt_zero _)⟩
      · intro x J2 hx ⟨f2, g2⟩ ih
        refine gX5_meets_106c2 (J := J2) hL (40 * N) x (br_n (by omega) ?_)
        have e1 : J2 358 (40 * N + x) = g x := by rw [f2 _ _ (by decide), up_na (by decide)]; exact (g1 x hx).1
        rw [e1]
        (repeat' (first | ((with_reducible refine And.intro ?_ ?_); omega)))
        refine ih _ ⟨fun b j h => by rw [up_na h]; exact f2 b j h, fun y hy => ?_⟩
        by_cases e : y = x
        · rw [e, up_self]
        · rw [up_nk e]; exact g2 y (by omega)
      · intro J2 ⟨f2, g2⟩
        refine gX5_meets_106c2 (J := J2) hL (40 * N) 40 (br_y (by omega) ?_)
        show V w 3 mX5_meets 138 [some (vR 313), none, none, none, some (vI ((0 : Nat) : Int))] [] S J2 Q'
        refine up_loop (P := fun x J3 => (∀ b j, b ≠ 359 → J3 b j = J2 b j) ∧ ∀ y, y < x → J3 359 y = J1 357 y) N (fun x J3 => V w 3 mX5_meets 138 [some (vR 313), none, none, none, some (vI (x : Int))] [] S J3 Q') ?_ ?_ 0 _ (by omega) ⟨fun _ _ _ => rfl, fun y hy => absurd hy (Nat.not_lt_zero _)⟩
        · intro x J3 hx ⟨f3, g3⟩ ih
          have e2 : J3 313 64 = (N : Int) := by rw [f3 _ _ (by decide), f2 _ _ (by decide), up_nk (by decide)]; exact et
          have e3 : J3 357 x = J1 357 x := by rw [f3 _ _ (by decide), f2 _ _ (by decide), up_na (by decide)]
          refine gX5_meets_138c2 (J := J3) hL x (br_n (by omega) ?_)
          rw [e3]
          (repeat' (first | ((with_reducible refine And.intro ?_ ?_); omega)))
          refine ih _ ⟨fun b j h => by rw [up_na h]; exact f3 b j h, fun y hy => ?_⟩
          by_cases e : y = x
          · rw [e, up_self]
          · rw [up_nk e]; exact g3 y (by omega)
        · intro J3 ⟨f3, g3⟩
          have e2 : J3 313 64 = (N : Int) := by rw [f3 _ _ (by decide), f2 _ _ (by decide), up_nk (by decide)]; exact et
          refine gX5_meets_138c2 (J := J3) hL N (br_y (by omega) ?_)
          refine KK 0 _ (Or.inl rfl) (fun b j q => ?_) (fun h => absurd h (by decide)) (fun _ => ⟨(ch, g), hat, ?_, fun s hs => ?_, hl, fun j hj => ?_⟩)
          · rw [f3 b j (by omega), f2 b j (by omega), up_ne (fun e => q (by omega))]
          · rw [f3 _ _ (by decide), f2 _ _ (by decide), up_self]; omega
          · rw [f3 _ _ (by decide)]; exact g2 s hs
          · obtain ⟨u, u1, u2, u3⟩ := c1 j (by omega)
            exact ⟨u, u1, by rw [g3 j hj]; exact u2, u3⟩
    · exact KK 1 _ (Or.inr rfl) (fun b j q => up_ne (fun e => q (by omega))) (fun _ => ⟨by rw [up_self]; push_cast; rfl, by have := i1.2; omega⟩) (fun h => absurd h (by decide))
  · rcases h with h | ⟨x, h1, h2, h3⟩
    · refine K0 (List.getElem?_eq_none h.2) J' f ?_
      rw [h.1]
      exact Int.ofNat_le.mpr h.2
    · exact K1 x h1 J' f h2 h3
/-- where a cell, or none, is counted -/
def tlI (z : Int) : Int := if z = -1 then 135 else z
def tlC (L : List Way) (s c : Nat) : Nat := L.countP (fun x => decide (tlI (x.2 s) = (c : Int)))
theorem s_goes0 {w : Wd} {S : Sh} {J : Jm} {Q : Out → Sh → Jm → Prop} (hL : Lay S) (known : Int) (E : WE) (N : Nat) (hE : EnvAt J E N) (hcl : ∀ j, j < N → inC (E.cl j)) (h0 : ∀ k, k < 5440 → J 361 k = 0) (K : ∀ J', gtF J J' → J' 313 68 = ((wy0 E N).length : Nat) → (∀ s c, s < 40 → c < 136 → J' 361 (136 * s + c) = ((tlC (wy0 E N) s c : Nat) : Int)) → Q (.inl none) S J') : V w 4 mX5_goesThrough 0 (ent mX5_goesThrough [vR 313, vI 0, vI known]) [] S J Q := by
  have hlen := wy_len7 hE [] (fun _ => -1)
  have hN := hE.2.1
  refine s_goes hL 0 known E N hE (fun i J1 => J1 313 68 = (i : Int) ∧ ∀ s c, s < 40 → c < 136 → J1 361 (136 * s + c) = ((tlC ((wy0 E N).take i) s c : Nat) : Int)) (fun _ => False) (fun i J1 J2 h f => ?_) ⟨up_self, fun s c hs hc => ?_⟩ (fun i ch g J1 Q' hat f1 i1 c1 hl g1 KK => ?_) (fun J' f h => ?_)
  · refine ⟨by rw [f _ _ (by decide) (by decide)]; exact h.1, fun s c hs hc => ?_⟩
    rw [f _ _ (by decide) (by decide)]
    exact h.2 s c hs hc
  · rw [up_na (by decide), h0 _ (by omega)]
    rfl
  · have hi := (List.getElem?_eq_some_iff.mp hat).1
    have et : J1 313 64 = (N : Int) := by rw [f1 _ _ (by unfold gtS; omega)]; exact hE.1
    have hgin := wy0_in hcl (List.mem_of_getElem? hat)
    have htk : (wy0 E N).take (i + 1) = (wy0 E N).take i ++ [(ch, g)] := by
      rw [List.take_add_one]
      have hat' : (wy0 E N)[i]? = some (ch, g) := hat
      rw [hat']
      rfl
    refine gX5_meets_0c0 (J := J1) hL known ?_
    rw [i1.1, et, show 40 * (N : Int) = ((40 * N : Nat) : Int) by omega]
    (repeat' (first | ((with_reducible refine And.intro ?_ ?_); omega)))
    show V w 3 mX5_meets 25 [some (vR 313), some (vI 0), none, some (vI ((40 * N : Nat) : Int)), some (vI ((0 : Nat) : Int))] [] S _ Q'
    have tle : ∀ s c, tlC ((wy0 E N).take i) s c ≤ 2097152 := fun s c => by
      unfold tlC
      refine Nat.le_trans List.countP_le_length ?_
      rw [List.length_take]
      have : (wy0 E N).length ≤ 2097152 := hlen
      omega
    refine up_loop (P := fun x J2 => (∀ b j, b ≠ 361 → J2 b j = (up J1 313 68 ((i : Int) + 1)) b j) ∧ ∀ s c, s < 40 → c < 136 → J2 361 (136 * s + c) = ((tlC ((wy0 E N).take (if s < x then i + 1 else i)) s c : Nat) : Int)) 40 (fun x J2 => V w 3 mX5_meets 25 [some (vR 313), some (vI 0), none, some (vI ((40 * N : Nat) : Int)), some (vI (x : Int))] [] S J2 Q') ?_ ?_ 0 _ (by omega) ⟨fun _ _ _ => rfl, fun s c hs hc => by rw [if_neg (Nat.not_lt_zero _), up_na (by decide)]; exact i1.2 s c hs hc⟩
    · intro x J2 hx ⟨f2, g2⟩ ih
      have e1 : J2 358 (40 * N + x) = g x := by rw [f2 _ _ (by decide), up_na (by decide)]; exact (g1 x hx).1
      have hgx : -1 ≤ g x ∧ g x ≤ 134 := hgin x
      have st : ∀ (q : Nat), q < 136 → ((q : Nat) : Int) = tlI (g x) → V w 3 mX5_meets 25 [some (vR 313), some (vI 0), none, some (vI ((40 * N : Nat) : Int)), some (vI ((x + 1 : Nat) : Int))] [] S (up J2 361 (136 * x + q) (J2 361 (136 * x + q) + 1)) Q' := by
        intro q hq eq
        refine ih _ ⟨fun b j h => by rw [up_na h]; exact f2 b j h, fun s c hs hc => ?_⟩
        by_cases hsx : s = x
        · subst hsx
          have hold := g2 s c hs hc
          rw [if_neg (Nat.lt_irrefl _)] at hold
          rw [if_pos (Nat.lt_succ_self _), htk]
          unfold tlC at hold ⊢
          rw [List.countP_append, List.countP_singleton]
          by_cases hcq : c = q
          · subst hcq
            rw [up_self, hold, decide_eq_true (show tlI ((ch, g).2 s) = (c : Int) from eq.symm)]
            push_cast
            rfl
          · rw [up_nk (by omega), hold, decide_eq_false (show ¬ tlI ((ch, g).2 s) = (c : Int) from fun e => hcq (by have e' : tlI (g s) = (c : Int) := e; omega))]
            rfl
        · rw [up_nk (by omega), g2 s c hs hc]
          by_cases hlt : s < x
          · rw [if_pos hlt, if_pos (by omega)]
          · rw [if_neg hlt, if_neg (by omega)]
      refine gX5_meets_25c0 (J := J2) hL (40 * N) x (br_n (by omega) ?_)
      rw [e1]
      unfold tlI at st
      have hb9 : ∀ q : Nat, q < 136 → 0 ≤ J2 361 (136 * x + q) ∧ J2 361 (136 * x + q) ≤ 2097152 := fun q hq => by
        rw [g2 x q hx hq, if_neg (Nat.lt_irrefl _)]
        have := tle x q
        omega
      (repeat' (first | ((with_reducible refine And.intro ?_ ?_); omega)))
      refine br_i (fun h => ?_) (fun h => ?_)
      · rw [if_pos h] at st
        have := hb9 135 (by omega)
        (repeat' (first | ((with_reducible refine And.intro ?_ ?_); omega)))
        exact st 135 (by omega) rfl
      · rw [if_neg h] at st
        obtain ⟨q, eq⟩ : ∃ q : Nat, g x = q := ⟨(g x).toNat, by omega⟩
        have := hb9 q (by omega)
        rw [eq, show (((136 * x : Nat) : Int) + (q : Int)).toNat = 136 * x + q by omega]
        (repeat' (first | ((with_reducible refine And.intro ?_ ?_); omega)))
        exact st q (by omega) eq.symm
    · intro J2 ⟨f2, g2⟩
      refine gX5_meets_25c0 (J := J2) hL (40 * N) 40 (br_y (by omega) ?_)
      refine KK 1 _ (Or.inr rfl) (fun b j q => ?_) (fun _ => ⟨?_, fun s c hs hc => ?_⟩) (fun h => absurd h (by decide))
      · rw [f2 b j (by omega), up_ne (fun e => q (by omega))]
      · rw [f2 _ _ (by decide), up_self]; push_cast; rfl
      · rw [g2 s c hs hc, if_pos hs]
  · rcases h with h | h
    · refine K J' f h.1 (fun s c hs hc => ?_)
      rw [h.2 s c hs hc]
      have : (wy0 E N).take (wy E N 0 [] (fun _ => -1)).length = wy0 E N := List.take_length
      rw [this]
    · exact h.elim
