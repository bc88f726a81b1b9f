/-! the model: reads, settles, could, inGrid -/
set_option maxRecDepth 100000
theorem gX5_reads_0 {w : Wd} {S : Sh} {J : Jm} {Q : Out → Sh → Jm → Prop} (hL : Lay S) (known : Int) (t : Int) (u : Int)
    (K : Br (0 ≤ known ∧ known ≤ (J 313 1)) ((-2147483648 ≤ (J 313 2) - 1 ∧ (J 313 2) - 1 ≤ 2147483647) ∧ Br (0 ≤ t ∧ t ≤ ((J 313 2) - 1)) ((t < 25) ∧ (-2147483648 ≤ (J 316 t.toNat) - 1 ∧ (J 316 t.toNat) - 1 ≤ 2147483647) ∧ Br (0 ≤ u ∧ u ≤ ((J 316 t.toNat) - 1)) ((MI0 (up J 313 0 0)) ∧ (∀ (J1 : Jm), PAll (up J 313 0 0) known J1 → (-2147483648 ≤ 8 * t ∧ 8 * t ≤ 2147483647) ∧ (-2147483648 ≤ (8 * t) + u ∧ (8 * t) + u ≤ 2147483647) ∧ V w 6 mX5_reads 66 [some (vR 313), none, none, none, some (vI ((8 * t) + u)), some (vI 0), none, none] [] S (up J1 313 75 0) Q)) (Q (.inl (some (vI (-1)))) S (up J 313 0 0))) (Q (.inl (some (vI (-1)))) S (up J 313 0 0))) (Q (.inl (some (vI (-1)))) S (up J 313 0 0))) :
    V w 6 mX5_reads 0 (ent mX5_reads [vR 313, vI known, vI t, vI u]) [] S J Q := by
  show V w 6 mX5_reads 0 [some (vR 313), some (vI known), some (vI t), some (vI u), none, none, none, none] [] S J Q
  refine v_aload_n dX5_reads_0 rfl ?_
  refine v_iconst dX5_reads_1 (in_lit (by decide)) ?_
  refine v_putI dX5_reads_2 frX5_1_5 (fun _ _ _ h => by cases h; exact Or.inl rfl) rfl rfl zfit_int (L_313 hL).1 ?_
  show V w 6 mX5_reads 5 [some (vR 313), some (vI known), some (vI t), some (vI u), none, none, none, none] [] S (up J 313 0 0) Q
  refine v_aload_n dX5_reads_5 rfl ?_
  refine v_iload_n dX5_reads_6 rfl ?_
  refine v_callV (d' := 0) (rest := []) [vI known] dX5_reads_7 vrX5_298_5 (L_313 hL).1 rfl rfl (one_I one_nil) (Nat.le_of_ble_eq_true rfl) (Nat.le_of_ble_eq_true rfl) (Nat.le_of_ble_eq_true rfl) ?_
  obtain ⟨K1, K2⟩ := K
  refine sX5_isKnown hL known  (fun c1 => ?_) (fun c1 => ?_)
  · have K := K1 c1
    show V w 6 mX5_reads 10 [some (vR 313), some (vI known), some (vI t), some (vI u), none, none, none, none] [vI 1] S (up J 313 0 0) Q
    refine v_if_eq 43 dX5_reads_10 (by decide) (fun cQ => absurd cQ (by decide)) (fun _ => ?_)
    refine v_iload_n dX5_reads_13 rfl ?_
    refine v_iconst dX5_reads_14 (in_lit (by decide)) ?_
    refine v_aload_n dX5_reads_15 rfl ?_
    refine v_getI dX5_reads_16 frX5_243_5 rfl rfl (L_313 hL).1 ?_
    show V w 6 mX5_reads 19 [some (vR 313), some (vI known), some (vI t), some (vI u), none, none, none, none] [vI (J 313 2), vI 0, vI t] S (up J 313 0 0) Q
    refine v_iconst dX5_reads_19 (in_lit (by decide)) ?_
    obtain ⟨o1, K⟩ := K
    refine v_isub dX5_reads_20 o1 ?_
    refine v_callS (d' := 0) (rest := []) [vI t, vI 0, vI ((J 313 2) - 1)] dX5_reads_21 srX5_169 rfl (one_I (one_I (one_I one_nil))) (Nat.le_of_ble_eq_true rfl) (Nat.le_of_ble_eq_true rfl) (Nat.le_of_ble_eq_true rfl) ?_
    obtain ⟨K1, K2⟩ := K
    refine sX5_within hL t 0 ((J 313 2) - 1)  (fun c2 => ?_) (fun c2 => ?_)
    · have K := K1 c2
      show V w 6 mX5_reads 24 [some (vR 313), some (vI known), some (vI t), some (vI u), none, none, none, none] [vI 1] S (up J 313 0 0) Q
      refine v_if_eq 43 dX5_reads_24 (by decide) (fun cQ => absurd cQ (by decide)) (fun _ => ?_)
      refine v_iload_n dX5_reads_27 rfl ?_
      refine v_iconst dX5_reads_28 (in_lit (by decide)) ?_
      refine v_aload_n dX5_reads_29 rfl ?_
      refine v_getR dX5_reads_30 frX5_20_5 rfl (L_313 hL).1 (LR_313_5 hL) (Or.inl rfl) ?_
      refine v_iload_n dX5_reads_33 rfl ?_
      obtain ⟨o2, K⟩ := K
      refine ld_316 dX5_reads_34 hL c2.1 o2 ?_
      show V w 6 mX5_reads 35 [some (vR 313), some (vI known), some (vI t), some (vI u), none, none, none, none] [vI (J 316 t.toNat), vI 0, vI u] S (up J 313 0 0) Q
      refine v_iconst dX5_reads_35 (in_lit (by decide)) ?_
      obtain ⟨o3, K⟩ := K
      refine v_isub dX5_reads_36 o3 ?_
      refine v_callS (d' := 0) (rest := []) [vI u, vI 0, vI ((J 316 t.toNat) - 1)] dX5_reads_37 srX5_169 rfl (one_I (one_I (one_I one_nil))) (Nat.le_of_ble_eq_true rfl) (Nat.le_of_ble_eq_true rfl) (Nat.le_of_ble_eq_true rfl) ?_
      obtain ⟨K1, K2⟩ := K
      refine sX5_within hL u 0 ((J 316 t.toNat) - 1)  (fun c3 => ?_) (fun c3 => ?_)
      · have K := K1 c3
        show V w 6 mX5_reads 40 [some (vR 313), some (vI known), some (vI t), some (vI u), none, none, none, none] [vI 1] S (up J 313 0 0) Q
        refine v_if_ne 45 dX5_reads_40 (by decide) (fun _ => ?_) (fun cQ => absurd cQ (by decide))
        refine v_aload_n dX5_reads_45 rfl ?_
        refine v_iload_n dX5_reads_46 rfl ?_
        refine v_callV (d' := 5) (rest := []) [vI known] dX5_reads_47 vrX5_438_5 (L_313 hL).1 rfl rfl (one_I one_nil) (Nat.le_of_ble_eq_true rfl) (Nat.le_of_ble_eq_true rfl) (Nat.le_of_ble_eq_true rfl) ?_
        obtain ⟨o4, K⟩ := K
        refine s_findAll hL known o4 (fun J1 hp => ?_)
        have K := K J1 hp
        show V w 6 mX5_reads 50 [some (vR 313), some (vI known), some (vI t), some (vI u), none, none, none, none] [] S J1 Q
        refine v_bipush dX5_reads_50 (by decide) (in_lit (by decide)) ?_
        refine v_iload_n dX5_reads_52 rfl ?_
        obtain ⟨o5, K⟩ := K
        refine v_imul dX5_reads_53 o5 ?_
        refine v_iload_n dX5_reads_54 rfl ?_
        obtain ⟨o6, K⟩ := K
        refine v_iadd dX5_reads_55 o6 ?_
        refine v_istore dX5_reads_56 (Nat.le_of_ble_eq_true rfl) ?_
        show V w 6 mX5_reads 58 [some (vR 313), some (vI known), some (vI t), some (vI u), some (vI ((8 * t) + u)), none, none, none] [] S J1 Q
        refine v_aload_n dX5_reads_58 rfl ?_
        refine v_iconst dX5_reads_59 (in_lit (by decide)) ?_
        refine v_putI dX5_reads_60 frX5_447_5 (fun _ _ _ h => by cases h; exact Or.inl rfl) rfl rfl zfit_int (L_313 hL).1 ?_
        show V w 6 mX5_reads 63 [some (vR 313), some (vI known), some (vI t), some (vI u), some (vI ((8 * t) + u)), none, none, none] [] S (up J1 313 75 0) Q
        refine v_iconst dX5_reads_63 (in_lit (by decide)) ?_
        refine v_istore dX5_reads_64 (Nat.le_of_ble_eq_true rfl) ?_
        show V w 6 mX5_reads 66 [some (vR 313), some (vI known), some (vI t), some (vI u), some (vI ((8 * t) + u)), some (vI 0), none, none] [] S (up J1 313 75 0) Q
        exact v_forget (fg_some (fg_none (fg_none (fg_none (fg_some (fg_some (fg_none (fg_none fg_nil)))))))) K
      · have K := K2 c3
        show V w 6 mX5_reads 40 [some (vR 313), some (vI known), some (vI t), some (vI u), none, none, none, none] [vI 0] S (up J 313 0 0) Q
        refine v_if_ne 45 dX5_reads_40 (by decide) (fun cQ => absurd cQ (by decide)) (fun _ => ?_)
        refine v_iconst dX5_reads_43 (in_lit (by decide)) ?_
        exact v_iret dX5_reads_44 rfl rfl K
    · have K := K2 c2
      show V w 6 mX5_reads 24 [some (vR 313), some (vI known), some (vI t), some (vI u), none, none, none, none] [vI 0] S (up J 313 0 0) Q
      refine v_if_eq 43 dX5_reads_24 (by decide) (fun _ => ?_) (fun cQ => absurd cQ (by decide))
      refine v_iconst dX5_reads_43 (in_lit (by decide)) ?_
      exact v_iret dX5_reads_44 rfl rfl K
  · have K := K2 c1
    show V w 6 mX5_reads 10 [some (vR 313), some (vI known), some (vI t), some (vI u), none, none, none, none] [vI 0] S (up J 313 0 0) Q
    refine v_if_eq 43 dX5_reads_10 (by decide) (fun _ => ?_) (fun cQ => absurd cQ (by decide))
    refine v_iconst dX5_reads_43 (in_lit (by decide)) ?_
    exact v_iret dX5_reads_44 rfl rfl K
theorem gX5_reads_66 {w : Wd} {S : Sh} {J : Jm} {Q : Out → Sh → Jm → Prop} (hL : Lay S) (r : Nat) (i : Nat)
    (K : (((r : Nat) : Int) < 200) ∧ Br (J 317 r ≤ ((i : Nat) : Int)) (Q (.inl (some (vI (J 313 75)))) S J) ((-2147483648 ≤ 6 * ((r : Nat) : Int) ∧ 6 * ((r : Nat) : Int) ≤ 2147483647) ∧ (-2147483648 ≤ ((6 * r : Nat) : Int) + ((i : Nat) : Int) ∧ ((6 * r : Nat) : Int) + ((i : Nat) : Int) ≤ 2147483647) ∧ ((((6 * r) + i : Nat) : Int) < 1200) ∧ Br (J 318 ((6 * r) + i) = (-1)) ((0 ≤ J 313 75) ∧ (J 313 75 < 12) ∧ (-2147483648 ≤ (J 313 75) + 1 ∧ (J 313 75) + 1 ≤ 2147483647) ∧ (-2147483648 ≤ ((i : Nat) : Int) + 1 ∧ ((i : Nat) : Int) + 1 ≤ 2147483647) ∧ V w 6 mX5_reads 66 [some (vR 313), none, none, none, some (vI ((r : Nat) : Int)), some (vI ((i + 1 : Nat) : Int)), none, none] [] S (up (up J 363 (J 313 75).toNat 63) 313 75 ((J 313 75) + 1)) Q) ((0 ≤ J 318 ((6 * r) + i)) ∧ (J 318 ((6 * r) + i) < 40) ∧ V w 0 mX5_forcedOf 0 (ent mX5_forcedOf [vR 313, vI (J 332 (J 318 ((6 * r) + i)).toNat)]) [] S J (CallQ w 6 mX5_reads 111 [some (vR 313), none, none, none, some (vI ((r : Nat) : Int)), some (vI ((i : Nat) : Int)), some (vI (J 318 ((6 * r) + i))), none] [] Q)))) :
    V w 6 mX5_reads 66 [some (vR 313), none, none, none, some (vI ((r : Nat) : Int)), some (vI ((i : Nat) : Int)), none, none] [] S J Q := by
  refine v_iload dX5_reads_66 rfl ?_
  refine v_aload_n dX5_reads_68 rfl ?_
  refine v_getR dX5_reads_69 frX5_23_5 rfl (L_313 hL).1 (LR_313_6 hL) (Or.inl rfl) ?_
  refine v_iload dX5_reads_72 rfl ?_
  obtain ⟨o1, K⟩ := K
  refine ld_317 dX5_reads_74 hL (by omega) o1 ?_
  show V w 6 mX5_reads 75 [some (vR 313), none, none, none, some (vI ((r : Nat) : Int)), some (vI ((i : Nat) : Int)), none, none] [vI (J 317 r), vI ((i : Nat) : Int)] S J Q
  obtain ⟨K1, K2⟩ := K
  refine v_icmp_ge 193 dX5_reads_75 (by decide) (fun c1 => ?_) (fun c1 => ?_)
  · have K := K1 c1
    refine v_aload_n dX5_reads_193 rfl ?_
    refine v_getI dX5_reads_194 frX5_447_5 rfl rfl (L_313 hL).1 ?_
    exact v_iret dX5_reads_197 rfl rfl K
  · have K := K2 c1
    refine v_aload_n dX5_reads_78 rfl ?_
    refine v_getR dX5_reads_79 frX5_26_5 rfl (L_313 hL).1 (LR_313_7 hL) (Or.inl rfl) ?_
    refine v_bipush dX5_reads_82 (by decide) (in_lit (by decide)) ?_
    refine v_iload dX5_reads_84 rfl ?_
    obtain ⟨o2, K⟩ := K
    refine v_imul dX5_reads_86 o2 ?_
    show V w 6 mX5_reads 87 [some (vR 313), none, none, none, some (vI ((r : Nat) : Int)), some (vI ((i : Nat) : Int)), none, none] [vI ((6 * r : Nat) : Int), vR 318] S J Q
    refine v_iload dX5_reads_87 rfl ?_
    obtain ⟨o3, K⟩ := K
    refine v_iadd dX5_reads_89 o3 ?_
    show V w 6 mX5_reads 90 [some (vR 313), none, none, none, some (vI ((r : Nat) : Int)), some (vI ((i : Nat) : Int)), none, none] [vI (((6 * r) + i : Nat) : Int), vR 318] S J Q
    obtain ⟨o4, K⟩ := K
    refine ld_318 dX5_reads_90 hL (by omega) o4 ?_
    show V w 6 mX5_reads 91 [some (vR 313), none, none, none, some (vI ((r : Nat) : Int)), some (vI ((i : Nat) : Int)), none, none] [vI (J 318 ((6 * r) + i))] S J Q
    refine v_istore dX5_reads_91 (Nat.le_of_ble_eq_true rfl) ?_
    show V w 6 mX5_reads 93 [some (vR 313), none, none, none, some (vI ((r : Nat) : Int)), some (vI ((i : Nat) : Int)), some (vI (J 318 ((6 * r) + i))), none] [] S J Q
    refine v_iload dX5_reads_93 rfl ?_
    refine v_iconst dX5_reads_95 (in_lit (by decide)) ?_
    obtain ⟨K1, K2⟩ := K
    refine v_icmp_ne 103 dX5_reads_96 (by decide) (fun c2 => ?_) (fun c2 => ?_)
    · have K := K2 c2
      refine v_aload_n dX5_reads_103 rfl ?_
      refine v_aload_n dX5_reads_104 rfl ?_
      refine v_getR dX5_reads_105 frX5_72_5 rfl (L_313 hL).1 (LR_313_31 hL) (Or.inl rfl) ?_
      refine v_iload dX5_reads_108 rfl ?_
      obtain ⟨o5, K⟩ := K
      obtain ⟨o6, K⟩ := K
      refine ld_332 dX5_reads_110 hL o5 o6 ?_
      refine v_callV (d' := 0) (rest := []) [vI (J 332 (J 318 ((6 * r) + i)).toNat)] dX5_reads_111 vrX5_444_5 (L_313 hL).1 rfl rfl (one_I one_nil) (Nat.le_of_ble_eq_true rfl) (Nat.le_of_ble_eq_true rfl) (Nat.le_of_ble_eq_true rfl) ?_
      exact K
    · have K := K1 c2
      refine v_iconst dX5_reads_99 (in_lit (by decide)) ?_
      refine v_goto 114 dX5_reads_100 (by decide) ?_
      refine v_istore dX5_reads_114 (Nat.le_of_ble_eq_true rfl) ?_
      show V w 6 mX5_reads 116 [some (vR 313), none, none, none, some (vI ((r : Nat) : Int)), some (vI ((i : Nat) : Int)), some (vI (J 318 ((6 * r) + i))), some (vI (-1))] [] S J Q
      refine v_iload dX5_reads_116 rfl ?_
      refine v_iconst dX5_reads_118 (in_lit (by decide)) ?_
      refine v_icmp_lt 150 dX5_reads_119 (by decide) (fun _ => ?_) (fun cQ => absurd cQ (by decide))
      refine v_aload_n dX5_reads_150 rfl ?_
      refine v_getR dX5_reads_151 frX5_166_5 rfl (L_313 hL).1 (LR_313_74 hL) (Or.inl rfl) ?_
      refine v_aload_n dX5_reads_154 rfl ?_
      refine v_getI dX5_reads_155 frX5_447_5 rfl rfl (L_313 hL).1 ?_
      refine v_iload dX5_reads_158 rfl ?_
      refine v_iconst dX5_reads_160 (in_lit (by decide)) ?_
      refine v_icmp_ne 169 dX5_reads_161 (by decide) (fun cQ => absurd cQ (by decide)) (fun _ => ?_)
      refine v_bipush dX5_reads_164 (by decide) (in_lit (by decide)) ?_
      refine v_goto 176 dX5_reads_166 (by decide) ?_
      obtain ⟨o7, K⟩ := K
      obtain ⟨o8, K⟩ := K
      refine st_363 dX5_reads_176 hL o7 o8 ?_
      show V w 6 mX5_reads 177 [some (vR 313), none, none, none, some (vI ((r : Nat) : Int)), some (vI ((i : Nat) : Int)), some (vI (J 318 ((6 * r) + i))), some (vI (-1))] [] S (up J 363 (J 313 75).toNat 63) Q
      refine v_aload_n dX5_reads_177 rfl ?_
      refine v_dup dX5_reads_178 trivial ?_
      refine v_getI dX5_reads_179 frX5_447_5 rfl rfl (L_313 hL).1 ?_
      show V w 6 mX5_reads 182 [some (vR 313), none, none, none, some (vI ((r : Nat) : Int)), some (vI ((i : Nat) : Int)), some (vI (J 318 ((6 * r) + i))), some (vI (-1))] [vI (J 313 75), vR 313] S (up J 363 (J 313 75).toNat 63) Q
      refine v_iconst dX5_reads_182 (in_lit (by decide)) ?_
      obtain ⟨o9, K⟩ := K
      refine v_iadd dX5_reads_183 o9 ?_
      refine v_putI dX5_reads_184 frX5_447_5 (fun _ _ _ h => by cases h; exact Or.inl rfl) rfl rfl zfit_int (L_313 hL).1 ?_
      show V w 6 mX5_reads 187 [some (vR 313), none, none, none, some (vI ((r : Nat) : Int)), some (vI ((i : Nat) : Int)), some (vI (J 318 ((6 * r) + i))), some (vI (-1))] [] S (up (up J 363 (J 313 75).toNat 63) 313 75 ((J 313 75) + 1)) Q
      obtain ⟨o10, K⟩ := K
      refine v_iinc dX5_reads_187 rfl o10 ?_
      show V w 6 mX5_reads 190 [some (vR 313), none, none, none, some (vI ((r : Nat) : Int)), some (vI ((i + 1 : Nat) : Int)), some (vI (J 318 ((6 * r) + i))), some (vI (-1))] [] S (up (up J 363 (J 313 75).toNat 63) 313 75 ((J 313 75) + 1)) Q
      refine v_goto 66 dX5_reads_190 (by decide) ?_
      exact v_forget (fg_some (fg_none (fg_none (fg_none (fg_some (fg_some (fg_none (fg_none fg_nil)))))))) K
theorem gX5_reads_114 {w : Wd} {S : Sh} {J : Jm} {Q : Out → Sh → Jm → Prop} (hL : Lay S) (r : Nat) (i : Nat) (f : Int)
    (K : Br (f < 5) (Br (f = (-1)) ((0 ≤ J 313 75) ∧ (J 313 75 < 12) ∧ (-2147483648 ≤ (J 313 75) + 1 ∧ (J 313 75) + 1 ≤ 2147483647) ∧ (-2147483648 ≤ ((i : Nat) : Int) + 1 ∧ ((i : Nat) : Int) + 1 ≤ 2147483647) ∧ V w 6 mX5_reads 66 [some (vR 313), none, none, none, some (vI ((r : Nat) : Int)), some (vI ((i + 1 : Nat) : Int)), none, none] [] S (up (up J 363 (J 313 75).toNat 63) 313 75 ((J 313 75) + 1)) Q) ((0 ≤ f) ∧ (0 ≤ J 313 75) ∧ (J 313 75 < 12) ∧ (-2147483648 ≤ (J 313 75) + 1 ∧ (J 313 75) + 1 ≤ 2147483647) ∧ (-2147483648 ≤ ((i : Nat) : Int) + 1 ∧ ((i : Nat) : Int) + 1 ≤ 2147483647) ∧ V w 6 mX5_reads 66 [some (vR 313), none, none, none, some (vI ((r : Nat) : Int)), some (vI ((i + 1 : Nat) : Int)), none, none] [] S (up (up J 363 (J 313 75).toNat (vwL (f % 5))) 313 75 ((J 313 75) + 1)) Q)) ((0 ≤ f) ∧ (-2147483648 ≤ 97 + (f / 5) ∧ 97 + (f / 5) ≤ 2147483647) ∧ (-2147483648 ≤ (97 + (f / 5)) - 1 ∧ (97 + (f / 5)) - 1 ≤ 2147483647) ∧ (0 ≤ J 313 75) ∧ (J 313 75 < 12) ∧ (-2147483648 ≤ (J 313 75) + 1 ∧ (J 313 75) + 1 ≤ 2147483647) ∧ Br (f = (-1)) ((0 ≤ (J 313 75) + 1) ∧ ((J 313 75) + 1 < 12) ∧ (-2147483648 ≤ ((J 313 75) + 1) + 1 ∧ ((J 313 75) + 1) + 1 ≤ 2147483647) ∧ (-2147483648 ≤ ((i : Nat) : Int) + 1 ∧ ((i : Nat) : Int) + 1 ≤ 2147483647) ∧ V w 6 mX5_reads 66 [some (vR 313), none, none, none, some (vI ((r : Nat) : Int)), some (vI ((i + 1 : Nat) : Int)), none, none] [] S (up (up (up (up J 363 (J 313 75).toNat ((97 + (f / 5)) - 1)) 313 75 ((J 313 75) + 1)) 363 ((J 313 75) + 1).toNat 63) 313 75 (((J 313 75) + 1) + 1)) Q) ((0 ≤ (J 313 75) + 1) ∧ ((J 313 75) + 1 < 12) ∧ (-2147483648 ≤ ((J 313 75) + 1) + 1 ∧ ((J 313 75) + 1) + 1 ≤ 2147483647) ∧ (-2147483648 ≤ ((i : Nat) : Int) + 1 ∧ ((i : Nat) : Int) + 1 ≤ 2147483647) ∧ V w 6 mX5_reads 66 [some (vR 313), none, none, none, some (vI ((r : Nat) : Int)), some (vI ((i + 1 : Nat) : Int)), none, none] [] S (up (up (up (up J 363 (J 313 75).toNat ((97 + (f / 5)) - 1)) 313 75 ((J 313 75) + 1)) 363 ((J 313 75) + 1).toNat (vwL (f % 5))) 313 75 (((J 313 75) + 1) + 1)) Q))) :
    V w 6 mX5_reads 114 [some (vR 313), none, none, none, some (vI ((r : Nat) : Int)), some (vI ((i : Nat) : Int)), none, none] [vI f] S J Q := by
  refine v_istore dX5_reads_114 (Nat.le_of_ble_eq_true rfl) ?_
  show V w 6 mX5_reads 116 [some (vR 313), none, none, none, some (vI ((r : Nat) : Int)), some (vI ((i : Nat) : Int)), none, some (vI f)] [] S J Q
  refine v_iload dX5_reads_116 rfl ?_
  refine v_iconst dX5_reads_118 (in_lit (by decide)) ?_
  obtain ⟨K1, K2⟩ := K
  refine v_icmp_lt 150 dX5_reads_119 (by decide) (fun c1 => ?_) (fun c1 => ?_)
  · have K := K1 c1
    refine v_aload_n dX5_reads_150 rfl ?_
    refine v_getR dX5_reads_151 frX5_166_5 rfl (L_313 hL).1 (LR_313_74 hL) (Or.inl rfl) ?_
    refine v_aload_n dX5_reads_154 rfl ?_
    refine v_getI dX5_reads_155 frX5_447_5 rfl rfl (L_313 hL).1 ?_
    refine v_iload dX5_reads_158 rfl ?_
    refine v_iconst dX5_reads_160 (in_lit (by decide)) ?_
    obtain ⟨K1, K2⟩ := K
    refine v_icmp_ne 169 dX5_reads_161 (by decide) (fun c2 => ?_) (fun c2 => ?_)
    · have K := K2 c2
      refine v_iload dX5_reads_169 rfl ?_
      refine v_iconst dX5_reads_171 (in_lit (by decide)) ?_
      obtain ⟨o1, K⟩ := K
      refine v_irem dX5_reads_172 o1 (by decide) ?_
      refine v_callS (d' := 0) (rest := [vI (J 313 75), vR 363]) [vI (f % 5)] dX5_reads_173 srX5_450 rfl (one_I one_nil) (Nat.le_of_ble_eq_true rfl) (Nat.le_of_ble_eq_true rfl) (Nat.le_of_ble_eq_true rfl) ?_
      refine s_vowelLetter hL (f % 5)  ?_
      show V w 6 mX5_reads 176 [some (vR 313), none, none, none, some (vI ((r : Nat) : Int)), some (vI ((i : Nat) : Int)), none, some (vI f)] [vI (vwL (f % 5)), vI (J 313 75), vR 363] S J Q
      obtain ⟨o2, K⟩ := K
      obtain ⟨o3, K⟩ := K
      refine st_363 dX5_reads_176 hL o2 o3 ?_
      show V w 6 mX5_reads 177 [some (vR 313), none, none, none, some (vI ((r : Nat) : Int)), some (vI ((i : Nat) : Int)), none, some (vI f)] [] S (up J 363 (J 313 75).toNat (vwL (f % 5))) Q
      refine v_aload_n dX5_reads_177 rfl ?_
      refine v_dup dX5_reads_178 trivial ?_
      refine v_getI dX5_reads_179 frX5_447_5 rfl rfl (L_313 hL).1 ?_
      show V w 6 mX5_reads 182 [some (vR 313), none, none, none, some (vI ((r : Nat) : Int)), some (vI ((i : Nat) : Int)), none, some (vI f)] [vI (J 313 75), vR 313] S (up J 363 (J 313 75).toNat (vwL (f % 5))) Q
      refine v_iconst dX5_reads_182 (in_lit (by decide)) ?_
      obtain ⟨o4, K⟩ := K
      refine v_iadd dX5_reads_183 o4 ?_
      refine v_putI dX5_reads_184 frX5_447_5 (fun _ _ _ h => by cases h; exact Or.inl rfl) rfl rfl zfit_int (L_313 hL).1 ?_
      show V w 6 mX5_reads 187 [some (vR 313), none, none, none, some (vI ((r : Nat) : Int)), some (vI ((i : Nat) : Int)), none, some (vI f)] [] S (up (up J 363 (J 313 75).toNat (vwL (f % 5))) 313 75 ((J 313 75) + 1)) Q
      obtain ⟨o5, K⟩ := K
      refine v_iinc dX5_reads_187 rfl o5 ?_
      show V w 6 mX5_reads 190 [some (vR 313), none, none, none, some (vI ((r : Nat) : Int)), some (vI ((i + 1 : Nat) : Int)), none, some (vI f)] [] S (up (up J 363 (J 313 75).toNat (vwL (f % 5))) 313 75 ((J 313 75) + 1)) Q
      refine v_goto 66 dX5_reads_190 (by decide) ?_
      exact v_forget (fg_some (fg_none (fg_none (fg_none (fg_some (fg_some (fg_none (fg_none fg_nil)))))))) K
    · have K := K1 c2
      refine v_bipush dX5_reads_164 (by decide) (in_lit (by decide)) ?_
      refine v_goto 176 dX5_reads_166 (by decide) ?_
      obtain ⟨o6, K⟩ := K
      obtain ⟨o7, K⟩ := K
      refine st_363 dX5_reads_176 hL o6 o7 ?_
      show V w 6 mX5_reads 177 [some (vR 313), none, none, none, some (vI ((r : Nat) : Int)), some (vI ((i : Nat) : Int)), none, some (vI f)] [] S (up J 363 (J 313 75).toNat 63) Q
      refine v_aload_n dX5_reads_177 rfl ?_
      refine v_dup dX5_reads_178 trivial ?_
      refine v_getI dX5_reads_179 frX5_447_5 rfl rfl (L_313 hL).1 ?_
      show V w 6 mX5_reads 182 [some (vR 313), none, none, none, some (vI ((r : Nat) : Int)), some (vI ((i : Nat) : Int)), none, some (vI f)] [vI (J 313 75), vR 313] S (up J 363 (J 313 75).toNat 63) Q
      refine v_iconst dX5_reads_182 (in_lit (by decide)) ?_
      obtain ⟨o8, K⟩ := K
      refine v_iadd dX5_reads_183 o8 ?_
      refine v_putI dX5_reads_184 frX5_447_5 (fun _ _ _ h => by cases h; exact Or.inl rfl) rfl rfl zfit_int (L_313 hL).1 ?_
      show V w 6 mX5_reads 187 [some (vR 313), none, none, none, some (vI ((r : Nat) : Int)), some (vI ((i : Nat) : Int)), none, some (vI f)] [] S (up (up J 363 (J 313 75).toNat 63) 313 75 ((J 313 75) + 1)) Q
      obtain ⟨o9, K⟩ := K
      refine v_iinc dX5_reads_187 rfl o9 ?_
      show V w 6 mX5_reads 190 [some (vR 313), none, none, none, some (vI ((r : Nat) : Int)), some (vI ((i + 1 : Nat) : Int)), none, some (vI f)] [] S (up (up J 363 (J 313 75).toNat 63) 313 75 ((J 313 75) + 1)) Q
      refine v_goto 66 dX5_reads_190 (by decide) ?_
      exact v_forget (fg_some (fg_none (fg_none (fg_none (fg_some (fg_some (fg_none (fg_none fg_nil)))))))) K
  · have K := K2 c1
    refine v_aload_n dX5_reads_122 rfl ?_
    refine v_getR dX5_reads_123 frX5_166_5 rfl (L_313 hL).1 (LR_313_74 hL) (Or.inl rfl) ?_
    refine v_aload_n dX5_reads_126 rfl ?_
    refine v_getI dX5_reads_127 frX5_447_5 rfl rfl (L_313 hL).1 ?_
    refine v_bipush dX5_reads_130 (by decide) (in_lit (by decide)) ?_
    refine v_iload dX5_reads_132 rfl ?_
    refine v_iconst dX5_reads_134 (in_lit (by decide)) ?_
    obtain ⟨o10, K⟩ := K
    refine v_idiv dX5_reads_135 o10 (by decide) ?_
    obtain ⟨o11, K⟩ := K
    refine v_iadd dX5_reads_136 o11 ?_
    refine v_iconst dX5_reads_137 (in_lit (by decide)) ?_
    obtain ⟨o12, K⟩ := K
    refine v_isub dX5_reads_138 o12 ?_
    obtain ⟨o13, K⟩ := K
    obtain ⟨o14, K⟩ := K
    refine st_363 dX5_reads_139 hL o13 o14 ?_
    show V w 6 mX5_reads 140 [some (vR 313), none, none, none, some (vI ((r : Nat) : Int)), some (vI ((i : Nat) : Int)), none, some (vI f)] [] S (up J 363 (J 313 75).toNat ((97 + (f / 5)) - 1)) Q
    refine v_aload_n dX5_reads_140 rfl ?_
    refine v_dup dX5_reads_141 trivial ?_
    refine v_getI dX5_reads_142 frX5_447_5 rfl rfl (L_313 hL).1 ?_
    show V w 6 mX5_reads 145 [some (vR 313), none, none, none, some (vI ((r : Nat) : Int)), some (vI ((i : Nat) : Int)), none, some (vI f)] [vI (J 313 75), vR 313] S (up J 363 (J 313 75).toNat ((97 + (f / 5)) - 1)) Q
    refine v_iconst dX5_reads_145 (in_lit (by decide)) ?_
    obtain ⟨o15, K⟩ := K
    refine v_iadd dX5_reads_146 o15 ?_
    refine v_putI dX5_reads_147 frX5_447_5 (fun _ _ _ h => by cases h; exact Or.inl rfl) rfl rfl zfit_int (L_313 hL).1 ?_
    show V w 6 mX5_reads 150 [some (vR 313), none, none, none, some (vI ((r : Nat) : Int)), some (vI ((i : Nat) : Int)), none, some (vI f)] [] S (up (up J 363 (J 313 75).toNat ((97 + (f / 5)) - 1)) 313 75 ((J 313 75) + 1)) Q
    refine v_aload_n dX5_reads_150 rfl ?_
    refine v_getR dX5_reads_151 frX5_166_5 rfl (L_313 hL).1 (LR_313_74 hL) (Or.inl rfl) ?_
    refine v_aload_n dX5_reads_154 rfl ?_
    refine v_getI dX5_reads_155 frX5_447_5 rfl rfl (L_313 hL).1 ?_
    show V w 6 mX5_reads 158 [some (vR 313), none, none, none, some (vI ((r : Nat) : Int)), some (vI ((i : Nat) : Int)), none, some (vI f)] [vI ((J 313 75) + 1), vR 363] S (up (up J 363 (J 313 75).toNat ((97 + (f / 5)) - 1)) 313 75 ((J 313 75) + 1)) Q
    refine v_iload dX5_reads_158 rfl ?_
    refine v_iconst dX5_reads_160 (in_lit (by decide)) ?_
    obtain ⟨K1, K2⟩ := K
    refine v_icmp_ne 169 dX5_reads_161 (by decide) (fun c3 => ?_) (fun c3 => ?_)
    · have K := K2 c3
      refine v_iload dX5_reads_169 rfl ?_
      refine v_iconst dX5_reads_171 (in_lit (by decide)) ?_
      refine v_irem dX5_reads_172 o10 (by decide) ?_
      refine v_callS (d' := 0) (rest := [vI ((J 313 75) + 1), vR 363]) [vI (f % 5)] dX5_reads_173 srX5_450 rfl (one_I one_nil) (Nat.le_of_ble_eq_true rfl) (Nat.le_of_ble_eq_true rfl) (Nat.le_of_ble_eq_true rfl) ?_
      refine s_vowelLetter hL (f % 5)  ?_
      show V w 6 mX5_reads 176 [some (vR 313), none, none, none, some (vI ((r : Nat) : Int)), some (vI ((i : Nat) : Int)), none, some (vI f)] [vI (vwL (f % 5)), vI ((J 313 75) + 1), vR 363] S (up (up J 363 (J 313 75).toNat ((97 + (f / 5)) - 1)) 313 75 ((J 313 75) + 1)) Q
      obtain ⟨o16, K⟩ := K
      obtain ⟨o17, K⟩ := K
      refine st_363 dX5_reads_176 hL o16 o17 ?_
      show V w 6 mX5_reads 177 [some (vR 313), none, none, none, some (vI ((r : Nat) : Int)), some (vI ((i : Nat) : Int)), none, some (vI f)] [] S (up (up (up J 363 (J 313 75).toNat ((97 + (f / 5)) - 1)) 313 75 ((J 313 75) + 1)) 363 ((J 313 75) + 1).toNat (vwL (f % 5))) Q
      refine v_aload_n dX5_reads_177 rfl ?_
      refine v_dup dX5_reads_178 trivial ?_
      refine v_getI dX5_reads_179 frX5_447_5 rfl rfl (L_313 hL).1 ?_
      show V w 6 mX5_reads 182 [some (vR 313), none, none, none, some (vI ((r : Nat) : Int)), some (vI ((i : Nat) : Int)), none, some (vI f)] [vI ((J 313 75) + 1), vR 313] S (up (up (up J 363 (J 313 75).toNat ((97 + (f / 5)) - 1)) 313 75 ((J 313 75) + 1)) 363 ((J 313 75) + 1).toNat (vwL (f % 5))) Q
      refine v_iconst dX5_reads_182 (in_lit (by decide)) ?_
      obtain ⟨o18, K⟩ := K
      refine v_iadd dX5_reads_183 o18 ?_
      refine v_putI dX5_reads_184 frX5_447_5 (fun _ _ _ h => by cases h; exact Or.inl rfl) rfl rfl zfit_int (L_313 hL).1 ?_
      show V w 6 mX5_reads 187 [some (vR 313), none, none, none, some (vI ((r : Nat) : Int)), some (vI ((i : Nat) : Int)), none, some (vI f)] [] S (up (up (up (up J 363 (J 313 75).toNat ((97 + (f / 5)) - 1)) 313 75 ((J 313 75) + 1)) 363 ((J 313 75) + 1).toNat (vwL (f % 5))) 313 75 (((J 313 75) + 1) + 1)) Q
      obtain ⟨o19, K⟩ := K
      refine v_iinc dX5_reads_187 rfl o19 ?_
      show V w 6 mX5_reads 190 [some (vR 313), none, none, none, some (vI ((r : Nat) : Int)), some (vI ((i + 1 : Nat) : Int)), none, some (vI f)] [] S (up (up (up (up J 363 (J 313 75).toNat ((97 + (f / 5)) - 1)) 313 75 ((J 313 75) + 1)) 363 ((J 313 75) + 1).toNat (vwL (f % 5))) 313 75 (((J 313 75) + 1) + 1)) Q
      refine v_goto 66 dX5_reads_190 (by decide) ?_
      exact v_forget (fg_some (fg_none (fg_none (fg_none (fg_some (fg_some (fg_none (fg_none fg_nil)))))))) K
    · have K := K1 c3
      refine v_bipush dX5_reads_164 (by decide) (in_lit (by decide)) ?_
      refine v_goto 176 dX5_reads_166 (by decide) ?_
      obtain ⟨o20, K⟩ := K
      obtain ⟨o21, K⟩ := K
      refine st_363 dX5_reads_176 hL o20 o21 ?_
      show V w 6 mX5_reads 177 [some (vR 313), none, none, none, some (vI ((r : Nat) : Int)), some (vI ((i : Nat) : Int)), none, some (vI f)] [] S (up (up (up J 363 (J 313 75).toNat ((97 + (f / 5)) - 1)) 313 75 ((J 313 75) + 1)) 363 ((J 313 75) + 1).toNat 63) Q
      refine v_aload_n dX5_reads_177 rfl ?_
      refine v_dup dX5_reads_178 trivial ?_
      refine v_getI dX5_reads_179 frX5_447_5 rfl rfl (L_313 hL).1 ?_
      show V w 6 mX5_reads 182 [some (vR 313), none, none, none, some (vI ((r : Nat) : Int)), some (vI ((i : Nat) : Int)), none, some (vI f)] [vI ((J 313 75) + 1), vR 313] S (up (up (up J 363 (J 313 75).toNat ((97 + (f / 5)) - 1)) 313 75 ((J 313 75) + 1)) 363 ((J 313 75) + 1).toNat 63) Q
      refine v_iconst dX5_reads_182 (in_lit (by decide)) ?_
      obtain ⟨o22, K⟩ := K
      refine v_iadd dX5_reads_183 o22 ?_
      refine v_putI dX5_reads_184 frX5_447_5 (fun _ _ _ h => by cases h; exact Or.inl rfl) rfl rfl zfit_int (L_313 hL).1 ?_
      show V w 6 mX5_reads 187 [some (vR 313), none, none, none, some (vI ((r : Nat) : Int)), some (vI ((i : Nat) : Int)), none, some (vI f)] [] S (up (up (up (up J 363 (J 313 75).toNat ((97 + (f / 5)) - 1)) 313 75 ((J 313 75) + 1)) 363 ((J 313 75) + 1).toNat 63) 313 75 (((J 313 75) + 1) + 1)) Q
      obtain ⟨o23, K⟩ := K
      refine v_iinc dX5_reads_187 rfl o23 ?_
      show V w 6 mX5_reads 190 [some (vR 313), none, none, none, some (vI ((r : Nat) : Int)), some (vI ((i + 1 : Nat) : Int)), none, some (vI f)] [] S (up (up (up (up J 363 (J 313 75).toNat ((97 + (f / 5)) - 1)) 313 75 ((J 313 75) + 1)) 363 ((J 313 75) + 1).toNat 63) 313 75 (((J 313 75) + 1) + 1)) Q
      refine v_goto 66 dX5_reads_190 (by decide) ?_
      exact v_forget (fg_some (fg_none (fg_none (fg_none (fg_some (fg_some (fg_none (fg_none fg_nil)))))))) K
theorem gX5_settles_0 {w : Wd} {S : Sh} {J : Jm} {Q : Out → Sh → Jm → Prop} (hL : Lay S) (known : Int) (what : Int)
    (K : Br (0 ≤ known ∧ known ≤ (J 313 1)) (Br (0 ≤ what ∧ what ≤ 1) ((MI0 (up J 313 0 0)) ∧ (∀ (J1 : Jm), PAll (up J 313 0 0) known J1 → Br (J1 313 68 = 0) (Q (.inl (some (vI (-1)))) S J1) (V w 6 mX5_settles 46 [some (vR 313), none, some (vI what), some (vI (-1)), some (vI 0), some (vI 0), none, none] [] S J1 Q))) (Q (.inl (some (vI (-1)))) S (up J 313 0 0))) (Q (.inl (some (vI (-1)))) S (up J 313 0 0))) :
    V w 6 mX5_settles 0 (ent mX5_settles [vR 313, vI known, vI what]) [] S J Q := by
  show V w 6 mX5_settles 0 [some (vR 313), some (vI known), some (vI what), none, none, none, none, none] [] S J Q
  refine v_aload_n dX5_settles_0 rfl ?_
  refine v_iconst dX5_settles_1 (in_lit (by decide)) ?_
  refine v_putI dX5_settles_2 frX5_1_5 (fun _ _ _ h => by cases h; exact Or.inl rfl) rfl rfl zfit_int (L_313 hL).1 ?_
  show V w 6 mX5_settles 5 [some (vR 313), some (vI known), some (vI what), none, none, none, none, none] [] S (up J 313 0 0) Q
  refine v_aload_n dX5_settles_5 rfl ?_
  refine v_iload_n dX5_settles_6 rfl ?_
  refine v_callV (d' := 0) (rest := []) [vI known] dX5_settles_7 vrX5_298_5 (L_313 hL).1 rfl rfl (one_I one_nil) (Nat.le_of_ble_eq_true rfl) (Nat.le_of_ble_eq_true rfl) (Nat.le_of_ble_eq_true rfl) ?_
  obtain ⟨K1, K2⟩ := K
  refine sX5_isKnown hL known  (fun c1 => ?_) (fun c1 => ?_)
  · have K := K1 c1
    show V w 6 mX5_settles 10 [some (vR 313), some (vI known), some (vI what), none, none, none, none, none] [vI 1] S (up J 313 0 0) Q
    refine v_if_eq 22 dX5_settles_10 (by decide) (fun cQ => absurd cQ (by decide)) (fun _ => ?_)
    refine v_iload_n dX5_settles_13 rfl ?_
    refine v_iconst dX5_settles_14 (in_lit (by decide)) ?_
    refine v_iconst dX5_settles_15 (in_lit (by decide)) ?_
    refine v_callS (d' := 0) (rest := []) [vI what, vI 0, vI 1] dX5_settles_16 srX5_169 rfl (one_I (one_I (one_I one_nil))) (Nat.le_of_ble_eq_true rfl) (Nat.le_of_ble_eq_true rfl) (Nat.le_of_ble_eq_true rfl) ?_
    obtain ⟨K1, K2⟩ := K
    refine sX5_within hL what 0 1  (fun c2 => ?_) (fun c2 => ?_)
    · have K := K1 c2
      show V w 6 mX5_settles 19 [some (vR 313), some (vI known), some (vI what), none, none, none, none, none] [vI 1] S (up J 313 0 0) Q
      refine v_if_ne 24 dX5_settles_19 (by decide) (fun _ => ?_) (fun cQ => absurd cQ (by decide))
      refine v_aload_n dX5_settles_24 rfl ?_
      refine v_iload_n dX5_settles_25 rfl ?_
      refine v_callV (d' := 5) (rest := []) [vI known] dX5_settles_26 vrX5_438_5 (L_313 hL).1 rfl rfl (one_I one_nil) (Nat.le_of_ble_eq_true rfl) (Nat.le_of_ble_eq_true rfl) (Nat.le_of_ble_eq_true rfl) ?_
      obtain ⟨o1, K⟩ := K
      refine s_findAll hL known o1 (fun J1 hp => ?_)
      have K := K J1 hp
      show V w 6 mX5_settles 29 [some (vR 313), some (vI known), some (vI what), none, none, none, none, none] [] S J1 Q
      refine v_aload_n dX5_settles_29 rfl ?_
      refine v_getI dX5_settles_30 frX5_411_5 rfl rfl (L_313 hL).1 ?_
      obtain ⟨K1, K2⟩ := K
      refine v_if_ne 38 dX5_settles_33 (by decide) (fun c3 => ?_) (fun c3 => ?_)
      · have K := K2 c3
        refine v_iconst dX5_settles_38 (in_lit (by decide)) ?_
        refine v_istore_n dX5_settles_39 (Nat.le_of_ble_eq_true rfl) ?_
        show V w 6 mX5_settles 40 [some (vR 313), some (vI known), some (vI what), some (vI (-1)), none, none, none, none] [] S J1 Q
        refine v_iconst dX5_settles_40 (in_lit (by decide)) ?_
        refine v_istore dX5_settles_41 (Nat.le_of_ble_eq_true rfl) ?_
        show V w 6 mX5_settles 43 [some (vR 313), some (vI known), some (vI what), some (vI (-1)), some (vI 0), none, none, none] [] S J1 Q
        refine v_iconst dX5_settles_43 (in_lit (by decide)) ?_
        refine v_istore dX5_settles_44 (Nat.le_of_ble_eq_true rfl) ?_
        show V w 6 mX5_settles 46 [some (vR 313), some (vI known), some (vI what), some (vI (-1)), some (vI 0), some (vI 0), none, none] [] S J1 Q
        exact v_forget (fg_some (fg_none (fg_some (fg_some (fg_some (fg_some (fg_none (fg_none fg_nil)))))))) K
      · have K := K1 c3
        refine v_iconst dX5_settles_36 (in_lit (by decide)) ?_
        exact v_iret dX5_settles_37 rfl rfl K
    · have K := K2 c2
      show V w 6 mX5_settles 19 [some (vR 313), some (vI known), some (vI what), none, none, none, none, none] [vI 0] S (up J 313 0 0) Q
      refine v_if_ne 24 dX5_settles_19 (by decide) (fun cQ => absurd cQ (by decide)) (fun _ => ?_)
      refine v_iconst dX5_settles_22 (in_lit (by decide)) ?_
      exact v_iret dX5_settles_23 rfl rfl K
  · have K := K2 c1
    show V w 6 mX5_settles 10 [some (vR 313), some (vI known), some (vI what), none, none, none, none, none] [vI 0] S (up J 313 0 0) Q
    refine v_if_eq 22 dX5_settles_10 (by decide) (fun _ => ?_) (fun cQ => absurd cQ (by decide))
    refine v_iconst dX5_settles_22 (in_lit (by decide)) ?_
    exact v_iret dX5_settles_23 rfl rfl K
theorem gX5_settles_46 {w : Wd} {S : Sh} {J : Jm} {Q : Out → Sh → Jm → Prop} (hL : Lay S) (what : Int) (b : Int) (f : Int) (s : Nat)
    (K : Br (40 ≤ ((s : Nat) : Int)) (Br (what = 0) (Q (.inl (some (vI b))) S J) (Q (.inl (some (vI f))) S J)) ((((s : Nat) : Int) < 40) ∧ Br (J 332 s = ((s : Nat) : Int)) (V w 6 mX5_settles 74 [some (vR 313), none, some (vI what), some (vI b), some (vI f), some (vI ((s : Nat) : Int)), some (vI 0), some (vI 0)] [] S J Q) ((-2147483648 ≤ ((s : Nat) : Int) + 1 ∧ ((s : Nat) : Int) + 1 ≤ 2147483647) ∧ V w 6 mX5_settles 46 [some (vR 313), none, some (vI what), some (vI b), some (vI f), some (vI ((s + 1 : Nat) : Int)), none, none] [] S J Q))) :
    V w 6 mX5_settles 46 [some (vR 313), none, some (vI what), some (vI b), some (vI f), some (vI ((s : Nat) : Int)), none, none] [] S J Q := by
  refine v_iload dX5_settles_46 rfl ?_
  refine v_bipush dX5_settles_48 (by decide) (in_lit (by decide)) ?_
  obtain ⟨K1, K2⟩ := K
  refine v_icmp_ge 151 dX5_settles_50 (by decide) (fun c1 => ?_) (fun c1 => ?_)
  · have K := K1 c1
    refine v_iload_n dX5_settles_151 rfl ?_
    obtain ⟨K1, K2⟩ := K
    refine v_if_ne 159 dX5_settles_152 (by decide) (fun c2 => ?_) (fun c2 => ?_)
    · have K := K2 c2
      refine v_iload dX5_settles_159 rfl ?_
      exact v_iret dX5_settles_161 rfl rfl K
    · have K := K1 c2
      refine v_iload_n dX5_settles_155 rfl ?_
      refine v_goto 161 dX5_settles_156 (by decide) ?_
      exact v_iret dX5_settles_161 rfl rfl K
  · have K := K2 c1
    refine v_aload_n dX5_settles_53 rfl ?_
    refine v_getR dX5_settles_54 frX5_72_5 rfl (L_313 hL).1 (LR_313_31 hL) (Or.inl rfl) ?_
    refine v_iload dX5_settles_57 rfl ?_
    obtain ⟨o1, K⟩ := K
    refine ld_332 dX5_settles_59 hL (by omega) o1 ?_
    show V w 6 mX5_settles 60 [some (vR 313), none, some (vI what), some (vI b), some (vI f), some (vI ((s : Nat) : Int)), none, none] [vI (J 332 s)] S J Q
    refine v_iload dX5_settles_60 rfl ?_
    obtain ⟨K1, K2⟩ := K
    refine v_icmp_eq 68 dX5_settles_62 (by decide) (fun c3 => ?_) (fun c3 => ?_)
    · have K := K1 c3
      refine v_iconst dX5_settles_68 (in_lit (by decide)) ?_
      refine v_istore dX5_settles_69 (Nat.le_of_ble_eq_true rfl) ?_
      show V w 6 mX5_settles 71 [some (vR 313), none, some (vI what), some (vI b), some (vI f), some (vI ((s : Nat) : Int)), some (vI 0), none] [] S J Q
      refine v_iconst dX5_settles_71 (in_lit (by decide)) ?_
      refine v_istore dX5_settles_72 (Nat.le_of_ble_eq_true rfl) ?_
      show V w 6 mX5_settles 74 [some (vR 313), none, some (vI what), some (vI b), some (vI f), some (vI ((s : Nat) : Int)), some (vI 0), some (vI 0)] [] S J Q
      exact K
    · have K := K2 c3
      refine v_goto 145 dX5_settles_65 (by decide) ?_
      obtain ⟨o2, K⟩ := K
      refine v_iinc dX5_settles_145 rfl o2 ?_
      show V w 6 mX5_settles 148 [some (vR 313), none, some (vI what), some (vI b), some (vI f), some (vI ((s + 1 : Nat) : Int)), none, none] [] S J Q
      refine v_goto 46 dX5_settles_148 (by decide) ?_
      exact K
theorem gX5_settles_74 {w : Wd} {S : Sh} {J : Jm} {Q : Out → Sh → Jm → Prop} (hL : Lay S) (what : Int) (b : Int) (f : Int) (s : Nat) (m : Int) (c : Nat)
    (K : Br (136 ≤ ((c : Nat) : Int)) (Br (b = (-1)) ((-2147483648 ≤ ((s : Nat) : Int) + 1 ∧ ((s : Nat) : Int) + 1 ≤ 2147483647) ∧ V w 6 mX5_settles 46 [some (vR 313), none, some (vI what), some (vI ((s : Nat) : Int)), some (vI m), some (vI ((s + 1 : Nat) : Int)), none, none] [] S J Q) (Br (m < f) ((-2147483648 ≤ ((s : Nat) : Int) + 1 ∧ ((s : Nat) : Int) + 1 ≤ 2147483647) ∧ V w 6 mX5_settles 46 [some (vR 313), none, some (vI what), some (vI ((s : Nat) : Int)), some (vI m), some (vI ((s + 1 : Nat) : Int)), none, none] [] S J Q) ((-2147483648 ≤ ((s : Nat) : Int) + 1 ∧ ((s : Nat) : Int) + 1 ≤ 2147483647) ∧ V w 6 mX5_settles 46 [some (vR 313), none, some (vI what), some (vI b), some (vI f), some (vI ((s + 1 : Nat) : Int)), none, none] [] S J Q))) ((-2147483648 ≤ 136 * ((s : Nat) : Int) ∧ 136 * ((s : Nat) : Int) ≤ 2147483647) ∧ (-2147483648 ≤ ((136 * s : Nat) : Int) + ((c : Nat) : Int) ∧ ((136 * s : Nat) : Int) + ((c : Nat) : Int) ≤ 2147483647) ∧ ((((136 * s) + c : Nat) : Int) < 5440) ∧ Br (J 361 ((136 * s) + c) ≤ m) ((-2147483648 ≤ ((c : Nat) : Int) + 1 ∧ ((c : Nat) : Int) + 1 ≤ 2147483647) ∧ V w 6 mX5_settles 74 [some (vR 313), none, some (vI what), some (vI b), some (vI f), some (vI ((s : Nat) : Int)), some (vI m), some (vI ((c + 1 : Nat) : Int))] [] S J Q) ((-2147483648 ≤ ((c : Nat) : Int) + 1 ∧ ((c : Nat) : Int) + 1 ≤ 2147483647) ∧ V w 6 mX5_settles 74 [some (vR 313), none, some (vI what), some (vI b), some (vI f), some (vI ((s : Nat) : Int)), some (vI (J 361 ((136 * s) + c))), some (vI ((c + 1 : Nat) : Int))] [] S J Q))) :
    V w 6 mX5_settles 74 [some (vR 313), none, some (vI what), some (vI b), some (vI f), some (vI ((s : Nat) : Int)), some (vI m), some (vI ((c : Nat) : Int))] [] S J Q := by
  refine v_iload dX5_settles_74 rfl ?_
  refine v_sipush dX5_settles_76 (by decide) (in_lit (by decide)) ?_
  obtain ⟨K1, K2⟩ := K
  refine v_icmp_ge 123 dX5_settles_79 (by decide) (fun c1 => ?_) (fun c1 => ?_)
  · have K := K1 c1
    refine v_iload_n dX5_settles_123 rfl ?_
    refine v_iconst dX5_settles_124 (in_lit (by decide)) ?_
    obtain ⟨K1, K2⟩ := K
    refine v_icmp_eq 138 dX5_settles_125 (by decide) (fun c2 => ?_) (fun c2 => ?_)
    · have K := K1 c2
      refine v_iload dX5_settles_138 rfl ?_
      refine v_istore_n dX5_settles_140 (Nat.le_of_ble_eq_true rfl) ?_
      show V w 6 mX5_settles 141 [some (vR 313), none, some (vI what), some (vI ((s : Nat) : Int)), some (vI f), some (vI ((s : Nat) : Int)), some (vI m), some (vI ((c : Nat) : Int))] [] S J Q
      refine v_iload dX5_settles_141 rfl ?_
      refine v_istore dX5_settles_143 (Nat.le_of_ble_eq_true rfl) ?_
      show V w 6 mX5_settles 145 [some (vR 313), none, some (vI what), some (vI ((s : Nat) : Int)), some (vI m), some (vI ((s : Nat) : Int)), some (vI m), some (vI ((c : Nat) : Int))] [] S J Q
      obtain ⟨o1, K⟩ := K
      refine v_iinc dX5_settles_145 rfl o1 ?_
      show V w 6 mX5_settles 148 [some (vR 313), none, some (vI what), some (vI ((s : Nat) : Int)), some (vI m), some (vI ((s + 1 : Nat) : Int)), some (vI m), some (vI ((c : Nat) : Int))] [] S J Q
      refine v_goto 46 dX5_settles_148 (by decide) ?_
      exact v_forget (fg_some (fg_none (fg_some (fg_some (fg_some (fg_some (fg_none (fg_none fg_nil)))))))) K
    · have K := K2 c2
      refine v_iload dX5_settles_128 rfl ?_
      refine v_iload dX5_settles_130 rfl ?_
      obtain ⟨K1, K2⟩ := K
      refine v_icmp_lt 138 dX5_settles_132 (by decide) (fun c3 => ?_) (fun c3 => ?_)
      · have K := K1 c3
        refine v_iload dX5_settles_138 rfl ?_
        refine v_istore_n dX5_settles_140 (Nat.le_of_ble_eq_true rfl) ?_
        show V w 6 mX5_settles 141 [some (vR 313), none, some (vI what), some (vI ((s : Nat) : Int)), some (vI f), some (vI ((s : Nat) : Int)), some (vI m), some (vI ((c : Nat) : Int))] [] S J Q
        refine v_iload dX5_settles_141 rfl ?_
        refine v_istore dX5_settles_143 (Nat.le_of_ble_eq_true rfl) ?_
        show V w 6 mX5_settles 145 [some (vR 313), none, some (vI what), some (vI ((s : Nat) : Int)), some (vI m), some (vI ((s : Nat) : Int)), some (vI m), some (vI ((c : Nat) : Int))] [] S J Q
        obtain ⟨o2, K⟩ := K
        refine v_iinc dX5_settles_145 rfl o2 ?_
        show V w 6 mX5_settles 148 [some (vR 313), none, some (vI what), some (vI ((s : Nat) : Int)), some (vI m), some (vI ((s + 1 : Nat) : Int)), some (vI m), some (vI ((c : Nat) : Int))] [] S J Q
        refine v_goto 46 dX5_settles_148 (by decide) ?_
        exact v_forget (fg_some (fg_none (fg_some (fg_some (fg_some (fg_some (fg_none (fg_none fg_nil)))))))) K
      · have K := K2 c3
        refine v_goto 145 dX5_settles_135 (by decide) ?_
        obtain ⟨o3, K⟩ := K
        refine v_iinc dX5_settles_145 rfl o3 ?_
        show V w 6 mX5_settles 148 [some (vR 313), none, some (vI what), some (vI b), some (vI f), some (vI ((s + 1 : Nat) : Int)), some (vI m), some (vI ((c : Nat) : Int))] [] S J Q
        refine v_goto 46 dX5_settles_148 (by decide) ?_
        exact v_forget (fg_some (fg_none (fg_some (fg_some (fg_some (fg_some (fg_none (fg_none fg_nil)))))))) K
  · have K := K2 c1
    refine v_aload_n dX5_settles_82 rfl ?_
    refine v_getR dX5_settles_83 frX5_160_5 rfl (L_313 hL).1 (LR_313_72 hL) (Or.inl rfl) ?_
    refine v_sipush dX5_settles_86 (by decide) (in_lit (by decide)) ?_
    refine v_iload dX5_settles_89 rfl ?_
    obtain ⟨o4, K⟩ := K
    refine v_imul dX5_settles_91 o4 ?_
    show V w 6 mX5_settles 92 [some (vR 313), none, some (vI what), some (vI b), some (vI f), some (vI ((s : Nat) : Int)), some (vI m), some (vI ((c : Nat) : Int))] [vI ((136 * s : Nat) : Int), vR 361] S J Q
    refine v_iload dX5_settles_92 rfl ?_
    obtain ⟨o5, K⟩ := K
    refine v_iadd dX5_settles_94 o5 ?_
    show V w 6 mX5_settles 95 [some (vR 313), none, some (vI what), some (vI b), some (vI f), some (vI ((s : Nat) : Int)), some (vI m), some (vI ((c : Nat) : Int))] [vI (((136 * s) + c : Nat) : Int), vR 361] S J Q
    obtain ⟨o6, K⟩ := K
    refine ld_361 dX5_settles_95 hL (by omega) o6 ?_
    show V w 6 mX5_settles 96 [some (vR 313), none, some (vI what), some (vI b), some (vI f), some (vI ((s : Nat) : Int)), some (vI m), some (vI ((c : Nat) : Int))] [vI (J 361 ((136 * s) + c))] S J Q
    refine v_iload dX5_settles_96 rfl ?_
    obtain ⟨K1, K2⟩ := K
    refine v_icmp_le 117 dX5_settles_98 (by decide) (fun c4 => ?_) (fun c4 => ?_)
    · have K := K1 c4
      obtain ⟨o7, K⟩ := K
      refine v_iinc dX5_settles_117 rfl o7 ?_
      show V w 6 mX5_settles 120 [some (vR 313), none, some (vI what), some (vI b), some (vI f), some (vI ((s : Nat) : Int)), some (vI m), some (vI ((c + 1 : Nat) : Int))] [] S J Q
      refine v_goto 74 dX5_settles_120 (by decide) ?_
      exact K
    · have K := K2 c4
      refine v_aload_n dX5_settles_101 rfl ?_
      refine v_getR dX5_settles_102 frX5_160_5 rfl (L_313 hL).1 (LR_313_72 hL) (Or.inl rfl) ?_
      refine v_sipush dX5_settles_105 (by decide) (in_lit (by decide)) ?_
      refine v_iload dX5_settles_108 rfl ?_
      refine v_imul dX5_settles_110 o4 ?_
      show V w 6 mX5_settles 111 [some (vR 313), none, some (vI what), some (vI b), some (vI f), some (vI ((s : Nat) : Int)), some (vI m), some (vI ((c : Nat) : Int))] [vI ((136 * s : Nat) : Int), vR 361] S J Q
      refine v_iload dX5_settles_111 rfl ?_
      refine v_iadd dX5_settles_113 o5 ?_
      show V w 6 mX5_settles 114 [some (vR 313), none, some (vI what), some (vI b), some (vI f), some (vI ((s : Nat) : Int)), some (vI m), some (vI ((c : Nat) : Int))] [vI (((136 * s) + c : Nat) : Int), vR 361] S J Q
      refine ld_361 dX5_settles_114 hL (by omega) o6 ?_
      show V w 6 mX5_settles 115 [some (vR 313), none, some (vI what), some (vI b), some (vI f), some (vI ((s : Nat) : Int)), some (vI m), some (vI ((c : Nat) : Int))] [vI (J 361 ((136 * s) + c))] S J Q
      refine v_istore dX5_settles_115 (Nat.le_of_ble_eq_true rfl) ?_
      show V w 6 mX5_settles 117 [some (vR 313), none, some (vI what), some (vI b), some (vI f), some (vI ((s : Nat) : Int)), some (vI (J 361 ((136 * s) + c))), some (vI ((c : Nat) : Int))] [] S J Q
      obtain ⟨o8, K⟩ := K
      refine v_iinc dX5_settles_117 rfl o8 ?_
      show V w 6 mX5_settles 120 [some (vR 313), none, some (vI what), some (vI b), some (vI f), some (vI ((s : Nat) : Int)), some (vI (J 361 ((136 * s) + c))), some (vI ((c + 1 : Nat) : Int))] [] S J Q
      refine v_goto 74 dX5_settles_120 (by decide) ?_
      exact K
theorem gX5_could_0 {w : Wd} {S : Sh} {J : Jm} {Q : Out → Sh → Jm → Prop} (hL : Lay S) (known : Int) (s : Int) (i : Int) (what : Int)
    (K : Br (0 ≤ known ∧ known ≤ (J 313 1)) (Br (0 ≤ s ∧ s < 40) (Br (i < 0) (Q (.inl (some (vI (-1)))) S (up J 313 0 0)) (Br (0 ≤ what ∧ what ≤ 1) ((MI0 (up J 313 0 0)) ∧ (∀ (J1 : Jm), PAll (up J 313 0 0) known J1 → V w 6 mX5_could 47 [some (vR 313), none, some (vI s), none, some (vI what), some (vI i), some (vI 0), none] [] S J1 Q)) (Q (.inl (some (vI (-1)))) S (up J 313 0 0)))) (Q (.inl (some (vI (-1)))) S (up J 313 0 0))) (Q (.inl (some (vI (-1)))) S (up J 313 0 0))) :
    V w 6 mX5_could 0 (ent mX5_could [vR 313, vI known, vI s, vI i, vI what]) [] S J Q := by
  show V w 6 mX5_could 0 [some (vR 313), some (vI known), some (vI s), some (vI i), some (vI what), none, none, none] [] S J Q
  refine v_aload_n dX5_could_0 rfl ?_
  refine v_iconst dX5_could_1 (in_lit (by decide)) ?_
  refine v_putI dX5_could_2 frX5_1_5 (fun _ _ _ h => by cases h; exact Or.inl rfl) rfl rfl zfit_int (L_313 hL).1 ?_
  show V w 6 mX5_could 5 [some (vR 313), some (vI known), some (vI s), some (vI i), some (vI what), none, none, none] [] S (up J 313 0 0) Q
  refine v_aload_n dX5_could_5 rfl ?_
  refine v_iload_n dX5_could_6 rfl ?_
  refine v_callV (d' := 0) (rest := []) [vI known] dX5_could_7 vrX5_298_5 (L_313 hL).1 rfl rfl (one_I one_nil) (Nat.le_of_ble_eq_true rfl) (Nat.le_of_ble_eq_true rfl) (Nat.le_of_ble_eq_true rfl) ?_
  obtain ⟨K1, K2⟩ := K
  refine sX5_isKnown hL known  (fun c1 => ?_) (fun c1 => ?_)
  · have K := K1 c1
    show V w 6 mX5_could 10 [some (vR 313), some (vI known), some (vI s), some (vI i), some (vI what), none, none, none] [vI 1] S (up J 313 0 0) Q
    refine v_if_eq 34 dX5_could_10 (by decide) (fun cQ => absurd cQ (by decide)) (fun _ => ?_)
    refine v_iload_n dX5_could_13 rfl ?_
    refine v_callS (d' := 0) (rest := []) [vI s] dX5_could_14 srX5_288 rfl (one_I one_nil) (Nat.le_of_ble_eq_true rfl) (Nat.le_of_ble_eq_true rfl) (Nat.le_of_ble_eq_true rfl) ?_
    obtain ⟨K1, K2⟩ := K
    refine sX5_isSignNumber hL s  (fun c2 => ?_) (fun c2 => ?_)
    · have K := K1 c2
      show V w 6 mX5_could 17 [some (vR 313), some (vI known), some (vI s), some (vI i), some (vI what), none, none, none] [vI 1] S (up J 313 0 0) Q
      refine v_if_eq 34 dX5_could_17 (by decide) (fun cQ => absurd cQ (by decide)) (fun _ => ?_)
      refine v_iload_n dX5_could_20 rfl ?_
      obtain ⟨K1, K2⟩ := K
      refine v_if_lt 34 dX5_could_21 (by decide) (fun c3 => ?_) (fun c3 => ?_)
      · have K := K1 c3
        refine v_iconst dX5_could_34 (in_lit (by decide)) ?_
        exact v_iret dX5_could_35 rfl rfl K
      · have K := K2 c3
        refine v_iload dX5_could_24 rfl ?_
        refine v_iconst dX5_could_26 (in_lit (by decide)) ?_
        refine v_iconst dX5_could_27 (in_lit (by decide)) ?_
        refine v_callS (d' := 0) (rest := []) [vI what, vI 0, vI 1] dX5_could_28 srX5_169 rfl (one_I (one_I (one_I one_nil))) (Nat.le_of_ble_eq_true rfl) (Nat.le_of_ble_eq_true rfl) (Nat.le_of_ble_eq_true rfl) ?_
        obtain ⟨K1, K2⟩ := K
        refine sX5_within hL what 0 1  (fun c4 => ?_) (fun c4 => ?_)
        · have K := K1 c4
          show V w 6 mX5_could 31 [some (vR 313), some (vI known), some (vI s), some (vI i), some (vI what), none, none, none] [vI 1] S (up J 313 0 0) Q
          refine v_if_ne 36 dX5_could_31 (by decide) (fun _ => ?_) (fun cQ => absurd cQ (by decide))
          refine v_aload_n dX5_could_36 rfl ?_
          refine v_iload_n dX5_could_37 rfl ?_
          refine v_callV (d' := 5) (rest := []) [vI known] dX5_could_38 vrX5_438_5 (L_313 hL).1 rfl rfl (one_I one_nil) (Nat.le_of_ble_eq_true rfl) (Nat.le_of_ble_eq_true rfl) (Nat.le_of_ble_eq_true rfl) ?_
          obtain ⟨o1, K⟩ := K
          refine s_findAll hL known o1 (fun J1 hp => ?_)
          have K := K J1 hp
          show V w 6 mX5_could 41 [some (vR 313), some (vI known), some (vI s), some (vI i), some (vI what), none, none, none] [] S J1 Q
          refine v_iload_n dX5_could_41 rfl ?_
          refine v_istore dX5_could_42 (Nat.le_of_ble_eq_true rfl) ?_
          show V w 6 mX5_could 44 [some (vR 313), some (vI known), some (vI s), some (vI i), some (vI what), some (vI i), none, none] [] S J1 Q
          refine v_iconst dX5_could_44 (in_lit (by decide)) ?_
          refine v_istore dX5_could_45 (Nat.le_of_ble_eq_true rfl) ?_
          show V w 6 mX5_could 47 [some (vR 313), some (vI known), some (vI s), some (vI i), some (vI what), some (vI i), some (vI 0), none] [] S J1 Q
          exact v_forget (fg_some (fg_none (fg_some (fg_none (fg_some (fg_some (fg_some (fg_none fg_nil)))))))) K
        · have K := K2 c4
          show V w 6 mX5_could 31 [some (vR 313), some (vI known), some (vI s), some (vI i), some (vI what), none, none, none] [vI 0] S (up J 313 0 0) Q
          refine v_if_ne 36 dX5_could_31 (by decide) (fun cQ => absurd cQ (by decide)) (fun _ => ?_)
          refine v_iconst dX5_could_34 (in_lit (by decide)) ?_
          exact v_iret dX5_could_35 rfl rfl K
    · have K := K2 c2
      show V w 6 mX5_could 17 [some (vR 313), some (vI known), some (vI s), some (vI i), some (vI what), none, none, none] [vI 0] S (up J 313 0 0) Q
      refine v_if_eq 34 dX5_could_17 (by decide) (fun _ => ?_) (fun cQ => absurd cQ (by decide))
      refine v_iconst dX5_could_34 (in_lit (by decide)) ?_
      exact v_iret dX5_could_35 rfl rfl K
  · have K := K2 c1
    show V w 6 mX5_could 10 [some (vR 313), some (vI known), some (vI s), some (vI i), some (vI what), none, none, none] [vI 0] S (up J 313 0 0) Q
    refine v_if_eq 34 dX5_could_10 (by decide) (fun _ => ?_) (fun cQ => absurd cQ (by decide))
    refine v_iconst dX5_could_34 (in_lit (by decide)) ?_
    exact v_iret dX5_could_35 rfl rfl K
theorem gX5_could_47 {w : Wd} {S : Sh} {J : Jm} {Q : Out → Sh → Jm → Prop} (hL : Lay S) (s : Int) (what : Int) (l : Int) (c : Nat)
    (K : Br (135 ≤ ((c : Nat) : Int)) (Q (.inl (some (vI (-1)))) S J) ((0 ≤ s) ∧ (s < 40) ∧ (-2147483648 ≤ 136 * (J 332 s.toNat) ∧ 136 * (J 332 s.toNat) ≤ 2147483647) ∧ (-2147483648 ≤ (136 * (J 332 s.toNat)) + ((c : Nat) : Int) ∧ (136 * (J 332 s.toNat)) + ((c : Nat) : Int) ≤ 2147483647) ∧ (0 ≤ (136 * (J 332 s.toNat)) + ((c : Nat) : Int)) ∧ ((136 * (J 332 s.toNat)) + ((c : Nat) : Int) < 5440) ∧ Br (J 361 ((136 * (J 332 s.toNat)) + ((c : Nat) : Int)).toNat = 0) ((-2147483648 ≤ ((c : Nat) : Int) + 1 ∧ ((c : Nat) : Int) + 1 ≤ 2147483647) ∧ V w 6 mX5_could 47 [some (vR 313), none, some (vI s), none, some (vI what), some (vI l), some (vI ((c + 1 : Nat) : Int)), none] [] S J Q) (Br (l = 0) (Br (what = 0) (Q (.inl (some (vI ((c : Nat) : Int)))) S J) (Q (.inl (some (vI (J 361 ((136 * (J 332 s.toNat)) + ((c : Nat) : Int)).toNat)))) S J)) ((-2147483648 ≤ l + (-1) ∧ l + (-1) ≤ 2147483647) ∧ (-2147483648 ≤ ((c : Nat) : Int) + 1 ∧ ((c : Nat) : Int) + 1 ≤ 2147483647) ∧ V w 6 mX5_could 47 [some (vR 313), none, some (vI s), none, some (vI what), some (vI (l + (-1))), some (vI ((c + 1 : Nat) : Int)), none] [] S J Q)))) :
    V w 6 mX5_could 47 [some (vR 313), none, some (vI s), none, some (vI what), some (vI l), some (vI ((c : Nat) : Int)), none] [] S J Q := by
  refine v_iload dX5_could_47 rfl ?_
  refine v_sipush dX5_could_49 (by decide) (in_lit (by decide)) ?_
  obtain ⟨K1, K2⟩ := K
  refine v_icmp_ge 110 dX5_could_52 (by decide) (fun c1 => ?_) (fun c1 => ?_)
  · have K := K1 c1
    refine v_iconst dX5_could_110 (in_lit (by decide)) ?_
    exact v_iret dX5_could_111 rfl rfl K
  · have K := K2 c1
    refine v_aload_n dX5_could_55 rfl ?_
    refine v_getR dX5_could_56 frX5_160_5 rfl (L_313 hL).1 (LR_313_72 hL) (Or.inl rfl) ?_
    refine v_sipush dX5_could_59 (by decide) (in_lit (by decide)) ?_
    refine v_aload_n dX5_could_62 rfl ?_
    refine v_getR dX5_could_63 frX5_72_5 rfl (L_313 hL).1 (LR_313_31 hL) (Or.inl rfl) ?_
    refine v_iload_n dX5_could_66 rfl ?_
    obtain ⟨o1, K⟩ := K
    obtain ⟨o2, K⟩ := K
    refine ld_332 dX5_could_67 hL o1 o2 ?_
    obtain ⟨o3, K⟩ := K
    refine v_imul dX5_could_68 o3 ?_
    refine v_iload dX5_could_69 rfl ?_
    obtain ⟨o4, K⟩ := K
    refine v_iadd dX5_could_71 o4 ?_
    obtain ⟨o5, K⟩ := K
    obtain ⟨o6, K⟩ := K
    refine ld_361 dX5_could_72 hL o5 o6 ?_
    refine v_istore dX5_could_73 (Nat.le_of_ble_eq_true rfl) ?_
    show V w 6 mX5_could 75 [some (vR 313), none, some (vI s), none, some (vI what), some (vI l), some (vI ((c : Nat) : Int)), some (vI (J 361 ((136 * (J 332 s.toNat)) + ((c : Nat) : Int)).toNat))] [] S J Q
    refine v_iload dX5_could_75 rfl ?_
    obtain ⟨K1, K2⟩ := K
    refine v_if_ne 83 dX5_could_77 (by decide) (fun c2 => ?_) (fun c2 => ?_)
    · have K := K2 c2
      refine v_iload dX5_could_83 rfl ?_
      obtain ⟨K1, K2⟩ := K
      refine v_if_ne 101 dX5_could_85 (by decide) (fun c3 => ?_) (fun c3 => ?_)
      · have K := K2 c3
        obtain ⟨o7, K⟩ := K
        refine v_iinc dX5_could_101 rfl o7 ?_
        show V w 6 mX5_could 104 [some (vR 313), none, some (vI s), none, some (vI what), some (vI (l + (-1))), some (vI ((c : Nat) : Int)), some (vI (J 361 ((136 * (J 332 s.toNat)) + ((c : Nat) : Int)).toNat))] [] S J Q
        obtain ⟨o8, K⟩ := K
        refine v_iinc dX5_could_104 rfl o8 ?_
        show V w 6 mX5_could 107 [some (vR 313), none, some (vI s), none, some (vI what), some (vI (l + (-1))), some (vI ((c + 1 : Nat) : Int)), some (vI (J 361 ((136 * (J 332 s.toNat)) + ((c : Nat) : Int)).toNat))] [] S J Q
        refine v_goto 47 dX5_could_107 (by decide) ?_
        exact v_forget (fg_some (fg_none (fg_some (fg_none (fg_some (fg_some (fg_some (fg_none fg_nil)))))))) K
      · have K := K1 c3
        refine v_iload dX5_could_88 rfl ?_
        obtain ⟨K1, K2⟩ := K
        refine v_if_ne 98 dX5_could_90 (by decide) (fun c4 => ?_) (fun c4 => ?_)
        · have K := K2 c4
          refine v_iload dX5_could_98 rfl ?_
          exact v_iret dX5_could_100 rfl rfl K
        · have K := K1 c4
          refine v_iload dX5_could_93 rfl ?_
          refine v_goto 100 dX5_could_95 (by decide) ?_
          exact v_iret dX5_could_100 rfl rfl K
    · have K := K1 c2
      refine v_goto 104 dX5_could_80 (by decide) ?_
      obtain ⟨o9, K⟩ := K
      refine v_iinc dX5_could_104 rfl o9 ?_
      show V w 6 mX5_could 107 [some (vR 313), none, some (vI s), none, some (vI what), some (vI l), some (vI ((c + 1 : Nat) : Int)), some (vI (J 361 ((136 * (J 332 s.toNat)) + ((c : Nat) : Int)).toNat))] [] S J Q
      refine v_goto 47 dX5_could_107 (by decide) ?_
      exact v_forget (fg_some (fg_none (fg_some (fg_none (fg_some (fg_some (fg_some (fg_none fg_nil)))))))) K
theorem gX5_inGrid_0 {w : Wd} {S : Sh} {J : Jm} {Q : Out → Sh → Jm → Prop} (hL : Lay S) (known : Int) (cell : Int)
    (K : Br (0 ≤ known ∧ known ≤ (J 313 1)) (Br (0 ≤ cell ∧ cell ≤ 134) ((MI0 (up J 313 0 0)) ∧ (∀ (J1 : Jm), PAll (up J 313 0 0) known J1 → V w 6 mX5_inGrid 33 [some (vR 313), none, some (vI cell), some (vI 0)] [] S J1 Q)) (Q (.inl (some (vI (-1)))) S (up J 313 0 0))) (Q (.inl (some (vI (-1)))) S (up J 313 0 0))) :
    V w 6 mX5_inGrid 0 (ent mX5_inGrid [vR 313, vI known, vI cell]) [] S J Q := by
  show V w 6 mX5_inGrid 0 [some (vR 313), some (vI known), some (vI cell), none] [] S J Q
  refine v_aload_n dX5_inGrid_0 rfl ?_
  refine v_iconst dX5_inGrid_1 (in_lit (by decide)) ?_
  refine v_putI dX5_inGrid_2 frX5_1_5 (fun _ _ _ h => by cases h; exact Or.inl rfl) rfl rfl zfit_int (L_313 hL).1 ?_
  show V w 6 mX5_inGrid 5 [some (vR 313), some (vI known), some (vI cell), none] [] S (up J 313 0 0) Q
  refine v_aload_n dX5_inGrid_5 rfl ?_
  refine v_iload_n dX5_inGrid_6 rfl ?_
  refine v_callV (d' := 0) (rest := []) [vI known] dX5_inGrid_7 vrX5_298_5 (L_313 hL).1 rfl rfl (one_I one_nil) (Nat.le_of_ble_eq_true rfl) (Nat.le_of_ble_eq_true rfl) (Nat.le_of_ble_eq_true rfl) ?_
  obtain ⟨K1, K2⟩ := K
  refine sX5_isKnown hL known  (fun c1 => ?_) (fun c1 => ?_)
  · have K := K1 c1
    show V w 6 mX5_inGrid 10 [some (vR 313), some (vI known), some (vI cell), none] [vI 1] S (up J 313 0 0) Q
    refine v_if_eq 24 dX5_inGrid_10 (by decide) (fun cQ => absurd cQ (by decide)) (fun _ => ?_)
    refine v_iload_n dX5_inGrid_13 rfl ?_
    refine v_iconst dX5_inGrid_14 (in_lit (by decide)) ?_
    refine v_sipush dX5_inGrid_15 (by decide) (in_lit (by decide)) ?_
    refine v_callS (d' := 0) (rest := []) [vI cell, vI 0, vI 134] dX5_inGrid_18 srX5_169 rfl (one_I (one_I (one_I one_nil))) (Nat.le_of_ble_eq_true rfl) (Nat.le_of_ble_eq_true rfl) (Nat.le_of_ble_eq_true rfl) ?_
    obtain ⟨K1, K2⟩ := K
    refine sX5_within hL cell 0 134  (fun c2 => ?_) (fun c2 => ?_)
    · have K := K1 c2
      show V w 6 mX5_inGrid 21 [some (vR 313), some (vI known), some (vI cell), none] [vI 1] S (up J 313 0 0) Q
      refine v_if_ne 26 dX5_inGrid_21 (by decide) (fun _ => ?_) (fun cQ => absurd cQ (by decide))
      refine v_aload_n dX5_inGrid_26 rfl ?_
      refine v_iload_n dX5_inGrid_27 rfl ?_
      refine v_callV (d' := 5) (rest := []) [vI known] dX5_inGrid_28 vrX5_438_5 (L_313 hL).1 rfl rfl (one_I one_nil) (Nat.le_of_ble_eq_true rfl) (Nat.le_of_ble_eq_true rfl) (Nat.le_of_ble_eq_true rfl) ?_
      obtain ⟨o1, K⟩ := K
      refine s_findAll hL known o1 (fun J1 hp => ?_)
      have K := K J1 hp
      show V w 6 mX5_inGrid 31 [some (vR 313), some (vI known), some (vI cell), none] [] S J1 Q
      refine v_iconst dX5_inGrid_31 (in_lit (by decide)) ?_
      refine v_istore_n dX5_inGrid_32 (Nat.le_of_ble_eq_true rfl) ?_
      show V w 6 mX5_inGrid 33 [some (vR 313), some (vI known), some (vI cell), some (vI 0)] [] S J1 Q
      exact v_forget (fg_some (fg_none (fg_some (fg_some fg_nil)))) K
    · have K := K2 c2
      show V w 6 mX5_inGrid 21 [some (vR 313), some (vI known), some (vI cell), none] [vI 0] S (up J 313 0 0) Q
      refine v_if_ne 26 dX5_inGrid_21 (by decide) (fun cQ => absurd cQ (by decide)) (fun _ => ?_)
      refine v_iconst dX5_inGrid_24 (in_lit (by decide)) ?_
      exact v_iret dX5_inGrid_25 rfl rfl K
  · have K := K2 c1
    show V w 6 mX5_inGrid 10 [some (vR 313), some (vI known), some (vI cell), none] [vI 0] S (up J 313 0 0) Q
    refine v_if_eq 24 dX5_inGrid_10 (by decide) (fun _ => ?_) (fun cQ => absurd cQ (by decide))
    refine v_iconst dX5_inGrid_24 (in_lit (by decide)) ?_
    exact v_iret dX5_inGrid_25 rfl rfl K
theorem gX5_inGrid_33 {w : Wd} {S : Sh} {J : Jm} {Q : Out → Sh → Jm → Prop} (hL : Lay S) (cell : Int) (s : Nat)
    (K : Br (40 ≤ ((s : Nat) : Int)) (Q (.inl (some (vI (-1)))) S J) (Br (J 313 68 ≤ 0) (Q (.inl (some (vI (-1)))) S J) ((-2147483648 ≤ 136 * ((s : Nat) : Int) ∧ 136 * ((s : Nat) : Int) ≤ 2147483647) ∧ (-2147483648 ≤ ((136 * s : Nat) : Int) + cell ∧ ((136 * s : Nat) : Int) + cell ≤ 2147483647) ∧ (0 ≤ ((136 * s : Nat) : Int) + cell) ∧ (((136 * s : Nat) : Int) + cell < 5440) ∧ Br (J 361 (((136 * s : Nat) : Int) + cell).toNat = J 313 68) (Q (.inl (some (vI ((s : Nat) : Int)))) S J) ((-2147483648 ≤ ((s : Nat) : Int) + 1 ∧ ((s : Nat) : Int) + 1 ≤ 2147483647) ∧ V w 6 mX5_inGrid 33 [some (vR 313), none, some (vI cell), some (vI ((s + 1 : Nat) : Int))] [] S J Q)))) :
    V w 6 mX5_inGrid 33 [some (vR 313), none, some (vI cell), some (vI ((s : Nat) : Int))] [] S J Q := by
  refine v_iload_n dX5_inGrid_33 rfl ?_
  refine v_bipush dX5_inGrid_34 (by decide) (in_lit (by decide)) ?_
  obtain ⟨K1, K2⟩ := K
  refine v_icmp_ge 73 dX5_inGrid_36 (by decide) (fun c1 => ?_) (fun c1 => ?_)
  · have K := K1 c1
    refine v_iconst dX5_inGrid_73 (in_lit (by decide)) ?_
    exact v_iret dX5_inGrid_74 rfl rfl K
  · have K := K2 c1
    refine v_aload_n dX5_inGrid_39 rfl ?_
    refine v_getI dX5_inGrid_40 frX5_411_5 rfl rfl (L_313 hL).1 ?_
    obtain ⟨K1, K2⟩ := K
    refine v_if_le 73 dX5_inGrid_43 (by decide) (fun c2 => ?_) (fun c2 => ?_)
    · have K := K1 c2
      refine v_iconst dX5_inGrid_73 (in_lit (by decide)) ?_
      exact v_iret dX5_inGrid_74 rfl rfl K
    · have K := K2 c2
      refine v_aload_n dX5_inGrid_46 rfl ?_
      refine v_getR dX5_inGrid_47 frX5_160_5 rfl (L_313 hL).1 (LR_313_72 hL) (Or.inl rfl) ?_
      refine v_sipush dX5_inGrid_50 (by decide) (in_lit (by decide)) ?_
      refine v_iload_n dX5_inGrid_53 rfl ?_
      obtain ⟨o1, K⟩ := K
      refine v_imul dX5_inGrid_54 o1 ?_
      show V w 6 mX5_inGrid 55 [some (vR 313), none, some (vI cell), some (vI ((s : Nat) : Int))] [vI ((136 * s : Nat) : Int), vR 361] S J Q
      refine v_iload_n dX5_inGrid_55 rfl ?_
      obtain ⟨o2, K⟩ := K
      refine v_iadd dX5_inGrid_56 o2 ?_
      obtain ⟨o3, K⟩ := K
      obtain ⟨o4, K⟩ := K
      refine ld_361 dX5_inGrid_57 hL o3 o4 ?_
      refine v_aload_n dX5_inGrid_58 rfl ?_
      refine v_getI dX5_inGrid_59 frX5_411_5 rfl rfl (L_313 hL).1 ?_
      obtain ⟨K1, K2⟩ := K
      refine v_icmp_ne 67 dX5_inGrid_62 (by decide) (fun c3 => ?_) (fun c3 => ?_)
      · have K := K2 c3
        obtain ⟨o5, K⟩ := K
        refine v_iinc dX5_inGrid_67 rfl o5 ?_
        show V w 6 mX5_inGrid 70 [some (vR 313), none, some (vI cell), some (vI ((s + 1 : Nat) : Int))] [] S J Q
        refine v_goto 33 dX5_inGrid_70 (by decide) ?_
        exact K
      · have K := K1 c3
        refine v_iload_n dX5_inGrid_65 rfl ?_
        exact v_iret dX5_inGrid_66 rfl rfl K

theorem tlC_le (L : List Way) (s c : Nat) : tlC L s c ≤ L.length := List.countP_le_length
theorem frN_in (L : List Way) (s : Nat) : ∀ c, -1 ≤ frN L s c ∧ frN L s c < c
  | 0 => by simp [frN]
  | c + 1 => by
    have := frN_in L s c
    rw [frN]
    split <;> omega
/-- what is read at a place; at the first i of them -/
def rdC (L : List Way) (st : Nat → Nat) (p : Int) : List Int := if p = -1 then [63] else if frN L (st p.toNat) 135 = -1 then [63] else if frN L (st p.toNat) 135 < 5 then [vwL (frN L (st p.toNat) 135 % 5)] else [97 + frN L (st p.toNat) 135 / 5 - 1, vwL (frN L (st p.toNat) 135 % 5)]
def rdA (L : List Way) (st : Nat → Nat) (P : Nat → Int) : Nat → List Int
  | 0 => []
  | i + 1 => rdA L st P i ++ rdC L st (P i)
theorem rdC_len (L : List Way) (st : Nat → Nat) (p : Int) : (rdC L st p).length ≤ 2 := by
  unfold rdC
  repeat' split
  all_goals simp
theorem rdA_len (L : List Way) (st : Nat → Nat) (P : Nat → Int) : ∀ i, (rdA L st P i).length ≤ 2 * i
  | 0 => Nat.le_refl _
  | i + 1 => by
    have h1 := rdA_len L st P i
    have h2 := rdC_len L st (P i)
    rw [rdA, List.length_append]
    omega
/-- a list lies in the out row -/
def OutAt (J : Jm) (l : List Int) : Prop := J 313 75 = ((l.length : Nat) : Int) ∧ ∀ k, k < l.length → J 363 k = l.getD k 0
def ouF (J J' : Jm) : Prop := ∀ b k, scr b k = false → b ≠ 363 → ¬ (b = 313 ∧ k = 75) → J' b k = J b k
noncomputable def rdOf (J : Jm) (known : Int) (r : Nat) : List Int := rdA (wyL J known 0) (labOf (EH J known)) (fun i => J 318 (6 * r + i)) (J 317 r).toNat
def rdOk (J : Jm) (known t u : Int) : Prop := kno J known ∧ (0 ≤ t ∧ t ≤ J 313 2 - 1) ∧ (0 ≤ u ∧ u ≤ J 316 t.toNat - 1)
theorem OutAt.app {J : Jm} {l : List Int} (h : OutAt J l) (z : Int) : OutAt (up (up J 363 l.length z) 313 75 (((l.length : Nat) : Int) + 1)) (l ++ [z]) := by
  refine ⟨by rw [up_self, len_app]; push_cast; rfl, fun k hk => ?_⟩
  rw [len_app] at hk
  rw [up_na (by decide)]
  by_cases e : k = l.length
  · rw [e, up_self, getD_app_r]
  · rw [up_nk e, getD_app_l (by omega)]; exact h.2 k (by omega)
theorem ouF.app {J J' : Jm} (h : ouF J J') (k : Nat) (z y : Int) : ouF J (up (up J' 363 k z) 313 75 y) := fun b j q1 q2 q3 => by
  rw [up_ne q3, up_ne (fun e => q2 e.1)]
  exact h b j q1 q2 q3
theorem m_reads {w : Wd} {S : Sh} {J : Jm} {Q : Out → Sh → Jm → Prop} (hL : Lay S) (known t u : Int) (h : MI0 J) (K0 : ¬ rdOk J known t u → ∀ J', Kp J J' → Q (.inl (some (vI (-1)))) S J') (K1 : rdOk J known t u → ∀ J', ouF J J' → OutAt J' (rdOf J known (8 * t.toNat + u.toNat)) → Q (.inl (some (vI ((rdOf J known (8 * t.toNat + u.toNat)).length : Nat)))) S J') : V w 6 mX5_reads 0 (ent mX5_reads [vR 313, vI known, vI t, vI u]) [] S J Q := by
  have hm := (k0 J).mp
  have hT := h.2.1
  have hT1 := hT.1
  unfold rdOk at K0 K1
  refine gX5_reads_0 hL known t u (br_i (fun h1 => ⟨by omega, br_i (fun h2 => ?_) (fun h2 => K0 (fun q => h2 q.2.1) _ (k0 J))⟩) (fun h1 => K0 (fun q => h1 q.1) _ (k0 J)))
  obtain ⟨t, rfl⟩ : ∃ m : Nat, t = m := ⟨t.toNat, by omega⟩
  rw [Int.toNat_natCast] at K0 K1 ⊢
  have hTt := hT.2 t (by omega)
  refine ⟨by omega, by omega, br_i (fun h3 => ⟨h.mp hm, fun J1 hp => ?_⟩) (fun h3 => K0 (fun q => h3 q.2.2) _ (k0 J))⟩
  obtain ⟨u, rfl⟩ : ∃ m : Nat, u = m := ⟨u.toNat, by omega⟩
  rw [Int.toNat_natCast] at K1
  have K2 := K1 ⟨h1, h2, h3⟩
  obtain ⟨a1, a2, a3, a4⟩ := hp.mp h hm
  have kp : Kp J J1 := (k0 J).trans a1
  obtain ⟨z1, z2⟩ := hTt.2 u (by omega)
  unfold rdOf at K2
  generalize hr : 8 * t + u = r at K2 z1 z2
  obtain ⟨N, eN⟩ : ∃ N : Nat, J 317 r = N := ⟨(J 317 r).toNat, by omega⟩
  have eNt : (J 317 r).toNat = N := by omega
  rw [eNt] at K2
  rw [show 8 * (t : Int) + (u : Int) = (r : Int) by omega]
  (repeat' (first | ((with_reducible refine And.intro ?_ ?_); omega)))
  have es : ∀ J2, ouF J J2 → J2 317 r = (N : Int) := fun J2 f => by rw [f _ _ (by unfold scr; simp; omega) (by decide) (by omega)]; exact eN
  have ep : ∀ J2, ouF J J2 → ∀ i, i < N → J2 318 (6 * r + i) = J 318 (6 * r + i) := fun J2 f i hi => f _ _ (by unfold scr; simp; omega) (by decide) (by omega)
  -- what all ways say stays
  have wf : ∀ J2, (∀ b k, b ≠ 363 → ¬ (b = 313 ∧ k = 75) → J2 b k = J1 b k) → ouF J J2 := fun J2 f b k q1 q2 q3 => (f b k q2 q3).trans (kp b k q1)
  have loop : ∀ (m i : Nat) (J2 : Jm), i + m = N → (∀ b k, b ≠ 363 → ¬ (b = 313 ∧ k = 75) → J2 b k = J1 b k) → OutAt J2 (rdA (wyL J known 0) (labOf (EH J known)) (fun i => J 318 (6 * r + i)) i) → V w 6 mX5_reads 66 [some (vR 313), none, none, none, some (vI (r : Int)), some (vI (i : Int)), none, none] [] S J2 Q := by
    intro m
    induction m with
    | zero =>
      intro i J2 hi f2 o2
      obtain rfl : i = N := by omega
      have e1 := es J2 (wf J2 f2)
      refine gX5_reads_66 (J := J2) hL r i ⟨by omega, br_y (by omega) ?_⟩
      rw [o2.1]
      exact K2 J2 (wf J2 f2) o2
    | succ m ih =>
      intro i J2 hi f2 o2
      have e1 := es J2 (wf J2 f2)
      have e2 := ep J2 (wf J2 f2) i (by omega)
      have hP := z2 i (by omega)
      have hlen := rdA_len (wyL J known 0) (labOf (EH J known)) (fun i => J 318 (6 * r + i)) i
      have eA : rdA (wyL J known 0) (labOf (EH J known)) (fun i => J 318 (6 * r + i)) (i + 1) = rdA (wyL J known 0) (labOf (EH J known)) (fun i => J 318 (6 * r + i)) i ++ rdC (wyL J known 0) (labOf (EH J known)) (J 318 (6 * r + i)) := rfl
      have nxt := ih (i + 1)
      rw [eA] at nxt
      generalize rdA (wyL J known 0) (labOf (EH J known)) (fun i => J 318 (6 * r + i)) i = l at o2 hlen nxt
      have st : ∀ z, rdC (wyL J known 0) (labOf (EH J known)) (J 318 (6 * r + i)) = [z] → V w 6 mX5_reads 66 [some (vR 313), none, none, none, some (vI (r : Int)), some (vI ((i + 1 : Nat) : Int)), none, none] [] S (up (up J2 363 l.length z) 313 75 (((l.length : Nat) : Int) + 1)) Q := by
        intro z hz
        rw [hz] at nxt
        exact nxt _ (by omega) (fun b k q1 q2 => by rw [up_ne q2, up_na q1]; exact f2 b k q1 q2) (o2.app z)
      refine gX5_reads_66 (J := J2) hL r i ⟨by omega, br_n (by omega) ?_⟩
      rw [e2, o2.1, Int.toNat_natCast]
      unfold rdC at st nxt
      (repeat' (first | ((with_reducible refine And.intro ?_ ?_); omega)))
      refine br_i (fun c => ?_) (fun c => ?_)
      · (repeat' (first | ((with_reducible refine And.intro ?_ ?_); omega)))
        exact st 63 (if_pos c)
      · obtain ⟨p, epp⟩ : ∃ p : Nat, J 318 (6 * r + i) = p := ⟨(J 318 (6 * r + i)).toNat, by omega⟩
        rw [epp, Int.toNat_natCast] at st nxt ⊢
        have hl := lab40 (EH J known) (s := p) (by omega)
        have e3 : J2 332 p = ((labOf (EH J known) p : Nat) : Int) := by rw [f2 _ _ (by decide) (by omega)]; exact a2 p (by omega)
        rw [e3]
        (repeat' (first | ((with_reducible refine And.intro ?_ ?_); omega)))
        rw [if_neg (by omega)] at nxt
        refine s_forcedOf hL (wyL J known 0) _ hl (by rw [f2 _ _ (by decide) (by omega)]; exact a3) (fun c hc => by rw [f2 _ _ (by decide) (by omega)]; exact a4 _ c hl hc) ?_
        have hfr := frN_in (wyL J known 0) (labOf (EH J known) p) 135
        refine v_forget (fg_some (fg_none (fg_none (fg_none (fg_some (fg_some (fg_none (fg_none fg_nil)))))))) (gX5_reads_114 (J := J2) hL r i (frN (wyL J known 0) (labOf (EH J known) p) 135) ?_)
        generalize frN (wyL J known 0) (labOf (EH J known) p) 135 = f at st nxt hfr
        rw [o2.1, Int.toNat_natCast, show (((l.length : Nat) : Int) + 1).toNat = l.length + 1 by omega]
        refine br_i (fun c1 => br_i (fun c2 => ?_) (fun c2 => ?_)) (fun c1 => ?_)
        · (repeat' (first | ((with_reducible refine And.intro ?_ ?_); omega)))
          exact st 63 (by rw [if_neg (by omega), if_pos c2])
        · (repeat' (first | ((with_reducible refine And.intro ?_ ?_); omega)))
          exact st _ (by rw [if_neg (by omega), if_neg c2, if_pos c1])
        · (repeat' (first | ((with_reducible refine And.intro ?_ ?_); omega)))
          refine br_n (by omega) ?_
          (repeat' (first | ((with_reducible refine And.intro ?_ ?_); omega)))
          rw [if_neg (by omega), if_neg (by omega)] at nxt
          have o3 := (o2.app (97 + f / 5 - 1)).app (vwL (f % 5))
          rw [len_app, show (((l.length + 1 : Nat) : Int)) = ((l.length : Nat) : Int) + 1 by push_cast; rfl] at o3
          refine nxt _ (by omega) (fun b k q1 q2 => by rw [up_ne q2, up_na q1, up_ne q2, up_na q1]; exact f2 b k q1 q2) ?_
          rw [show l ++ [97 + f / 5 - 1, vwL (f % 5)] = l ++ [97 + f / 5 - 1] ++ [vwL (f % 5)] by simp]
          exact o3
  show V w 6 mX5_reads 66 [some (vR 313), none, none, none, some (vI (r : Int)), some (vI ((0 : Nat) : Int)), none, none] [] S (up J1 313 75 0) Q
  exact loop N 0 _ (by omega) (fun b k _ q => up_ne q) ⟨up_self, fun k hk => absurd hk (Nat.not_lt_zero _)⟩
/-- the most ways that a sign has one cell in, or none -/
def moN (L : List Way) (s : Nat) : Nat → Nat
  | 0 => 0
  | c + 1 => if moN L s c < tlC L s c then tlC L s c else moN L s c
def seN (L : List Way) (st : Nat → Nat) : Nat → Int × Int
  | 0 => (-1, 0)
  | s + 1 => if st s = s ∧ ((seN L st s).1 = -1 ∨ ((moN L s 136 : Nat) : Int) < (seN L st s).2) then ((s : Int), ((moN L s 136 : Nat) : Int)) else seN L st s
noncomputable def rSettles (J : Jm) (known what : Int) : Int := if kno J known ∧ (0 ≤ what ∧ what ≤ 1) ∧ (wyL J known 0).length ≠ 0 then (if what = 0 then (seN (wyL J known 0) (labOf (EH J known)) 40).1 else (seN (wyL J known 0) (labOf (EH J known)) 40).2) else -1
theorem moN_le (L : List Way) (s : Nat) : ∀ c, moN L s c ≤ L.length
  | 0 => Nat.zero_le _
  | c + 1 => by
    have h1 := moN_le L s c
    have h2 := tlC_le L s c
    rw [moN]
    split <;> omega
theorem m_settles {w : Wd} {S : Sh} {J : Jm} {Q : Out → Sh → Jm → Prop} (hL : Lay S) (known what : Int) (h : MI0 J) (K : ∀ J', Kp J J' → Q (.inl (some (vI (rSettles J known what)))) S J') : V w 6 mX5_settles 0 (ent mX5_settles [vR 313, vI known, vI what]) [] S J Q := by
  have hm := (k0 J).mp
  unfold rSettles at K
  refine gX5_settles_0 hL known what (br_i (fun h1 => br_i (fun h2 => ⟨h.mp hm, fun J1 hp => ?_⟩) (fun h2 => ?_)) (fun h1 => ?_))
  · obtain ⟨a1, a2, a3, a4⟩ := hp.mp h hm
    have fin := K J1 ((k0 J).trans a1)
    generalize wyL J known 0 = L at fin a3 a4
    generalize labOf (EH J known) = st at fin a2
    rw [a3]
    refine br_i (fun h3 => ?_) (fun h3 => ?_)
    · rw [if_neg (fun q => q.2.2 (by omega))] at fin
      exact fin
    · rw [if_pos ⟨h1, h2, by omega⟩] at fin
      have loop : ∀ (m s : Nat), s + m = 40 → V w 6 mX5_settles 46 [some (vR 313), none, some (vI what), some (vI (seN L st s).1), some (vI (seN L st s).2), some (vI (s : Int)), none, none] [] S J1 Q := by
        intro m
        induction m with
        | zero =>
          intro s hs
          obtain rfl : s = 40 := by omega
          refine gX5_settles_46 hL what _ _ 40 (br_y (by omega) (br_i (fun q => ?_) (fun q => ?_)))
          · rw [if_pos q] at fin; exact fin
          · rw [if_neg q] at fin; exact fin
        | succ m ih =>
          intro s hs
          have ih1 := ih (s + 1) (by omega)
          rw [seN] at ih1
          refine gX5_settles_46 hL what _ _ s (br_n (by omega) ?_)
          rw [a2 s (by omega)]
          (repeat' (first | ((with_reducible refine And.intro ?_ ?_); omega)))
          refine br_i (fun q => ?_) (fun q => ?_)
          · have inner : ∀ (n c : Nat), c + n = 136 → V w 6 mX5_settles 74 [some (vR 313), none, some (vI what), some (vI (seN L st s).1), some (vI (seN L st s).2), some (vI (s : Int)), some (vI ((moN L s c : Nat) : Int)), some (vI (c : Int))] [] S J1 Q := by
              intro n
              induction n with
              | zero =>
                intro c hc
                obtain rfl : c = 136 := by omega
                refine gX5_settles_74 hL what _ _ s _ 136 (br_y (by omega) (br_i (fun e1 => ⟨by omega, ?_⟩) (fun e1 => br_i (fun e2 => ⟨by omega, ?_⟩) (fun e2 => ⟨by omega, ?_⟩))))
                · rw [if_pos ⟨by omega, Or.inl e1⟩] at ih1; exact ih1
                · rw [if_pos ⟨by omega, Or.inr e2⟩] at ih1; exact ih1
                · rw [if_neg (fun z => z.2.elim e1 e2)] at ih1; exact ih1
              | succ n ihn =>
                intro c hc
                have ihn1 := ihn (c + 1) (by omega)
                rw [moN] at ihn1
                refine gX5_settles_74 hL what _ _ s _ c (br_n (by omega) ?_)
                rw [a4 s c (by omega) (by omega)]
                (repeat' (first | ((with_reducible refine And.intro ?_ ?_); omega)))
                refine br_i (fun e1 => ⟨by omega, ?_⟩) (fun e1 => ⟨by omega, ?_⟩)
                · rw [if_neg (by omega)] at ihn1; exact ihn1
                · rw [if_pos (by omega)] at ihn1; exact ihn1
            exact inner 136 0 (by omega)
          · rw [if_neg (fun z => q (by omega))] at ih1
            exact ⟨by omega, ih1⟩
      exact loop 40 0 (by omega)
  · have := K _ (k0 J)
    rw [if_neg (fun q => h2 q.2.1)] at this
    exact this
  · have := K _ (k0 J)
    rw [if_neg (fun q => h1 q.1)] at this
    exact this
def coF (L : List Way) (s : Nat) (what : Int) : Nat → Nat → Int → Int
  | 0, _, _ => -1
  | m + 1, c, l => if tlC L s c = 0 then coF L s what m (c + 1) l else if l = 0 then (if what = 0 then (c : Int) else ((tlC L s c : Nat) : Int)) else coF L s what m (c + 1) (l + (-1))
noncomputable def rCould (J : Jm) (known s i what : Int) : Int := if kno J known ∧ (0 ≤ s ∧ s < 40) ∧ 0 ≤ i ∧ (0 ≤ what ∧ what ≤ 1) then coF (wyL J known 0) (labOf (EH J known) s.toNat) what 135 0 i else -1
theorem m_could {w : Wd} {S : Sh} {J : Jm} {Q : Out → Sh → Jm → Prop} (hL : Lay S) (known s i what : Int) (h : MI0 J) (hi9 : i ≤ 2147483647) (K : ∀ J', Kp J J' → Q (.inl (some (vI (rCould J known s i what)))) S J') : V w 6 mX5_could 0 (ent mX5_could [vR 313, vI known, vI s, vI i, vI what]) [] S J Q := by
  have hm := (k0 J).mp
  unfold rCould at K
  have no : ¬ (kno J known ∧ (0 ≤ s ∧ s < 40) ∧ 0 ≤ i ∧ (0 ≤ what ∧ what ≤ 1)) → Q (.inl (some (vI (-1)))) S (up J 313 0 0) := by
    intro q
    have := K _ (k0 J)
    rw [if_neg q] at this
    exact this
  refine gX5_could_0 hL known s i what (br_i (fun h1 => br_i (fun h2 => br_i (fun h3 => no (fun q => by omega)) (fun h3 => br_i (fun h4 => ⟨h.mp hm, fun J1 hp => ?_⟩) (fun h4 => no (fun q => h4 q.2.2.2)))) (fun h2 => no (fun q => h2 q.2.1))) (fun h1 => no (fun q => h1 q.1)))
  obtain ⟨a1, a2, a3, a4⟩ := hp.mp h hm
  have fin := K J1 ((k0 J).trans a1)
  rw [if_pos ⟨h1, h2, by omega, h4⟩] at fin
  have e1 := a2 s.toNat (by omega)
  have hl := lab40 (EH J known) (s := s.toNat) (by omega)
  generalize wyL J known 0 = L at fin a3 a4
  generalize labOf (EH J known) s.toNat = q at fin e1 hl
  have loop : ∀ (m c : Nat) (l : Int), c + m = 135 → 0 ≤ l → l ≤ 2147483647 → coF L q what m c l = coF L q what 135 0 i → V w 6 mX5_could 47 [some (vR 313), none, some (vI s), none, some (vI what), some (vI l), some (vI (c : Int)), none] [] S J1 Q := by
    intro m
    induction m with
    | zero =>
      intro c l hc _ _ he
      rw [← he] at fin
      exact gX5_could_47 hL s what l c (br_y (by omega) fin)
    | succ m ih =>
      intro c l hc hl0 hl1 he
      rw [coF] at he
      refine gX5_could_47 hL s what l c (br_n (by omega) ?_)
      rw [e1, show (136 * ((q : Nat) : Int) + (c : Int)).toNat = 136 * q + c by omega, a4 q c hl (by omega)]
      (repeat' (first | ((with_reducible refine And.intro ?_ ?_); omega)))
      refine br_i (fun z => ⟨by omega, ?_⟩) (fun z => br_i (fun z2 => br_i (fun z3 => ?_) (fun z3 => ?_)) (fun z2 => ⟨by omega, by omega, ?_⟩))
      · rw [if_pos (by omega)] at he
        exact ih (c + 1) l (by omega) hl0 hl1 he
      · rw [if_neg (by omega), if_pos z2, if_pos z3] at he
        rw [← he] at fin; exact fin
      · rw [if_neg (by omega), if_pos z2, if_neg z3] at he
        rw [← he] at fin; exact fin
      · rw [if_neg (by omega), if_neg z2] at he
        exact ih (c + 1) (l + (-1)) (by omega) (by omega) (by omega) he
  exact loop 135 0 i (by omega) (by omega) hi9 rfl
def igF (L : List Way) (cell : Nat) : Nat → Nat → Int
  | 0, _ => -1
  | m + 1, s => if 0 < L.length ∧ tlC L s cell = L.length then (s : Int) else igF L cell m (s + 1)
noncomputable def rInGrid (J : Jm) (known cell : Int) : Int := if kno J known ∧ (0 ≤ cell ∧ cell ≤ 134) then igF (wyL J known 0) cell.toNat 40 0 else -1
theorem m_inGrid {w : Wd} {S : Sh} {J : Jm} {Q : Out → Sh → Jm → Prop} (hL : Lay S) (known cell : Int) (h : MI0 J) (K : ∀ J', Kp J J' → Q (.inl (some (vI (rInGrid J known cell)))) S J') : V w 6 mX5_inGrid 0 (ent mX5_inGrid [vR 313, vI known, vI cell]) [] S J Q := by
  have hm := (k0 J).mp
  unfold rInGrid at K
  refine gX5_inGrid_0 hL known cell (br_i (fun h1 => br_i (fun h2 => ⟨h.mp hm, fun J1 hp => ?_⟩) (fun h2 => ?_)) (fun h1 => ?_))
  · obtain ⟨a1, a2, a3, a4⟩ := hp.mp h hm
    have fin := K J1 ((k0 J).trans a1)
    rw [if_pos ⟨h1, h2⟩] at fin
    obtain ⟨cell, rfl⟩ : ∃ m : Nat, cell = m := ⟨cell.toNat, by omega⟩
    rw [Int.toNat_natCast] at fin
    generalize wyL J known 0 = L at fin a3 a4
    have loop : ∀ (m s : Nat), s + m = 40 → igF L cell m s = igF L cell 40 0 → V w 6 mX5_inGrid 33 [some (vR 313), none, some (vI (cell : Int)), some (vI (s : Int))] [] S J1 Q := by
      intro m
      induction m with
      | zero =>
        intro s hs he
        rw [← he] at fin
        exact gX5_inGrid_33 hL (cell : Int) s (br_y (by omega) fin)
      | succ m ih =>
        intro s hs he
        rw [igF] at he
        refine gX5_inGrid_33 hL (cell : Int) s (br_n (by omega) ?_)
        rw [a3, show (((136 * s : Nat) : Int) + (cell : Int)).toNat = 136 * s + cell by omega, a4 s cell (by omega) (by omega)]
        refine br_i (fun q => ?_) (fun q => ?_)
        · have all0 : ∀ m s, igF L cell m s = -1 := by
            intro m
            induction m with
            | zero => intro s; rfl
            | succ m ihm => intro s; rw [igF, if_neg (fun z => by omega), ihm]
          rw [all0] at fin
          exact fin
        · (repeat' (first | ((with_reducible refine And.intro ?_ ?_); omega)))
          refine br_i (fun q2 => ?_) (fun q2 => ⟨by omega, ?_⟩)
          · rw [if_pos ⟨by omega, by omega⟩] at he
            rw [← he] at fin; exact fin
          · rw [if_neg (fun z => by omega)] at he
            exact ih (s + 1) (by omega) he
    exact loop 40 0 (by omega) rfl
  · have := K _ (k0 J)
    rw [if_neg (fun q => h2 q.2)] at this
    exact this
  · have := K _ (k0 J)
    rw [if_neg (fun q => h1 q.1)] at this
    exact this
