/-! the model: rules are read -/
set_option maxRecDepth 100000
theorem gX5_rules_0 {w : Wd} {S : Sh} {J : Jm} {Q : Out → Sh → Jm → Prop} (hL : Lay S) 
    (K : Br (J 313 8 = 10) (Q (.inl (some (vI (-1)))) S (up J 313 0 0)) ((MTape (up J 313 0 0)) ∧ (∀ (J1 : Jm), PNx (up (up (up J 313 0 0) 313 21 0) 313 17 0) 0 J1 → V w 6 mX5_rules 28 [some (vR 313), none, none] [] S (up J1 320 10 0) Q))) :
    V w 6 mX5_rules 0 (ent mX5_rules [vR 313]) [] S J Q := by
  show V w 6 mX5_rules 0 [some (vR 313), none, none] [] S J Q
  refine v_aload_n dX5_rules_0 rfl ?_
  refine v_iconst dX5_rules_1 (in_lit (by decide)) ?_
  refine v_putI dX5_rules_2 frX5_1_5 (fun _ _ _ h => by cases h; exact Or.inl rfl) rfl rfl zfit_int (L_313 hL).1 ?_
  show V w 6 mX5_rules 5 [some (vR 313), none, none] [] S (up J 313 0 0) Q
  refine v_aload_n dX5_rules_5 rfl ?_
  refine v_getI dX5_rules_6 frX5_282_5 rfl rfl (L_313 hL).1 ?_
  show V w 6 mX5_rules 9 [some (vR 313), none, none] [vI (J 313 8)] S (up J 313 0 0) Q
  refine v_bipush dX5_rules_9 (by decide) (in_lit (by decide)) ?_
  obtain ⟨K1, K2⟩ := K
  refine v_icmp_ne 16 dX5_rules_11 (by decide) (fun c1 => ?_) (fun c1 => ?_)
  · have K := K2 c1
    refine v_aload_n dX5_rules_16 rfl ?_
    refine v_callV (d' := 2) (rest := []) [] dX5_rules_17 vrX5_246_5 (L_313 hL).1 rfl rfl one_nil (Nat.le_of_ble_eq_true rfl) (Nat.le_of_ble_eq_true rfl) (Nat.le_of_ble_eq_true rfl) ?_
    obtain ⟨o1, K⟩ := K
    refine s_starts hL  o1 (fun J1 hp => ?_)
    have K := K J1 hp
    show V w 6 mX5_rules 20 [some (vR 313), none, none] [] S J1 Q
    refine v_aload_n dX5_rules_20 rfl ?_
    refine v_getR dX5_rules_21 frX5_32_5 rfl (L_313 hL).1 (LR_313_10 hL) (Or.inl rfl) ?_
    refine v_bipush dX5_rules_24 (by decide) (in_lit (by decide)) ?_
    refine v_iconst dX5_rules_26 (in_lit (by decide)) ?_
    refine st_320 dX5_rules_27 hL (by omega) (by decide) ?_
    show V w 6 mX5_rules 28 [some (vR 313), none, none] [] S (up J1 320 10 0) Q
    exact K
  · have K := K1 c1
    refine v_iconst dX5_rules_14 (in_lit (by decide)) ?_
    exact v_iret dX5_rules_15 rfl rfl K
theorem gX5_rules_28 {w : Wd} {S : Sh} {J : Jm} {Q : Out → Sh → Jm → Prop} (hL : Lay S) 
    (K : Br (J 313 21 = 0) (Br (J 313 19 = 0) ((0 ≤ J 313 21 ∧ J 313 21 ≤ 3) ∧ (∀ (r1 : Int) (J1 : Jm), PStop J r1 J1 → Br (0 ≤ r1) ((0 ≤ J1 313 8) ∧ (J1 313 8 < 11) ∧ V w 6 mX5_rules 78 [some (vR 313), none, some (vI 0)] [] S (up J1 320 (J1 313 8).toNat (J1 320 10)) Q) (Q (.inl (some (vI r1))) S J1))) (V w 5 mX5_readClause 0 (ent mX5_readClause [vR 313]) [] S J (CallQ w 6 mX5_rules 43 [some (vR 313), none, none] [] Q))) ((0 ≤ J 313 21 ∧ J 313 21 ≤ 3) ∧ (∀ (r2 : Int) (J2 : Jm), PStop J r2 J2 → Br (0 ≤ r2) ((0 ≤ J2 313 8) ∧ (J2 313 8 < 11) ∧ V w 6 mX5_rules 78 [some (vR 313), none, some (vI 0)] [] S (up J2 320 (J2 313 8).toNat (J2 320 10)) Q) (Q (.inl (some (vI r2))) S J2)))) :
    V w 6 mX5_rules 28 [some (vR 313), none, none] [] S J Q := by
  refine v_aload_n dX5_rules_28 rfl ?_
  refine v_callV (d' := 0) (rest := []) [] dX5_rules_29 vrX5_222_5 (L_313 hL).1 rfl rfl one_nil (Nat.le_of_ble_eq_true rfl) (Nat.le_of_ble_eq_true rfl) (Nat.le_of_ble_eq_true rfl) ?_
  obtain ⟨K1, K2⟩ := K
  refine sX5_isWell hL   (fun c1 => ?_) (fun c1 => ?_)
  · have K := K1 c1
    show V w 6 mX5_rules 32 [some (vR 313), none, none] [vI 1] S J Q
    refine v_if_eq 49 dX5_rules_32 (by decide) (fun cQ => absurd cQ (by decide)) (fun _ => ?_)
    refine v_aload_n dX5_rules_35 rfl ?_
    refine v_getI dX5_rules_36 frX5_189_5 rfl rfl (L_313 hL).1 ?_
    obtain ⟨K1, K2⟩ := K
    refine v_if_eq 49 dX5_rules_39 (by decide) (fun c2 => ?_) (fun c2 => ?_)
    · have K := K1 c2
      refine v_aload_n dX5_rules_49 rfl ?_
      refine v_callV (d' := 1) (rest := []) [] dX5_rules_50 vrX5_252_5 (L_313 hL).1 rfl rfl one_nil (Nat.le_of_ble_eq_true rfl) (Nat.le_of_ble_eq_true rfl) (Nat.le_of_ble_eq_true rfl) ?_
      obtain ⟨o1, K⟩ := K
      refine s_stops hL  o1 (fun r1 J1 hp => ?_)
      have K := K r1 J1 hp
      show V w 6 mX5_rules 53 [some (vR 313), none, none] [vI r1] S J1 Q
      refine v_istore_n dX5_rules_53 (Nat.le_of_ble_eq_true rfl) ?_
      show V w 6 mX5_rules 54 [some (vR 313), some (vI r1), none] [] S J1 Q
      refine v_iload_n dX5_rules_54 rfl ?_
      obtain ⟨K1, K2⟩ := K
      refine v_if_ge 60 dX5_rules_55 (by decide) (fun c3 => ?_) (fun c3 => ?_)
      · have K := K1 c3
        refine v_aload_n dX5_rules_60 rfl ?_
        refine v_getR dX5_rules_61 frX5_32_5 rfl (L_313 hL).1 (LR_313_10 hL) (Or.inl rfl) ?_
        refine v_aload_n dX5_rules_64 rfl ?_
        refine v_getI dX5_rules_65 frX5_282_5 rfl rfl (L_313 hL).1 ?_
        refine v_aload_n dX5_rules_68 rfl ?_
        refine v_getR dX5_rules_69 frX5_32_5 rfl (L_313 hL).1 (LR_313_10 hL) (Or.inl rfl) ?_
        refine v_bipush dX5_rules_72 (by decide) (in_lit (by decide)) ?_
        refine ld_320 dX5_rules_74 hL (by omega) (by decide) ?_
        show V w 6 mX5_rules 75 [some (vR 313), some (vI r1), none] [vI (J1 320 10), vI (J1 313 8), vR 320] S J1 Q
        obtain ⟨o2, K⟩ := K
        obtain ⟨o3, K⟩ := K
        refine st_320 dX5_rules_75 hL o2 o3 ?_
        show V w 6 mX5_rules 76 [some (vR 313), some (vI r1), none] [] S (up J1 320 (J1 313 8).toNat (J1 320 10)) Q
        refine v_iconst dX5_rules_76 (in_lit (by decide)) ?_
        refine v_istore_n dX5_rules_77 (Nat.le_of_ble_eq_true rfl) ?_
        show V w 6 mX5_rules 78 [some (vR 313), some (vI r1), some (vI 0)] [] S (up J1 320 (J1 313 8).toNat (J1 320 10)) Q
        exact v_forget (fg_some (fg_none (fg_some fg_nil))) K
      · have K := K2 c3
        refine v_iload_n dX5_rules_58 rfl ?_
        exact v_iret dX5_rules_59 rfl rfl K
    · have K := K2 c2
      refine v_aload_n dX5_rules_42 rfl ?_
      refine v_callV (d' := 5) (rest := []) [] dX5_rules_43 vrX5_285_5 (L_313 hL).1 rfl rfl one_nil (Nat.le_of_ble_eq_true rfl) (Nat.le_of_ble_eq_true rfl) (Nat.le_of_ble_eq_true rfl) ?_
      exact K
  · have K := K2 c1
    show V w 6 mX5_rules 32 [some (vR 313), none, none] [vI 0] S J Q
    refine v_if_eq 49 dX5_rules_32 (by decide) (fun _ => ?_) (fun cQ => absurd cQ (by decide))
    refine v_aload_n dX5_rules_49 rfl ?_
    refine v_callV (d' := 1) (rest := []) [] dX5_rules_50 vrX5_252_5 (L_313 hL).1 rfl rfl one_nil (Nat.le_of_ble_eq_true rfl) (Nat.le_of_ble_eq_true rfl) (Nat.le_of_ble_eq_true rfl) ?_
    obtain ⟨o4, K⟩ := K
    refine s_stops hL  o4 (fun r2 J2 hp => ?_)
    have K := K r2 J2 hp
    show V w 6 mX5_rules 53 [some (vR 313), none, none] [vI r2] S J2 Q
    refine v_istore_n dX5_rules_53 (Nat.le_of_ble_eq_true rfl) ?_
    show V w 6 mX5_rules 54 [some (vR 313), some (vI r2), none] [] S J2 Q
    refine v_iload_n dX5_rules_54 rfl ?_
    obtain ⟨K1, K2⟩ := K
    refine v_if_ge 60 dX5_rules_55 (by decide) (fun c4 => ?_) (fun c4 => ?_)
    · have K := K1 c4
      refine v_aload_n dX5_rules_60 rfl ?_
      refine v_getR dX5_rules_61 frX5_32_5 rfl (L_313 hL).1 (LR_313_10 hL) (Or.inl rfl) ?_
      refine v_aload_n dX5_rules_64 rfl ?_
      refine v_getI dX5_rules_65 frX5_282_5 rfl rfl (L_313 hL).1 ?_
      refine v_aload_n dX5_rules_68 rfl ?_
      refine v_getR dX5_rules_69 frX5_32_5 rfl (L_313 hL).1 (LR_313_10 hL) (Or.inl rfl) ?_
      refine v_bipush dX5_rules_72 (by decide) (in_lit (by decide)) ?_
      refine ld_320 dX5_rules_74 hL (by omega) (by decide) ?_
      show V w 6 mX5_rules 75 [some (vR 313), some (vI r2), none] [vI (J2 320 10), vI (J2 313 8), vR 320] S J2 Q
      obtain ⟨o5, K⟩ := K
      obtain ⟨o6, K⟩ := K
      refine st_320 dX5_rules_75 hL o5 o6 ?_
      show V w 6 mX5_rules 76 [some (vR 313), some (vI r2), none] [] S (up J2 320 (J2 313 8).toNat (J2 320 10)) Q
      refine v_iconst dX5_rules_76 (in_lit (by decide)) ?_
      refine v_istore_n dX5_rules_77 (Nat.le_of_ble_eq_true rfl) ?_
      show V w 6 mX5_rules 78 [some (vR 313), some (vI r2), some (vI 0)] [] S (up J2 320 (J2 313 8).toNat (J2 320 10)) Q
      exact v_forget (fg_some (fg_none (fg_some fg_nil))) K
    · have K := K2 c4
      refine v_iload_n dX5_rules_58 rfl ?_
      exact v_iret dX5_rules_59 rfl rfl K
theorem gX5_rules_78 {w : Wd} {S : Sh} {J : Jm} {Q : Out → Sh → Jm → Prop} (hL : Lay S) (k : Nat)
    (K : Br (12 ≤ ((k : Nat) : Int)) ((0 ≤ J 313 8) ∧ (J 313 8 < 10) ∧ (-2147483648 ≤ (J 313 8) + 1 ∧ (J 313 8) + 1 ≤ 2147483647) ∧ (-2147483648 ≤ ((J 313 8) + 1) - 1 ∧ ((J 313 8) + 1) - 1 ≤ 2147483647) ∧ (0 ≤ ((J 313 8) + 1) - 1) ∧ (((J 313 8) + 1) - 1 < 11) ∧ Q (.inl (some (vI (J 320 (((J 313 8) + 1) - 1).toNat)))) S (up (up J 319 (J 313 8).toNat (J 313 1)) 313 8 ((J 313 8) + 1))) ((-2147483648 ≤ 12 * (J 313 8) ∧ 12 * (J 313 8) ≤ 2147483647) ∧ (-2147483648 ≤ (12 * (J 313 8)) + ((k : Nat) : Int) ∧ (12 * (J 313 8)) + ((k : Nat) : Int) ≤ 2147483647) ∧ (-2147483648 ≤ 120 + ((k : Nat) : Int) ∧ 120 + ((k : Nat) : Int) ≤ 2147483647) ∧ (((120 + k : Nat) : Int) < 132) ∧ (0 ≤ (12 * (J 313 8)) + ((k : Nat) : Int)) ∧ ((12 * (J 313 8)) + ((k : Nat) : Int) < 132) ∧ (-2147483648 ≤ ((k : Nat) : Int) + 1 ∧ ((k : Nat) : Int) + 1 ≤ 2147483647) ∧ V w 6 mX5_rules 78 [some (vR 313), none, some (vI ((k + 1 : Nat) : Int))] [] S (up (up (up (up J 321 ((12 * (J 313 8)) + ((k : Nat) : Int)).toNat (J 321 (120 + k))) 322 ((12 * (J 313 8)) + ((k : Nat) : Int)).toNat (J 322 (120 + k))) 323 ((12 * (J 313 8)) + ((k : Nat) : Int)).toNat (J 323 (120 + k))) 324 ((12 * (J 313 8)) + ((k : Nat) : Int)).toNat (J 324 (120 + k))) Q)) :
    V w 6 mX5_rules 78 [some (vR 313), none, some (vI ((k : Nat) : Int))] [] S J Q := by
  refine v_iload_n dX5_rules_78 rfl ?_
  refine v_bipush dX5_rules_79 (by decide) (in_lit (by decide)) ?_
  obtain ⟨K1, K2⟩ := K
  refine v_icmp_ge 182 dX5_rules_81 (by decide) (fun c1 => ?_) (fun c1 => ?_)
  · have K := K1 c1
    refine v_aload_n dX5_rules_182 rfl ?_
    refine v_getR dX5_rules_183 frX5_29_5 rfl (L_313 hL).1 (LR_313_9 hL) (Or.inl rfl) ?_
    refine v_aload_n dX5_rules_186 rfl ?_
    refine v_getI dX5_rules_187 frX5_282_5 rfl rfl (L_313 hL).1 ?_
    refine v_aload_n dX5_rules_190 rfl ?_
    refine v_getI dX5_rules_191 frX5_173_5 rfl rfl (L_313 hL).1 ?_
    obtain ⟨o1, K⟩ := K
    obtain ⟨o2, K⟩ := K
    refine st_319 dX5_rules_194 hL o1 o2 ?_
    show V w 6 mX5_rules 195 [some (vR 313), none, some (vI ((k : Nat) : Int))] [] S (up J 319 (J 313 8).toNat (J 313 1)) Q
    refine v_aload_n dX5_rules_195 rfl ?_
    refine v_dup dX5_rules_196 trivial ?_
    refine v_getI dX5_rules_197 frX5_282_5 rfl rfl (L_313 hL).1 ?_
    show V w 6 mX5_rules 200 [some (vR 313), none, some (vI ((k : Nat) : Int))] [vI (J 313 8), vR 313] S (up J 319 (J 313 8).toNat (J 313 1)) Q
    refine v_iconst dX5_rules_200 (in_lit (by decide)) ?_
    obtain ⟨o3, K⟩ := K
    refine v_iadd dX5_rules_201 o3 ?_
    refine v_putI dX5_rules_202 frX5_282_5 (fun _ _ _ h => by cases h; exact Or.inl rfl) rfl rfl zfit_int (L_313 hL).1 ?_
    show V w 6 mX5_rules 205 [some (vR 313), none, some (vI ((k : Nat) : Int))] [] S (up (up J 319 (J 313 8).toNat (J 313 1)) 313 8 ((J 313 8) + 1)) Q
    refine v_aload_n dX5_rules_205 rfl ?_
    refine v_getR dX5_rules_206 frX5_32_5 rfl (L_313 hL).1 (LR_313_10 hL) (Or.inl rfl) ?_
    refine v_aload_n dX5_rules_209 rfl ?_
    refine v_getI dX5_rules_210 frX5_282_5 rfl rfl (L_313 hL).1 ?_
    show V w 6 mX5_rules 213 [some (vR 313), none, some (vI ((k : Nat) : Int))] [vI ((J 313 8) + 1), vR 320] S (up (up J 319 (J 313 8).toNat (J 313 1)) 313 8 ((J 313 8) + 1)) Q
    refine v_iconst dX5_rules_213 (in_lit (by decide)) ?_
    obtain ⟨o4, K⟩ := K
    refine v_isub dX5_rules_214 o4 ?_
    obtain ⟨o5, K⟩ := K
    obtain ⟨o6, K⟩ := K
    refine ld_320 dX5_rules_215 hL o5 o6 ?_
    show V w 6 mX5_rules 216 [some (vR 313), none, some (vI ((k : Nat) : Int))] [vI (J 320 (((J 313 8) + 1) - 1).toNat)] S (up (up J 319 (J 313 8).toNat (J 313 1)) 313 8 ((J 313 8) + 1)) Q
    exact v_iret dX5_rules_216 rfl rfl K
  · have K := K2 c1
    refine v_aload_n dX5_rules_84 rfl ?_
    refine v_getR dX5_rules_85 frX5_35_5 rfl (L_313 hL).1 (LR_313_11 hL) (Or.inl rfl) ?_
    refine v_bipush dX5_rules_88 (by decide) (in_lit (by decide)) ?_
    refine v_aload_n dX5_rules_90 rfl ?_
    refine v_getI dX5_rules_91 frX5_282_5 rfl rfl (L_313 hL).1 ?_
    obtain ⟨o7, K⟩ := K
    refine v_imul dX5_rules_94 o7 ?_
    refine v_iload_n dX5_rules_95 rfl ?_
    obtain ⟨o8, K⟩ := K
    refine v_iadd dX5_rules_96 o8 ?_
    refine v_aload_n dX5_rules_97 rfl ?_
    refine v_getR dX5_rules_98 frX5_35_5 rfl (L_313 hL).1 (LR_313_11 hL) (Or.inl rfl) ?_
    refine v_bipush dX5_rules_101 (by decide) (in_lit (by decide)) ?_
    refine v_iload_n dX5_rules_103 rfl ?_
    obtain ⟨o9, K⟩ := K
    refine v_iadd dX5_rules_104 o9 ?_
    show V w 6 mX5_rules 105 [some (vR 313), none, some (vI ((k : Nat) : Int))] [vI ((120 + k : Nat) : Int), vR 321, vI ((12 * (J 313 8)) + ((k : Nat) : Int)), vR 321] S J Q
    obtain ⟨o10, K⟩ := K
    refine ld_321 dX5_rules_105 hL (by omega) o10 ?_
    show V w 6 mX5_rules 106 [some (vR 313), none, some (vI ((k : Nat) : Int))] [vI (J 321 (120 + k)), vI ((12 * (J 313 8)) + ((k : Nat) : Int)), vR 321] S J Q
    obtain ⟨o11, K⟩ := K
    obtain ⟨o12, K⟩ := K
    refine st_321 dX5_rules_106 hL o11 o12 ?_
    show V w 6 mX5_rules 107 [some (vR 313), none, some (vI ((k : Nat) : Int))] [] S (up J 321 ((12 * (J 313 8)) + ((k : Nat) : Int)).toNat (J 321 (120 + k))) Q
    refine v_aload_n dX5_rules_107 rfl ?_
    refine v_getR dX5_rules_108 frX5_38_5 rfl (L_313 hL).1 (LR_313_12 hL) (Or.inl rfl) ?_
    refine v_bipush dX5_rules_111 (by decide) (in_lit (by decide)) ?_
    refine v_aload_n dX5_rules_113 rfl ?_
    refine v_getI dX5_rules_114 frX5_282_5 rfl rfl (L_313 hL).1 ?_
    show V w 6 mX5_rules 117 [some (vR 313), none, some (vI ((k : Nat) : Int))] [vI (J 313 8), vI 12, vR 322] S (up J 321 ((12 * (J 313 8)) + ((k : Nat) : Int)).toNat (J 321 (120 + k))) Q
    refine v_imul dX5_rules_117 o7 ?_
    refine v_iload_n dX5_rules_118 rfl ?_
    refine v_iadd dX5_rules_119 o8 ?_
    refine v_aload_n dX5_rules_120 rfl ?_
    refine v_getR dX5_rules_121 frX5_38_5 rfl (L_313 hL).1 (LR_313_12 hL) (Or.inl rfl) ?_
    refine v_bipush dX5_rules_124 (by decide) (in_lit (by decide)) ?_
    refine v_iload_n dX5_rules_126 rfl ?_
    refine v_iadd dX5_rules_127 o9 ?_
    show V w 6 mX5_rules 128 [some (vR 313), none, some (vI ((k : Nat) : Int))] [vI ((120 + k : Nat) : Int), vR 322, vI ((12 * (J 313 8)) + ((k : Nat) : Int)), vR 322] S (up J 321 ((12 * (J 313 8)) + ((k : Nat) : Int)).toNat (J 321 (120 + k))) Q
    refine ld_322 dX5_rules_128 hL (by omega) o10 ?_
    show V w 6 mX5_rules 129 [some (vR 313), none, some (vI ((k : Nat) : Int))] [vI (J 322 (120 + k)), vI ((12 * (J 313 8)) + ((k : Nat) : Int)), vR 322] S (up J 321 ((12 * (J 313 8)) + ((k : Nat) : Int)).toNat (J 321 (120 + k))) Q
    refine st_322 dX5_rules_129 hL o11 o12 ?_
    show V w 6 mX5_rules 130 [some (vR 313), none, some (vI ((k : Nat) : Int))] [] S (up (up J 321 ((12 * (J 313 8)) + ((k : Nat) : Int)).toNat (J 321 (120 + k))) 322 ((12 * (J 313 8)) + ((k : Nat) : Int)).toNat (J 322 (120 + k))) Q
    refine v_aload_n dX5_rules_130 rfl ?_
    refine v_getR dX5_rules_131 frX5_41_5 rfl (L_313 hL).1 (LR_313_13 hL) (Or.inl rfl) ?_
    refine v_bipush dX5_rules_134 (by decide) (in_lit (by decide)) ?_
    refine v_aload_n dX5_rules_136 rfl ?_
    refine v_getI dX5_rules_137 frX5_282_5 rfl rfl (L_313 hL).1 ?_
    show V w 6 mX5_rules 140 [some (vR 313), none, some (vI ((k : Nat) : Int))] [vI (J 313 8), vI 12, vR 323] S (up (up J 321 ((12 * (J 313 8)) + ((k : Nat) : Int)).toNat (J 321 (120 + k))) 322 ((12 * (J 313 8)) + ((k : Nat) : Int)).toNat (J 322 (120 + k))) Q
    refine v_imul dX5_rules_140 o7 ?_
    refine v_iload_n dX5_rules_141 rfl ?_
    refine v_iadd dX5_rules_142 o8 ?_
    refine v_aload_n dX5_rules_143 rfl ?_
    refine v_getR dX5_rules_144 frX5_41_5 rfl (L_313 hL).1 (LR_313_13 hL) (Or.inl rfl) ?_
    refine v_bipush dX5_rules_147 (by decide) (in_lit (by decide)) ?_
    refine v_iload_n dX5_rules_149 rfl ?_
    refine v_iadd dX5_rules_150 o9 ?_
    show V w 6 mX5_rules 151 [some (vR 313), none, some (vI ((k : Nat) : Int))] [vI ((120 + k : Nat) : Int), vR 323, vI ((12 * (J 313 8)) + ((k : Nat) : Int)), vR 323] S (up (up J 321 ((12 * (J 313 8)) + ((k : Nat) : Int)).toNat (J 321 (120 + k))) 322 ((12 * (J 313 8)) + ((k : Nat) : Int)).toNat (J 322 (120 + k))) Q
    refine ld_323 dX5_rules_151 hL (by omega) o10 ?_
    show V w 6 mX5_rules 152 [some (vR 313), none, some (vI ((k : Nat) : Int))] [vI (J 323 (120 + k)), vI ((12 * (J 313 8)) + ((k : Nat) : Int)), vR 323] S (up (up J 321 ((12 * (J 313 8)) + ((k : Nat) : Int)).toNat (J 321 (120 + k))) 322 ((12 * (J 313 8)) + ((k : Nat) : Int)).toNat (J 322 (120 + k))) Q
    refine st_323 dX5_rules_152 hL o11 o12 ?_
    show V w 6 mX5_rules 153 [some (vR 313), none, some (vI ((k : Nat) : Int))] [] S (up (up (up J 321 ((12 * (J 313 8)) + ((k : Nat) : Int)).toNat (J 321 (120 + k))) 322 ((12 * (J 313 8)) + ((k : Nat) : Int)).toNat (J 322 (120 + k))) 323 ((12 * (J 313 8)) + ((k : Nat) : Int)).toNat (J 323 (120 + k))) Q
    refine v_aload_n dX5_rules_153 rfl ?_
    refine v_getR dX5_rules_154 frX5_44_5 rfl (L_313 hL).1 (LR_313_14 hL) (Or.inl rfl) ?_
    refine v_bipush dX5_rules_157 (by decide) (in_lit (by decide)) ?_
    refine v_aload_n dX5_rules_159 rfl ?_
    refine v_getI dX5_rules_160 frX5_282_5 rfl rfl (L_313 hL).1 ?_
    show V w 6 mX5_rules 163 [some (vR 313), none, some (vI ((k : Nat) : Int))] [vI (J 313 8), vI 12, vR 324] S (up (up (up J 321 ((12 * (J 313 8)) + ((k : Nat) : Int)).toNat (J 321 (120 + k))) 322 ((12 * (J 313 8)) + ((k : Nat) : Int)).toNat (J 322 (120 + k))) 323 ((12 * (J 313 8)) + ((k : Nat) : Int)).toNat (J 323 (120 + k))) Q
    refine v_imul dX5_rules_163 o7 ?_
    refine v_iload_n dX5_rules_164 rfl ?_
    refine v_iadd dX5_rules_165 o8 ?_
    refine v_aload_n dX5_rules_166 rfl ?_
    refine v_getR dX5_rules_167 frX5_44_5 rfl (L_313 hL).1 (LR_313_14 hL) (Or.inl rfl) ?_
    refine v_bipush dX5_rules_170 (by decide) (in_lit (by decide)) ?_
    refine v_iload_n dX5_rules_172 rfl ?_
    refine v_iadd dX5_rules_173 o9 ?_
    show V w 6 mX5_rules 174 [some (vR 313), none, some (vI ((k : Nat) : Int))] [vI ((120 + k : Nat) : Int), vR 324, vI ((12 * (J 313 8)) + ((k : Nat) : Int)), vR 324] S (up (up (up J 321 ((12 * (J 313 8)) + ((k : Nat) : Int)).toNat (J 321 (120 + k))) 322 ((12 * (J 313 8)) + ((k : Nat) : Int)).toNat (J 322 (120 + k))) 323 ((12 * (J 313 8)) + ((k : Nat) : Int)).toNat (J 323 (120 + k))) Q
    refine ld_324 dX5_rules_174 hL (by omega) o10 ?_
    show V w 6 mX5_rules 175 [some (vR 313), none, some (vI ((k : Nat) : Int))] [vI (J 324 (120 + k)), vI ((12 * (J 313 8)) + ((k : Nat) : Int)), vR 324] S (up (up (up J 321 ((12 * (J 313 8)) + ((k : Nat) : Int)).toNat (J 321 (120 + k))) 322 ((12 * (J 313 8)) + ((k : Nat) : Int)).toNat (J 322 (120 + k))) 323 ((12 * (J 313 8)) + ((k : Nat) : Int)).toNat (J 323 (120 + k))) Q
    refine st_324 dX5_rules_175 hL o11 o12 ?_
    show V w 6 mX5_rules 176 [some (vR 313), none, some (vI ((k : Nat) : Int))] [] S (up (up (up (up J 321 ((12 * (J 313 8)) + ((k : Nat) : Int)).toNat (J 321 (120 + k))) 322 ((12 * (J 313 8)) + ((k : Nat) : Int)).toNat (J 322 (120 + k))) 323 ((12 * (J 313 8)) + ((k : Nat) : Int)).toNat (J 323 (120 + k))) 324 ((12 * (J 313 8)) + ((k : Nat) : Int)).toNat (J 324 (120 + k))) Q
    obtain ⟨o13, K⟩ := K
    refine v_iinc dX5_rules_176 rfl o13 ?_
    show V w 6 mX5_rules 179 [some (vR 313), none, some (vI ((k + 1 : Nat) : Int))] [] S (up (up (up (up J 321 ((12 * (J 313 8)) + ((k : Nat) : Int)).toNat (J 321 (120 + k))) 322 ((12 * (J 313 8)) + ((k : Nat) : Int)).toNat (J 322 (120 + k))) 323 ((12 * (J 313 8)) + ((k : Nat) : Int)).toNat (J 323 (120 + k))) 324 ((12 * (J 313 8)) + ((k : Nat) : Int)).toNat (J 324 (120 + k))) Q
    refine v_goto 78 dX5_rules_179 (by decide) ?_
    exact K
theorem gX5_rules_46 {w : Wd} {S : Sh} {J : Jm} {Q : Out → Sh → Jm → Prop} (hL : Lay S) 
    (K : V w 6 mX5_rules 28 [some (vR 313), none, none] [] S J Q) :
    V w 6 mX5_rules 46 [some (vR 313), none, none] [] S J Q := by
  refine v_goto 28 dX5_rules_46 (by decide) ?_
  exact K

theorem numR_ok {J : Jm} {c : Nat} {lo hi : Int} {k : Int → ClR} {x : (Int × Int × Int × Int) × Nat} (h : numR J c lo hi k = .inr x) : (lo ≤ tV J c ∧ tV J c ≤ hi) ∧ k (tV J c) = .inr x := by
  unfold numR at h
  split at h
  · split at h
    · rename_i q; exact ⟨q, h⟩
    · cases h
  · cases h
theorem letR_ok {J : Jm} {c : Nat} {k : Int → ClR} {x : (Int × Int × Int × Int) × Nat} (h : letR J c k = .inr x) : tK J c = 3 ∧ k (tV J c) = .inr x := by
  unfold letR at h
  split at h
  · rename_i q; exact ⟨q.1, h⟩
  · cases h
theorem semR_ok {J : Jm} {e : Nat} {cl : Int × Int × Int × Int} {x : (Int × Int × Int × Int) × Nat} (h : semR J e cl = .inr x) : x.1 = cl := by
  unfold semR at h
  split at h
  · cases h; rfl
  · cases h
theorem tV_let {J : Jm} {c : Nat} (h : tK J c = 3) : 97 ≤ tV J c ∧ tV J c ≤ 122 := by
  unfold tK tkK at h
  unfold tV tkV
  generalize tP J c = p at h
  split at h
  · cases h
  · split at h
    · rename_i q
      have := smB_i.mp q
      rw [if_neg (fun q => by have := dgB_i.mp q; omega)]
      exact this
    · split at h
      · split at h <;> cases h
      · cases h
/-- a clause as it may be read -/
def clOk (cl : Int × Int × Int × Int) : Prop := (0 ≤ cl.1 ∧ cl.1 ≤ 3) ∧ (cl.1 < 2 → (0 ≤ cl.2.1 ∧ cl.2.1 ≤ 7) ∧ (2 ≤ cl.2.2.1 ∧ cl.2.2.1 ≤ 6) ∧ 1 ≤ cl.2.2.2 ∧ cl.2.2.2 ≤ 99) ∧ (2 ≤ cl.1 → 97 ≤ cl.2.1 ∧ cl.2.1 ≤ 122) ∧ (cl.1 = 2 → 97 ≤ cl.2.2.1 ∧ cl.2.2.1 ≤ 122)
theorem cntR_ok {J : Jm} {d : Nat} {so wh le : Int} {x : (Int × Int × Int × Int) × Nat} (h : cntR J d so wh le = .inr x) : x.1.1 = so ∧ x.1.2.1 = wh ∧ x.1.2.2.1 = le ∧ 1 ≤ x.1.2.2.2 ∧ x.1.2.2.2 ≤ 99 := by
  unfold cntR at h
  split at h
  · obtain ⟨h1, h2⟩ := numR_ok h
    rw [semR_ok h2]
    exact ⟨rfl, rfl, rfl, h1⟩
  · rw [semR_ok h]
    exact ⟨rfl, rfl, rfl, (show (1 : Int) ≤ 1 by decide), (show (1 : Int) ≤ 99 by decide)⟩
theorem lenR_ok {J : Jm} {d : Nat} {so wh : Int} {x : (Int × Int × Int × Int) × Nat} (h : lenR J d so wh = .inr x) : x.1.1 = so ∧ x.1.2.1 = wh ∧ (2 ≤ x.1.2.2.1 ∧ x.1.2.2.1 ≤ 6) ∧ 1 ≤ x.1.2.2.2 ∧ x.1.2.2.2 ≤ 99 := by
  unfold lenR at h
  split at h
  · obtain ⟨h1, h2⟩ := numR_ok h
    obtain ⟨a1, a2, a3, a4⟩ := cntR_ok h2
    exact ⟨a1, a2, by omega, a4⟩
  · obtain ⟨a1, a2, a3, a4⟩ := cntR_ok h
    exact ⟨a1, a2, by omega, a4⟩
theorem whR_ok {J : Jm} {b : Nat} {so : Int} {x : (Int × Int × Int × Int) × Nat} (hso : so = 0 ∨ so = 1) (h : whR J b so = .inr x) : clOk x.1 := by
  have key : ∀ d wh, (0 ≤ wh ∧ wh ≤ 7) → lenR J d so wh = .inr x → clOk x.1 := by
    intro d wh hw h
    obtain ⟨a1, a2, a3, a4⟩ := lenR_ok h
    refine ⟨by omega, fun _ => ⟨by omega, a3, a4⟩, fun q => by omega, fun q => by omega⟩
  unfold whR at h
  split at h
  · exact key _ _ (by omega) h
  · split at h
    · exact key _ _ (by omega) h
    · obtain ⟨h1, h2⟩ := numR_ok h
      exact key _ _ (by omega) h2
theorem drpR_ok {J : Jm} {b : Nat} {x : (Int × Int × Int × Int) × Nat} (h : drpR J b = .inr x) : clOk x.1 := by
  unfold drpR at h
  obtain ⟨h1, h2⟩ := letR_ok h
  have hv := tV_let h1
  split at h2
  · rw [semR_ok h2]
    exact ⟨⟨(show (0 : Int) ≤ 3 by decide), (show (3 : Int) ≤ 3 by decide)⟩, fun q => absurd q (show ¬ (3 : Int) < 2 by decide), fun _ => hv, fun q => absurd q (show ¬ (3 : Int) = 2 by decide)⟩
  · cases h2
theorem wrtR_ok {J : Jm} {b : Nat} {x : (Int × Int × Int × Int) × Nat} (h : wrtR J b = .inr x) : clOk x.1 := by
  unfold wrtR at h
  obtain ⟨h1, h2⟩ := letR_ok h
  have hv := tV_let h1
  split at h2
  · obtain ⟨h3, h4⟩ := letR_ok h2
    have hu := tV_let h3
    split at h4
    · rw [semR_ok h4]
      exact ⟨⟨(show (0 : Int) ≤ 2 by decide), (show (2 : Int) ≤ 3 by decide)⟩, fun q => absurd q (show ¬ (2 : Int) < 2 by decide), fun _ => hv, fun _ => hu⟩
    · cases h4
  · cases h2
theorem pCl_ok {J : Jm} {a n : Nat} {x : (Int × Int × Int × Int) × Nat} (h : pCl J a n = .inr x) : clOk x.1 ∧ n ≠ 12 := by
  unfold pCl at h
  split at h
  · split at h
    · cases h
    · exact ⟨whR_ok (Or.inl rfl) h, by assumption⟩
  · split at h
    · split at h
      · cases h
      · exact ⟨whR_ok (Or.inr rfl) h, by assumption⟩
    · split at h
      · split at h
        · cases h
        · exact ⟨wrtR_ok h, by assumption⟩
      · split at h
        · split at h
          · cases h
          · exact ⟨drpR_ok h, by assumption⟩
        · cases h
theorem tW_mp {J J' : Jm} (h : Mp J J') (a : Nat) (bs : List Int) : tW J' a bs ↔ tW J a bs := by
  unfold tW
  rw [tK_mp h, tE_mp h, tP_mp h]
  simp only [h 325 _ rfl]
theorem ite_iff {α : Type} {p q : Prop} {d1 : Decidable p} {d2 : Decidable q} (h : p ↔ q) {x y : α} : (@ite α p d1 x y) = (@ite α q d2 x y) := by
  by_cases hq : q
  · rw [if_pos hq, if_pos (h.mpr hq)]
  · rw [if_neg hq, if_neg (fun z => hq (h.mp z))]
theorem ite_c3 {α : Type} {p q : Prop} {d1 : Decidable p} {d2 : Decidable q} (h : p ↔ q) {x y x' y' : α} (hx : x = x') (hy : y = y') : (@ite α p d1 x y) = (@ite α q d2 x' y') := by
  rw [hx, hy]
  exact ite_iff h
theorem pCl_mp {J J' : Jm} (h : Mp J J') (a n : Nat) : pCl J' a n = pCl J a n := by
  have e1 := tK_mp h
  have e2 := tV_mp h
  have e3 := tE_mp h
  have e4 := tP_mp h
  have s1 : ∀ e cl, semR J' e cl = semR J e cl := fun e cl => by unfold semR; rw [e1, e2, e3, e4]
  have n1 : ∀ c lo hi (k k' : Int → ClR), (∀ v, k v = k' v) → numR J' c lo hi k = numR J c lo hi k' := fun c lo hi k k' hk => by unfold numR; rw [e1, e2, e4, hk]
  have l1 : ∀ c (k k' : Int → ClR), (∀ v, k v = k' v) → letR J' c k = letR J c k' := fun c k k' hk => by unfold letR; rw [e1, e2, e3, e4, hk]
  have c1 : ∀ d so wh le, cntR J' d so wh le = cntR J d so wh le := fun d so wh le => by
    unfold cntR
    exact ite_c3 (tW_mp h _ _) (by rw [e3]; exact n1 _ _ _ _ _ (fun v => s1 _ _)) (s1 _ _)
  have g1 : ∀ d so wh, lenR J' d so wh = lenR J d so wh := fun d so wh => by
    unfold lenR
    exact ite_c3 (tW_mp h _ _) (by rw [e3]; exact n1 _ _ _ _ _ (fun v => c1 _ _ _ _)) (c1 _ _ _ _)
  have w1 : ∀ b so, whR J' b so = whR J b so := fun b so => by
    unfold whR
    exact ite_c3 (tW_mp h _ _) (by rw [e3]; exact g1 _ _ _) (ite_c3 (tW_mp h _ _) (by rw [e3]; exact g1 _ _ _) (by rw [e3]; exact n1 _ _ _ _ _ (fun v => g1 _ _ _)))
  have d1 : ∀ b, drpR J' b = drpR J b := fun b => by
    unfold drpR
    rw [e3, e4]
    exact l1 _ _ _ (fun v => by rw [s1])
  have r1 : ∀ b, wrtR J' b = wrtR J b := fun b => by
    unfold wrtR
    exact l1 _ _ _ (fun v => ite_c3 (by rw [e3]; exact tW_mp h _ _) (by rw [e3, e4]; exact l1 _ _ _ (fun u => by rw [s1])) (by rw [e3, e4]))
  unfold pCl
  exact ite_c3 (tW_mp h _ _) (by rw [e3, e4, w1]) (ite_c3 (tW_mp h _ _) (by rw [e3, e4, w1]) (ite_c3 (tW_mp h _ _) (by rw [e3, e4, r1]) (ite_c3 (tW_mp h _ _) (by rw [e3, e4, d1]) (by rw [e4]))))
/-- rules from the token at a on, behind the clauses cs -/
def pRul (J : Jm) : Nat → Nat → List (Int × Int × Int × Int) → (Int × Nat) ⊕ List (Int × Int × Int × Int)
  | 0, a, _ => .inl (1, a)
  | f + 1, a, cs => if tK J a = 0 then .inr cs else match pCl J a cs.length with
    | .inl e => .inl e
    | .inr (cl, b) => pRul J f b (cs ++ [cl])
abbrev cl0 : Int × Int × Int × Int := (0, 0, 0, 0)
def RdC (J : Jm) (cs : List (Int × Int × Int × Int)) : Prop := J 320 10 = (cs.length : Nat) ∧ ∀ k, k < cs.length → ClAt J (120 + k) (cs.getD k cl0)
def csOk (cs : List (Int × Int × Int × Int)) : Prop := cs.length ≤ 12 ∧ ∀ k, k < cs.length → clOk (cs.getD k cl0)
def TxtAt (J : Jm) (t : Nat) (cs : List (Int × Int × Int × Int)) : Prop := J 320 t = (cs.length : Nat) ∧ ∀ k, k < cs.length → ClAt J (12 * t + k) (cs.getD k cl0)
def ruF (J J' : Jm) (t : Nat) : Prop := ∀ b k, scr b k = false → ¬ (b = 313 ∧ (k = 8 ∨ k = 16 ∨ k = 23)) → ¬ ((b = 320 ∨ b = 319) ∧ k = t) → ¬ ((b = 321 ∨ b = 322 ∨ b = 323 ∨ b = 324) ∧ 12 * t ≤ k ∧ k < 12 * t + 12) → J' b k = J b k
def TxtNew (J J' : Jm) (cs : List (Int × Int × Int × Int)) : Prop := J' 313 16 = 0 ∧ J' 313 23 = -1 ∧ J' 313 8 = J 313 8 + 1 ∧ ruF J J' (J 313 8).toNat ∧ TxtAt J' (J 313 8).toNat cs ∧ J' 319 (J 313 8).toNat = J 313 1
theorem m_rules {w : Wd} {S : Sh} {J : Jm} {Q : Out → Sh → Jm → Prop} (hL : Lay S) (hT : MTape J) (ht : 0 ≤ J 313 8 ∧ J 313 8 ≤ 10)
    (K0 : J 313 8 = 10 → ∀ J', Kp J J' → Q (.inl (some (vI (-1)))) S J')
    (K1 : J 313 8 ≠ 10 → ∀ k p J', pRul J 302 0 [] = .inl (k, p) → txF J J' (p : Nat) → Q (.inl (some (vI (-1 - k)))) S J')
    (K2 : J 313 8 ≠ 10 → ∀ cs J', pRul J 302 0 [] = .inr cs → csOk cs → TxtNew J J' cs → Q (.inl (some (vI (cs.length : Nat)))) S J') : V w 6 mX5_rules 0 (ent mX5_rules [vR 313]) [] S J Q := by
  obtain ⟨t, et⟩ : ∃ t : Nat, J 313 8 = t := ⟨(J 313 8).toNat, by omega⟩
  rw [et] at ht K0 K1 K2
  unfold TxtNew at K2
  rw [et, Int.toNat_natCast] at K2
  generalize hres : pRul J 302 0 [] = res at K1 K2
  have bad : t ≠ 10 → ∀ (k : Int) (p : Nat) (J1 : Jm), Kp J J1 → J1 313 21 = k → J1 313 22 = (p : Int) → (k = 1 ∨ k = 2 ∨ k = 3) → res = .inl (k, p) → V w 6 mX5_rules 28 [some (vR 313), none, none] [] S J1 Q := by
    intro h24 k p J1 kp e1 e2 hk hr
    refine gX5_rules_28 (J := J1) hL (br_n (by omega) ⟨by omega, fun r J2 hp => ?_⟩)
    rcases hp with ⟨q, -⟩ | ⟨-, q1, q2⟩
    · omega
    · refine br_n (by omega) ?_
      rw [q1, e1, q2]
      refine K1 (by omega) k p _ hr ⟨by simp [up], by rw [up_self]; exact e2, fun b j h1 h2 => ?_⟩
      rw [up_ne (fun e => h2 ⟨e.1, Or.inr e.2⟩), up_ne (fun e => h2 ⟨e.1, Or.inl e.2⟩)]
      exact kp b j h1
  have good : t < 10 → ∀ (cs : List (Int × Int × Int × Int)) (J1 : Jm), Kp J J1 → J1 313 21 = 0 → J1 313 19 = 0 → RdC J1 cs → csOk cs → res = .inr cs → V w 6 mX5_rules 28 [some (vR 313), none, none] [] S J1 Q := by
    intro h10 cs J1 kp e1 e2 hR hok hr
    refine gX5_rules_28 (J := J1) hL (br_y e1 (br_y e2 ⟨by omega, fun r J2 hp => ?_⟩))
    obtain ⟨q1, q2⟩ : r = 0 ∧ J2 = up (up J1 313 16 0) 313 23 (-1) := by
      rcases hp with ⟨-, q1, q2⟩ | ⟨q, -⟩
      · exact ⟨q1, q2⟩
      · exact absurd e1 q
    refine br_y (by omega) ?_
    have t2 : J2 313 8 = (t : Int) := by rw [q2]; simp [up]; rw [kp _ _ rfl]; exact et
    have r2 : J2 320 10 = ((cs.length : Nat) : Int) := by rw [q2]; simp [up]; exact hR.1
    rw [t2, r2, Int.toNat_natCast]
    (repeat' (first | (refine And.intro ?_ ?_; omega)))
    generalize hJ3 : up J2 320 t ((cs.length : Nat) : Int) = J3
    have f3 : ∀ b k, ¬ (b = 313 ∧ (k = 16 ∨ k = 23)) → ¬ (b = 320 ∧ k = t) → J3 b k = J1 b k := by
      intro b k h1 h2
      rw [← hJ3, up_ne h2, q2, up_ne (fun e => h1 ⟨e.1, Or.inr e.2⟩), up_ne (fun e => h1 ⟨e.1, Or.inl e.2⟩)]
    have t3 : J3 313 8 = (t : Int) := by rw [← hJ3, up_na (by decide)]; exact t2
    have td3 : J3 313 1 = J 313 1 := by rw [f3 _ _ (by omega) (by omega)]; exact kp _ _ rfl
    have a3 : J3 313 16 = 0 := by rw [← hJ3, q2]; simp [up]
    have b3 : J3 313 23 = -1 := by rw [← hJ3, q2]; simp [up]
    have c3 : J3 320 t = ((cs.length : Nat) : Int) := by rw [← hJ3, up_self]
    show V w 6 mX5_rules 78 [some (vR 313), none, some (vI ((0 : Nat) : Int))] [] S J3 Q
    refine up_loop (P := fun u J4 => (∀ b k, ¬ ((b = 321 ∨ b = 322 ∨ b = 323 ∨ b = 324) ∧ 12 * t ≤ k ∧ k < 12 * t + 12) → J4 b k = J3 b k) ∧ (∀ v, v < u → J4 321 (12 * t + v) = J3 321 (120 + v) ∧ J4 322 (12 * t + v) = J3 322 (120 + v) ∧ J4 323 (12 * t + v) = J3 323 (120 + v) ∧ J4 324 (12 * t + v) = J3 324 (120 + v))) 12 (fun u J4 => V w 6 mX5_rules 78 [some (vR 313), none, some (vI (u : Int))] [] S J4 Q) ?_ ?_ 0 J3 (by omega) ⟨fun _ _ _ => rfl, fun v hv => absurd hv (by omega)⟩
    · intro u J4 hu ⟨f4, d4⟩ ih
      refine gX5_rules_78 (J := J4) hL u (br_n (by omega) ?_)
      have t4 : J4 313 8 = (t : Int) := by rw [f4 _ _ (by omega)]; exact t3
      rw [t4, show (12 * (t : Int) + (u : Int)).toNat = 12 * t + u by omega, f4 321 (120 + u) (by omega), f4 322 (120 + u) (by omega), f4 323 (120 + u) (by omega), f4 324 (120 + u) (by omega)]
      (repeat' (first | (refine And.intro ?_ ?_; omega)))
      refine ih _ ⟨fun b k h => ?_, fun v hv => ?_⟩
      · rw [up_ne (fun e => h ⟨by omega, by omega, by omega⟩), up_ne (fun e => h ⟨by omega, by omega, by omega⟩), up_ne (fun e => h ⟨by omega, by omega, by omega⟩), up_ne (fun e => h ⟨by omega, by omega, by omega⟩)]
        exact f4 b k h
      · by_cases hvu : v = u
        · subst hvu
          simp [up]
        · have := d4 v (by omega)
          have hne : 12 * t + v ≠ 12 * t + u := by omega
          simp only [up_nk hne, up_na (show 321 ≠ 322 by decide), up_na (show 321 ≠ 323 by decide), up_na (show 321 ≠ 324 by decide), up_na (show 322 ≠ 321 by decide), up_na (show 322 ≠ 323 by decide), up_na (show 322 ≠ 324 by decide), up_na (show 323 ≠ 321 by decide), up_na (show 323 ≠ 322 by decide), up_na (show 323 ≠ 324 by decide), up_na (show 324 ≠ 321 by decide), up_na (show 324 ≠ 322 by decide), up_na (show 324 ≠ 323 by decide)]
          exact this
    · intro J4 ⟨f4, d4⟩
      refine gX5_rules_78 (J := J4) hL 12 (br_y (by omega) ?_)
      have t4 : J4 313 8 = (t : Int) := by rw [f4 _ _ (by omega)]; exact t3
      have td4 : J4 313 1 = J 313 1 := by rw [f4 _ _ (by omega)]; exact td3
      have c4 : J4 320 t = ((cs.length : Nat) : Int) := by rw [f4 _ _ (by omega)]; exact c3
      rw [t4, td4, show ((t : Int) + 1 - 1).toNat = t by omega, c4, Int.toNat_natCast]
      (repeat' (first | (refine And.intro ?_ ?_; omega)))
      have hl := hok.1
      refine K2 (by omega) cs _ hr hok ⟨?_, ?_, up_self, fun b k h1 h2 h3 h4 => ?_, ⟨?_, fun k hk => ?_⟩, ?_⟩
      · simp [up]; rw [f4 _ _ (by omega)]; exact a3
      · simp [up]; rw [f4 _ _ (by omega)]; exact b3
      · rw [up_ne (fun e => h2 ⟨e.1, by omega⟩), up_ne (fun e => h3 ⟨Or.inr e.1, e.2⟩), f4 b k h4, f3 b k (fun e => h2 ⟨e.1, by omega⟩) (fun e => h3 ⟨Or.inl e.1, e.2⟩)]
        exact kp b k h1
      · simp [up]; exact c4
      · have hc := hR.2 k hk
        obtain ⟨d1, d2, d3, d5⟩ := d4 k (by omega)
        unfold ClAt at hc ⊢
        have e1 : ∀ b j, b ≠ 313 → b ≠ 319 → (up (up J4 319 t (J 313 1)) 313 8 ((t : Int) + 1)) b j = J4 b j := fun b j h1 h2 => by rw [up_na h1, up_na h2]
        rw [e1 _ _ (by decide) (by decide), e1 _ _ (by decide) (by decide), e1 _ _ (by decide) (by decide), e1 _ _ (by decide) (by decide), d1, d2, d3, d5, f3 _ _ (by omega) (by omega), f3 _ _ (by omega) (by omega), f3 _ _ (by omega) (by omega), f3 _ _ (by omega) (by omega)]
        exact hc
      · simp [up]
  have loop : t < 10 → ∀ (f a : Nat) (cs : List (Int × Int × Int × Int)) (J1 : Jm), 301 < f + a → a ≤ 300 → Kp J J1 → J1 313 21 = 0 → RdC J1 cs → csOk cs → Tk J J1 a → pRul J f a cs = res → V w 6 mX5_rules 28 [some (vR 313), none, none] [] S J1 Q := by
    intro h10 f
    induction f with
    | zero => intro a cs J1 h1 h2; omega
    | succ f ih =>
      intro a cs J1 hf ha kp e0 hR hok hk hp
      rw [pRul] at hp
      have hm := kp.mp
      by_cases hk0 : tK J a = 0
      · rw [if_pos hk0] at hp
        exact good h10 cs J1 kp e0 (by rw [hk.2.2.1]; exact hk0) hR hok hp.symm
      · rw [if_neg hk0] at hp
        have hk1 : Tk J1 J1 a := by
          unfold Tk at hk ⊢
          rw [tK_mp hm, tV_mp hm, tP_mp hm, tE_mp hm]
          exact hk
        refine gX5_rules_28 (J := J1) hL (br_y e0 (br_n (by rw [hk.2.2.1]; exact hk0) ?_))
        refine s_readClause (J := J1) hL a cs.length (hT.mp hm) ha hk1 e0 hR.1 hok.1 (fun J2 f2 z1 z2 => ?_)
        refine gX5_rules_46 hL ?_
        rw [pCl_mp hm] at z1 z2
        have kp2 : Kp J J2 := kp.trans f2.kp
        cases hcl : pCl J a cs.length with
        | inl e =>
          obtain ⟨k, p⟩ := e
          rw [hcl] at hp
          obtain ⟨y1, y2, y3⟩ := z1 k p hcl
          exact bad (by omega) k p J2 kp2 y1 y2 y3 hp.symm
        | inr e =>
          obtain ⟨cl, b⟩ := e
          rw [hcl] at hp
          obtain ⟨y1, y2, y3, y4, y5, y6⟩ := z2 cl b hcl
          have hco := pCl_ok hcl
          have hk2 : Tk J J2 b := by
            unfold Tk at y4 ⊢
            rw [tK_mp hm, tV_mp hm, tP_mp hm, tE_mp hm] at y4
            exact y4
          have hl := hok.1
          refine ih b (cs ++ [cl]) J2 (by omega) y5 kp2 y1 ⟨by rw [len_app]; exact y2, fun k hkk => ?_⟩ ⟨by rw [len_app]; omega, fun k hkk => ?_⟩ hk2 hp
          · rw [len_app] at hkk
            by_cases hkr : k = cs.length
            · subst hkr
              rw [getD_app_r]
              exact y3
            · rw [getD_app_l (by omega)]
              have h9 := hR.2 k (by omega)
              unfold ClAt at h9 ⊢
              rw [f2 _ _ (by omega) (by omega) (by omega), f2 _ _ (by omega) (by omega) (by omega), f2 _ _ (by omega) (by omega) (by omega), f2 _ _ (by omega) (by omega) (by omega)]
              exact h9
          · rw [len_app] at hkk
            by_cases hkr : k = cs.length
            · subst hkr
              rw [getD_app_r]
              exact hco.1
            · rw [getD_app_l (by omega)]
              exact hok.2 k (by omega)
  refine gX5_rules_0 (J := J) hL ?_
  rw [et]
  refine br_i (fun h => K0 h _ (k0 J)) (fun h => ?_)
  refine ⟨hT.mp (k0 J).mp, fun J1 hp => ?_⟩
  have kp1 : Kp J (up (up (up J 313 0 0) 313 21 0) 313 17 0) := ((k0 J).up rfl).up rfl
  have kp2 : Kp J (up J1 320 10 0) := (kp1.trans hp.1.kp).up rfl
  have hk1 : Tk J J1 0 := PNx.tk kp1.mp hp
  have ef : J1 313 21 = 0 := by rw [hp.1 _ _ (by omega)]; simp [up]
  exact loop (by omega) 302 0 [] (up J1 320 10 0) (by omega) (by omega) kp2 (by rw [up_na (by decide)]; exact ef) ⟨up_self, fun k hk => absurd hk (Nat.not_lt_zero _)⟩ ⟨Nat.zero_le _, fun k hk => absurd hk (Nat.not_lt_zero _)⟩ (hk1.of (fun k _ => up_na (by decide))) hres
