/-! the model: the next token -/
set_option maxRecDepth 100000
theorem gX5_next_0 {w : Wd} {S : Sh} {J : Jm} {Q : Out → Sh → Jm → Prop} (hL : Lay S) 
    (K : Br (J 313 16 ≤ J 313 17) (V w 1 mX5_next 52 [some (vR 313), none] [] S J Q) ((0 ≤ J 313 17) ∧ (J 313 17 < 300) ∧ Br (J 325 (J 313 17).toNat = 32) ((-2147483648 ≤ (J 313 17) + 1 ∧ (J 313 17) + 1 ≤ 2147483647) ∧ V w 1 mX5_next 0 [some (vR 313), none] [] S (up J 313 17 ((J 313 17) + 1)) Q) (Br (J 325 (J 313 17).toNat = 10) ((-2147483648 ≤ (J 313 17) + 1 ∧ (J 313 17) + 1 ≤ 2147483647) ∧ V w 1 mX5_next 0 [some (vR 313), none] [] S (up J 313 17 ((J 313 17) + 1)) Q) (V w 1 mX5_next 52 [some (vR 313), none] [] S J Q)))) :
    V w 1 mX5_next 0 [some (vR 313), none] [] S J Q := by
  refine v_aload_n dX5_next_0 rfl ?_
  refine v_getI dX5_next_1 frX5_183_5 rfl rfl (L_313 hL).1 ?_
  refine v_aload_n dX5_next_4 rfl ?_
  refine v_getI dX5_next_5 frX5_180_5 rfl rfl (L_313 hL).1 ?_
  obtain ⟨K1, K2⟩ := K
  refine v_icmp_ge 52 dX5_next_8 (by decide) (fun c1 => ?_) (fun c1 => ?_)
  · have K := K1 c1
    exact K
  · have K := K2 c1
    refine v_aload_n dX5_next_11 rfl ?_
    refine v_getR dX5_next_12 frX5_47_5 rfl (L_313 hL).1 (LR_313_15 hL) (Or.inl rfl) ?_
    refine v_aload_n dX5_next_15 rfl ?_
    refine v_getI dX5_next_16 frX5_183_5 rfl rfl (L_313 hL).1 ?_
    obtain ⟨o1, K⟩ := K
    obtain ⟨o2, K⟩ := K
    refine ld_325 dX5_next_19 hL o1 o2 ?_
    refine v_bipush dX5_next_20 (by decide) (in_lit (by decide)) ?_
    obtain ⟨K1, K2⟩ := K
    refine v_icmp_eq 39 dX5_next_22 (by decide) (fun c2 => ?_) (fun c2 => ?_)
    · have K := K1 c2
      refine v_aload_n dX5_next_39 rfl ?_
      refine v_dup dX5_next_40 trivial ?_
      refine v_getI dX5_next_41 frX5_183_5 rfl rfl (L_313 hL).1 ?_
      refine v_iconst dX5_next_44 (in_lit (by decide)) ?_
      obtain ⟨o3, K⟩ := K
      refine v_iadd dX5_next_45 o3 ?_
      refine v_putI dX5_next_46 frX5_183_5 (fun _ _ _ h => by cases h; exact Or.inl rfl) rfl rfl zfit_int (L_313 hL).1 ?_
      show V w 1 mX5_next 49 [some (vR 313), none] [] S (up J 313 17 ((J 313 17) + 1)) Q
      refine v_goto 0 dX5_next_49 (by decide) ?_
      exact K
    · have K := K2 c2
      refine v_aload_n dX5_next_25 rfl ?_
      refine v_getR dX5_next_26 frX5_47_5 rfl (L_313 hL).1 (LR_313_15 hL) (Or.inl rfl) ?_
      refine v_aload_n dX5_next_29 rfl ?_
      refine v_getI dX5_next_30 frX5_183_5 rfl rfl (L_313 hL).1 ?_
      refine ld_325 dX5_next_33 hL o1 o2 ?_
      refine v_bipush dX5_next_34 (by decide) (in_lit (by decide)) ?_
      obtain ⟨K1, K2⟩ := K
      refine v_icmp_ne 52 dX5_next_36 (by decide) (fun c3 => ?_) (fun c3 => ?_)
      · have K := K2 c3
        exact K
      · have K := K1 c3
        refine v_aload_n dX5_next_39 rfl ?_
        refine v_dup dX5_next_40 trivial ?_
        refine v_getI dX5_next_41 frX5_183_5 rfl rfl (L_313 hL).1 ?_
        refine v_iconst dX5_next_44 (in_lit (by decide)) ?_
        obtain ⟨o4, K⟩ := K
        refine v_iadd dX5_next_45 o4 ?_
        refine v_putI dX5_next_46 frX5_183_5 (fun _ _ _ h => by cases h; exact Or.inl rfl) rfl rfl zfit_int (L_313 hL).1 ?_
        show V w 1 mX5_next 49 [some (vR 313), none] [] S (up J 313 17 ((J 313 17) + 1)) Q
        refine v_goto 0 dX5_next_49 (by decide) ?_
        exact K
theorem gX5_next_52 {w : Wd} {S : Sh} {J : Jm} {Q : Out → Sh → Jm → Prop} (hL : Lay S) 
    (K : Br (J 313 17 < J 313 16) ((0 ≤ J 313 17) ∧ (J 313 17 < 300) ∧ (-2147483648 ≤ (J 313 17) + 1 ∧ (J 313 17) + 1 ≤ 2147483647) ∧ Br (97 ≤ (J 325 (J 313 17).toNat) ∧ (J 325 (J 313 17).toNat) ≤ 122) (V w 1 mX5_next 109 [some (vR 313), none] [] S (up (up (up J 313 18 (J 313 17)) 313 17 ((J 313 17) + 1)) 313 20 (J 325 (J 313 17).toNat)) Q) (Br (48 ≤ (J 325 (J 313 17).toNat) ∧ (J 325 (J 313 17).toNat) ≤ 57) ((-2147483648 ≤ (J 325 (J 313 17).toNat) - 48 ∧ (J 325 (J 313 17).toNat) - 48 ≤ 2147483647) ∧ V w 1 mX5_next 159 [some (vR 313), none] [] S (up (up (up (up J 313 18 (J 313 17)) 313 17 ((J 313 17) + 1)) 313 20 (J 325 (J 313 17).toNat)) 313 20 ((J 325 (J 313 17).toNat) - 48)) Q) (Q (.inl none) S (up (up (up (up J 313 18 (J 313 17)) 313 17 ((J 313 17) + 1)) 313 20 (J 325 (J 313 17).toNat)) 313 19 4)))) (Q (.inl none) S (up (up J 313 18 (J 313 17)) 313 19 0))) :
    V w 1 mX5_next 52 [some (vR 313), none] [] S J Q := by
  refine v_aload_n dX5_next_52 rfl ?_
  refine v_aload_n dX5_next_53 rfl ?_
  refine v_getI dX5_next_54 frX5_183_5 rfl rfl (L_313 hL).1 ?_
  refine v_putI dX5_next_57 frX5_186_5 (fun _ _ _ h => by cases h; exact Or.inl rfl) rfl rfl zfit_int (L_313 hL).1 ?_
  show V w 1 mX5_next 60 [some (vR 313), none] [] S (up J 313 18 (J 313 17)) Q
  refine v_aload_n dX5_next_60 rfl ?_
  refine v_getI dX5_next_61 frX5_183_5 rfl rfl (L_313 hL).1 ?_
  show V w 1 mX5_next 64 [some (vR 313), none] [vI (J 313 17)] S (up J 313 18 (J 313 17)) Q
  refine v_aload_n dX5_next_64 rfl ?_
  refine v_getI dX5_next_65 frX5_180_5 rfl rfl (L_313 hL).1 ?_
  show V w 1 mX5_next 68 [some (vR 313), none] [vI (J 313 16), vI (J 313 17)] S (up J 313 18 (J 313 17)) Q
  obtain ⟨K1, K2⟩ := K
  refine v_icmp_lt 77 dX5_next_68 (by decide) (fun c1 => ?_) (fun c1 => ?_)
  · have K := K1 c1
    refine v_aload_n dX5_next_77 rfl ?_
    refine v_getR dX5_next_78 frX5_47_5 rfl (L_313 hL).1 (LR_313_15 hL) (Or.inl rfl) ?_
    refine v_aload_n dX5_next_81 rfl ?_
    refine v_getI dX5_next_82 frX5_183_5 rfl rfl (L_313 hL).1 ?_
    show V w 1 mX5_next 85 [some (vR 313), none] [vI (J 313 17), vR 325] S (up J 313 18 (J 313 17)) Q
    obtain ⟨o1, K⟩ := K
    obtain ⟨o2, K⟩ := K
    refine ld_325 dX5_next_85 hL o1 o2 ?_
    show V w 1 mX5_next 86 [some (vR 313), none] [vI (J 325 (J 313 17).toNat)] S (up J 313 18 (J 313 17)) Q
    refine v_istore_n dX5_next_86 (Nat.le_of_ble_eq_true rfl) ?_
    show V w 1 mX5_next 87 [some (vR 313), some (vI (J 325 (J 313 17).toNat))] [] S (up J 313 18 (J 313 17)) Q
    refine v_aload_n dX5_next_87 rfl ?_
    refine v_dup dX5_next_88 trivial ?_
    refine v_getI dX5_next_89 frX5_183_5 rfl rfl (L_313 hL).1 ?_
    show V w 1 mX5_next 92 [some (vR 313), some (vI (J 325 (J 313 17).toNat))] [vI (J 313 17), vR 313] S (up J 313 18 (J 313 17)) Q
    refine v_iconst dX5_next_92 (in_lit (by decide)) ?_
    obtain ⟨o3, K⟩ := K
    refine v_iadd dX5_next_93 o3 ?_
    refine v_putI dX5_next_94 frX5_183_5 (fun _ _ _ h => by cases h; exact Or.inl rfl) rfl rfl zfit_int (L_313 hL).1 ?_
    show V w 1 mX5_next 97 [some (vR 313), some (vI (J 325 (J 313 17).toNat))] [] S (up (up J 313 18 (J 313 17)) 313 17 ((J 313 17) + 1)) Q
    refine v_aload_n dX5_next_97 rfl ?_
    refine v_iload_n dX5_next_98 rfl ?_
    refine v_putI dX5_next_99 frX5_192_5 (fun _ _ _ h => by cases h; exact Or.inl rfl) rfl rfl zfit_int (L_313 hL).1 ?_
    show V w 1 mX5_next 102 [some (vR 313), some (vI (J 325 (J 313 17).toNat))] [] S (up (up (up J 313 18 (J 313 17)) 313 17 ((J 313 17) + 1)) 313 20 (J 325 (J 313 17).toNat)) Q
    refine v_iload_n dX5_next_102 rfl ?_
    refine v_callS (d' := 0) (rest := []) [vI (J 325 (J 313 17).toNat)] dX5_next_103 srX5_195 rfl (one_I one_nil) (Nat.le_of_ble_eq_true rfl) (Nat.le_of_ble_eq_true rfl) (Nat.le_of_ble_eq_true rfl) ?_
    obtain ⟨K1, K2⟩ := K
    refine sX5_isSmall hL (J 325 (J 313 17).toNat)  (fun c2 => ?_) (fun c2 => ?_)
    · have K := K1 c2
      show V w 1 mX5_next 106 [some (vR 313), some (vI (J 325 (J 313 17).toNat))] [vI 1] S (up (up (up J 313 18 (J 313 17)) 313 17 ((J 313 17) + 1)) 313 20 (J 325 (J 313 17).toNat)) Q
      refine v_if_eq 144 dX5_next_106 (by decide) (fun cQ => absurd cQ (by decide)) (fun _ => ?_)
      exact v_forget (fg_some (fg_none fg_nil)) K
    · have K := K2 c2
      show V w 1 mX5_next 106 [some (vR 313), some (vI (J 325 (J 313 17).toNat))] [vI 0] S (up (up (up J 313 18 (J 313 17)) 313 17 ((J 313 17) + 1)) 313 20 (J 325 (J 313 17).toNat)) Q
      refine v_if_eq 144 dX5_next_106 (by decide) (fun _ => ?_) (fun cQ => absurd cQ (by decide))
      refine v_iload_n dX5_next_144 rfl ?_
      refine v_callS (d' := 0) (rest := []) [vI (J 325 (J 313 17).toNat)] dX5_next_145 srX5_203 rfl (one_I one_nil) (Nat.le_of_ble_eq_true rfl) (Nat.le_of_ble_eq_true rfl) (Nat.le_of_ble_eq_true rfl) ?_
      obtain ⟨K1, K2⟩ := K
      refine sX5_isDigit hL (J 325 (J 313 17).toNat)  (fun c3 => ?_) (fun c3 => ?_)
      · have K := K1 c3
        show V w 1 mX5_next 148 [some (vR 313), some (vI (J 325 (J 313 17).toNat))] [vI 1] S (up (up (up J 313 18 (J 313 17)) 313 17 ((J 313 17) + 1)) 313 20 (J 325 (J 313 17).toNat)) Q
        refine v_if_eq 247 dX5_next_148 (by decide) (fun cQ => absurd cQ (by decide)) (fun _ => ?_)
        refine v_aload_n dX5_next_151 rfl ?_
        refine v_iload_n dX5_next_152 rfl ?_
        refine v_bipush dX5_next_153 (by decide) (in_lit (by decide)) ?_
        obtain ⟨o4, K⟩ := K
        refine v_isub dX5_next_155 o4 ?_
        refine v_putI dX5_next_156 frX5_192_5 (fun _ _ _ h => by cases h; exact Or.inl rfl) rfl rfl zfit_int (L_313 hL).1 ?_
        show V w 1 mX5_next 159 [some (vR 313), some (vI (J 325 (J 313 17).toNat))] [] S (up (up (up (up J 313 18 (J 313 17)) 313 17 ((J 313 17) + 1)) 313 20 (J 325 (J 313 17).toNat)) 313 20 ((J 325 (J 313 17).toNat) - 48)) Q
        exact v_forget (fg_some (fg_none fg_nil)) K
      · have K := K2 c3
        show V w 1 mX5_next 148 [some (vR 313), some (vI (J 325 (J 313 17).toNat))] [vI 0] S (up (up (up J 313 18 (J 313 17)) 313 17 ((J 313 17) + 1)) 313 20 (J 325 (J 313 17).toNat)) Q
        refine v_if_eq 247 dX5_next_148 (by decide) (fun _ => ?_) (fun cQ => absurd cQ (by decide))
        refine v_aload_n dX5_next_247 rfl ?_
        refine v_iconst dX5_next_248 (in_lit (by decide)) ?_
        refine v_putI dX5_next_249 frX5_189_5 (fun _ _ _ h => by cases h; exact Or.inl rfl) rfl rfl zfit_int (L_313 hL).1 ?_
        show V w 1 mX5_next 252 [some (vR 313), some (vI (J 325 (J 313 17).toNat))] [] S (up (up (up (up J 313 18 (J 313 17)) 313 17 ((J 313 17) + 1)) 313 20 (J 325 (J 313 17).toNat)) 313 19 4) Q
        exact v_vret dX5_next_252 rfl K
  · have K := K2 c1
    refine v_aload_n dX5_next_71 rfl ?_
    refine v_iconst dX5_next_72 (in_lit (by decide)) ?_
    refine v_putI dX5_next_73 frX5_189_5 (fun _ _ _ h => by cases h; exact Or.inl rfl) rfl rfl zfit_int (L_313 hL).1 ?_
    show V w 1 mX5_next 76 [some (vR 313), none] [] S (up (up J 313 18 (J 313 17)) 313 19 0) Q
    exact v_vret dX5_next_76 rfl K
theorem gX5_next_109 {w : Wd} {S : Sh} {J : Jm} {Q : Out → Sh → Jm → Prop} (hL : Lay S) 
    (K : (0 ≤ (J 313 17)) ∧ (J 313 16 ≤ 300) ∧ Br (97 ≤ (seeT J (J 313 17).toNat) ∧ (seeT J (J 313 17).toNat) ≤ 122) ((-2147483648 ≤ (J 313 17) + 1 ∧ (J 313 17) + 1 ≤ 2147483647) ∧ V w 1 mX5_next 109 [some (vR 313), none] [] S (up J 313 17 ((J 313 17) + 1)) Q) (Q (.inl none) S (up J 313 19 3))) :
    V w 1 mX5_next 109 [some (vR 313), none] [] S J Q := by
  refine v_aload_n dX5_next_109 rfl ?_
  refine v_aload_n dX5_next_110 rfl ?_
  refine v_getI dX5_next_111 frX5_183_5 rfl rfl (L_313 hL).1 ?_
  refine v_callV (d' := 0) (rest := []) [vI (J 313 17)] dX5_next_114 vrX5_199_5 (L_313 hL).1 rfl rfl (one_I one_nil) (Nat.le_of_ble_eq_true rfl) (Nat.le_of_ble_eq_true rfl) (Nat.le_of_ble_eq_true rfl) ?_
  obtain ⟨o1, K⟩ := K
  obtain ⟨o2, K⟩ := K
  refine s_see hL (J 313 17) o1 o2 ?_
  show V w 1 mX5_next 117 [some (vR 313), none] [vI (seeT J (J 313 17).toNat)] S J Q
  refine v_callS (d' := 0) (rest := []) [vI (seeT J (J 313 17).toNat)] dX5_next_117 srX5_195 rfl (one_I one_nil) (Nat.le_of_ble_eq_true rfl) (Nat.le_of_ble_eq_true rfl) (Nat.le_of_ble_eq_true rfl) ?_
  obtain ⟨K1, K2⟩ := K
  refine sX5_isSmall hL (seeT J (J 313 17).toNat)  (fun c1 => ?_) (fun c1 => ?_)
  · have K := K1 c1
    show V w 1 mX5_next 120 [some (vR 313), none] [vI 1] S J Q
    refine v_if_eq 136 dX5_next_120 (by decide) (fun cQ => absurd cQ (by decide)) (fun _ => ?_)
    refine v_aload_n dX5_next_123 rfl ?_
    refine v_dup dX5_next_124 trivial ?_
    refine v_getI dX5_next_125 frX5_183_5 rfl rfl (L_313 hL).1 ?_
    refine v_iconst dX5_next_128 (in_lit (by decide)) ?_
    obtain ⟨o3, K⟩ := K
    refine v_iadd dX5_next_129 o3 ?_
    refine v_putI dX5_next_130 frX5_183_5 (fun _ _ _ h => by cases h; exact Or.inl rfl) rfl rfl zfit_int (L_313 hL).1 ?_
    show V w 1 mX5_next 133 [some (vR 313), none] [] S (up J 313 17 ((J 313 17) + 1)) Q
    refine v_goto 109 dX5_next_133 (by decide) ?_
    exact K
  · have K := K2 c1
    show V w 1 mX5_next 120 [some (vR 313), none] [vI 0] S J Q
    refine v_if_eq 136 dX5_next_120 (by decide) (fun _ => ?_) (fun cQ => absurd cQ (by decide))
    refine v_aload_n dX5_next_136 rfl ?_
    refine v_iconst dX5_next_137 (in_lit (by decide)) ?_
    refine v_putI dX5_next_138 frX5_189_5 (fun _ _ _ h => by cases h; exact Or.inl rfl) rfl rfl zfit_int (L_313 hL).1 ?_
    show V w 1 mX5_next 141 [some (vR 313), none] [] S (up J 313 19 3) Q
    refine v_goto 252 dX5_next_141 (by decide) ?_
    exact v_vret dX5_next_252 rfl K
theorem gX5_next_159 {w : Wd} {S : Sh} {J : Jm} {Q : Out → Sh → Jm → Prop} (hL : Lay S) 
    (K : (0 ≤ (J 313 17)) ∧ (J 313 16 ≤ 300) ∧ Br (48 ≤ (seeT J (J 313 17).toNat) ∧ (seeT J (J 313 17).toNat) ≤ 57) ((-2147483648 ≤ (J 313 17) - (J 313 18) ∧ (J 313 17) - (J 313 18) ≤ 2147483647) ∧ Br (2 ≤ (J 313 17) - (J 313 18)) ((-2147483648 ≤ (J 313 17) + 1 ∧ (J 313 17) + 1 ≤ 2147483647) ∧ V w 1 mX5_next 159 [some (vR 313), none] [] S (up J 313 17 ((J 313 17) + 1)) Q) ((-2147483648 ≤ 10 * (J 313 20) ∧ 10 * (J 313 20) ≤ 2147483647) ∧ (-2147483648 ≤ (10 * (J 313 20)) + (seeT J (J 313 17).toNat) ∧ (10 * (J 313 20)) + (seeT J (J 313 17).toNat) ≤ 2147483647) ∧ (-2147483648 ≤ ((10 * (J 313 20)) + (seeT J (J 313 17).toNat)) - 48 ∧ ((10 * (J 313 20)) + (seeT J (J 313 17).toNat)) - 48 ≤ 2147483647) ∧ (-2147483648 ≤ (J 313 17) + 1 ∧ (J 313 17) + 1 ≤ 2147483647) ∧ V w 1 mX5_next 159 [some (vR 313), none] [] S (up (up J 313 20 (((10 * (J 313 20)) + (seeT J (J 313 17).toNat)) - 48)) 313 17 ((J 313 17) + 1)) Q)) ((-2147483648 ≤ (J 313 17) - (J 313 18) ∧ (J 313 17) - (J 313 18) ≤ 2147483647) ∧ Br ((J 313 17) - (J 313 18) ≤ 2) (Q (.inl none) S (up J 313 19 2)) (Q (.inl none) S (up J 313 19 1)))) :
    V w 1 mX5_next 159 [some (vR 313), none] [] S J Q := by
  refine v_aload_n dX5_next_159 rfl ?_
  refine v_aload_n dX5_next_160 rfl ?_
  refine v_getI dX5_next_161 frX5_183_5 rfl rfl (L_313 hL).1 ?_
  refine v_callV (d' := 0) (rest := []) [vI (J 313 17)] dX5_next_164 vrX5_199_5 (L_313 hL).1 rfl rfl (one_I one_nil) (Nat.le_of_ble_eq_true rfl) (Nat.le_of_ble_eq_true rfl) (Nat.le_of_ble_eq_true rfl) ?_
  obtain ⟨o1, K⟩ := K
  obtain ⟨o2, K⟩ := K
  refine s_see hL (J 313 17) o1 o2 ?_
  show V w 1 mX5_next 167 [some (vR 313), none] [vI (seeT J (J 313 17).toNat)] S J Q
  refine v_callS (d' := 0) (rest := []) [vI (seeT J (J 313 17).toNat)] dX5_next_167 srX5_203 rfl (one_I one_nil) (Nat.le_of_ble_eq_true rfl) (Nat.le_of_ble_eq_true rfl) (Nat.le_of_ble_eq_true rfl) ?_
  obtain ⟨K1, K2⟩ := K
  refine sX5_isDigit hL (seeT J (J 313 17).toNat)  (fun c1 => ?_) (fun c1 => ?_)
  · have K := K1 c1
    show V w 1 mX5_next 170 [some (vR 313), none] [vI 1] S J Q
    refine v_if_eq 222 dX5_next_170 (by decide) (fun cQ => absurd cQ (by decide)) (fun _ => ?_)
    refine v_aload_n dX5_next_173 rfl ?_
    refine v_getI dX5_next_174 frX5_183_5 rfl rfl (L_313 hL).1 ?_
    refine v_aload_n dX5_next_177 rfl ?_
    refine v_getI dX5_next_178 frX5_186_5 rfl rfl (L_313 hL).1 ?_
    obtain ⟨o3, K⟩ := K
    refine v_isub dX5_next_181 o3 ?_
    refine v_iconst dX5_next_182 (in_lit (by decide)) ?_
    obtain ⟨K1, K2⟩ := K
    refine v_icmp_ge 209 dX5_next_183 (by decide) (fun c2 => ?_) (fun c2 => ?_)
    · have K := K1 c2
      refine v_aload_n dX5_next_209 rfl ?_
      refine v_dup dX5_next_210 trivial ?_
      refine v_getI dX5_next_211 frX5_183_5 rfl rfl (L_313 hL).1 ?_
      refine v_iconst dX5_next_214 (in_lit (by decide)) ?_
      obtain ⟨o4, K⟩ := K
      refine v_iadd dX5_next_215 o4 ?_
      refine v_putI dX5_next_216 frX5_183_5 (fun _ _ _ h => by cases h; exact Or.inl rfl) rfl rfl zfit_int (L_313 hL).1 ?_
      show V w 1 mX5_next 219 [some (vR 313), none] [] S (up J 313 17 ((J 313 17) + 1)) Q
      refine v_goto 159 dX5_next_219 (by decide) ?_
      exact K
    · have K := K2 c2
      refine v_aload_n dX5_next_186 rfl ?_
      refine v_bipush dX5_next_187 (by decide) (in_lit (by decide)) ?_
      refine v_aload_n dX5_next_189 rfl ?_
      refine v_getI dX5_next_190 frX5_192_5 rfl rfl (L_313 hL).1 ?_
      obtain ⟨o5, K⟩ := K
      refine v_imul dX5_next_193 o5 ?_
      refine v_aload_n dX5_next_194 rfl ?_
      refine v_aload_n dX5_next_195 rfl ?_
      refine v_getI dX5_next_196 frX5_183_5 rfl rfl (L_313 hL).1 ?_
      refine v_callV (d' := 0) (rest := [vI (10 * (J 313 20)), vR 313]) [vI (J 313 17)] dX5_next_199 vrX5_199_5 (L_313 hL).1 rfl rfl (one_I one_nil) (Nat.le_of_ble_eq_true rfl) (Nat.le_of_ble_eq_true rfl) (Nat.le_of_ble_eq_true rfl) ?_
      refine s_see hL (J 313 17) o1 o2 ?_
      show V w 1 mX5_next 202 [some (vR 313), none] [vI (seeT J (J 313 17).toNat), vI (10 * (J 313 20)), vR 313] S J Q
      obtain ⟨o6, K⟩ := K
      refine v_iadd dX5_next_202 o6 ?_
      refine v_bipush dX5_next_203 (by decide) (in_lit (by decide)) ?_
      obtain ⟨o7, K⟩ := K
      refine v_isub dX5_next_205 o7 ?_
      refine v_putI dX5_next_206 frX5_192_5 (fun _ _ _ h => by cases h; exact Or.inl rfl) rfl rfl zfit_int (L_313 hL).1 ?_
      show V w 1 mX5_next 209 [some (vR 313), none] [] S (up J 313 20 (((10 * (J 313 20)) + (seeT J (J 313 17).toNat)) - 48)) Q
      refine v_aload_n dX5_next_209 rfl ?_
      refine v_dup dX5_next_210 trivial ?_
      refine v_getI dX5_next_211 frX5_183_5 rfl rfl (L_313 hL).1 ?_
      show V w 1 mX5_next 214 [some (vR 313), none] [vI (J 313 17), vR 313] S (up J 313 20 (((10 * (J 313 20)) + (seeT J (J 313 17).toNat)) - 48)) Q
      refine v_iconst dX5_next_214 (in_lit (by decide)) ?_
      obtain ⟨o8, K⟩ := K
      refine v_iadd dX5_next_215 o8 ?_
      refine v_putI dX5_next_216 frX5_183_5 (fun _ _ _ h => by cases h; exact Or.inl rfl) rfl rfl zfit_int (L_313 hL).1 ?_
      show V w 1 mX5_next 219 [some (vR 313), none] [] S (up (up J 313 20 (((10 * (J 313 20)) + (seeT J (J 313 17).toNat)) - 48)) 313 17 ((J 313 17) + 1)) Q
      refine v_goto 159 dX5_next_219 (by decide) ?_
      exact K
  · have K := K2 c1
    show V w 1 mX5_next 170 [some (vR 313), none] [vI 0] S J Q
    refine v_if_eq 222 dX5_next_170 (by decide) (fun _ => ?_) (fun cQ => absurd cQ (by decide))
    refine v_aload_n dX5_next_222 rfl ?_
    refine v_aload_n dX5_next_223 rfl ?_
    refine v_getI dX5_next_224 frX5_183_5 rfl rfl (L_313 hL).1 ?_
    refine v_aload_n dX5_next_227 rfl ?_
    refine v_getI dX5_next_228 frX5_186_5 rfl rfl (L_313 hL).1 ?_
    obtain ⟨o9, K⟩ := K
    refine v_isub dX5_next_231 o9 ?_
    refine v_iconst dX5_next_232 (in_lit (by decide)) ?_
    obtain ⟨K1, K2⟩ := K
    refine v_icmp_le 240 dX5_next_233 (by decide) (fun c3 => ?_) (fun c3 => ?_)
    · have K := K1 c3
      refine v_iconst dX5_next_240 (in_lit (by decide)) ?_
      refine v_putI dX5_next_241 frX5_189_5 (fun _ _ _ h => by cases h; exact Or.inl rfl) rfl rfl zfit_int (L_313 hL).1 ?_
      show V w 1 mX5_next 244 [some (vR 313), none] [] S (up J 313 19 2) Q
      refine v_goto 252 dX5_next_244 (by decide) ?_
      exact v_vret dX5_next_252 rfl K
    · have K := K2 c3
      refine v_iconst dX5_next_236 (in_lit (by decide)) ?_
      refine v_goto 241 dX5_next_237 (by decide) ?_
      refine v_putI dX5_next_241 frX5_189_5 (fun _ _ _ h => by cases h; exact Or.inl rfl) rfl rfl zfit_int (L_313 hL).1 ?_
      show V w 1 mX5_next 244 [some (vR 313), none] [] S (up J 313 19 1) Q
      refine v_goto 252 dX5_next_244 (by decide) ?_
      exact v_vret dX5_next_252 rfl K

theorem msr {α : Type} (μ : α → Nat) (P : α → Prop) (h : ∀ x, (∀ y, μ y < μ x → P y) → P x) : ∀ x, P x := by
  have key : ∀ n x, μ x < n → P x := by
    intro n
    induction n with
    | zero => intro x hx; exact absurd hx (Nat.not_lt_zero _)
    | succ n ih => intro x hx; exact h x (fun y hy => ih y (by omega))
  exact fun x => key (μ x + 1) x (Nat.lt_succ_self _)
def runE (P : Int → Bool) (s : Nat → Int) : Nat → Nat → Nat
  | 0, a => a
  | f + 1, a => if P (s a) = true then runE P s f (a + 1) else a
/-- the first place from a on of which P doesn't hold -/
def rE (P : Int → Bool) (s : Nat → Int) (a : Nat) : Nat := runE P s (301 - a) a
def wsB (c : Int) : Bool := decide (c = 32 ∨ c = 10)
def smB (c : Int) : Bool := decide (97 ≤ c ∧ c ≤ 122)
def dgB (c : Int) : Bool := decide (48 ≤ c ∧ c ≤ 57)
theorem wsB_i {c : Int} : wsB c = true ↔ (c = 32 ∨ c = 10) := decide_eq_true_iff
theorem smB_i {c : Int} : smB c = true ↔ (97 ≤ c ∧ c ≤ 122) := decide_eq_true_iff
theorem dgB_i {c : Int} : dgB c = true ↔ (48 ≤ c ∧ c ≤ 57) := decide_eq_true_iff
theorem rE_eq {P : Int → Bool} {s : Nat → Int} (h0 : P 0 = false) (hs : ∀ k, 300 ≤ k → s k = 0) (a : Nat) : rE P s a = if P (s a) = true then rE P s (a + 1) else a := by
  unfold rE
  by_cases h : a ≤ 300
  · rw [show 301 - a = (301 - (a + 1)) + 1 by omega]
    rfl
  · rw [hs a (by omega), h0, show 301 - a = 0 by omega]
    simp [runE]
theorem rE_in {P : Int → Bool} {s : Nat → Int} (h0 : P 0 = false) (hs : ∀ k, 300 ≤ k → s k = 0) (a : Nat) : a ≤ rE P s a ∧ (a ≤ 300 → rE P s a ≤ 300) := by
  refine msr (fun a => 301 - a) (fun a => a ≤ rE P s a ∧ (a ≤ 300 → rE P s a ≤ 300)) ?_ a
  intro a ih
  rw [rE_eq h0 hs a]
  by_cases h : P (s a) = true
  · rw [if_pos h]
    have h3 : a < 300 := Nat.lt_of_not_le fun q => by rw [hs a q, h0] at h; cases h
    have := ih (a + 1) (by omega)
    omega
  · rw [if_neg h]
    omega
/-- the token from a on: its place, its end, its kind (0 over, 1 bad, 2 number, 3 word, 4 sign), its value -/
def tkE (s : Nat → Int) (n : Int) (p : Nat) : Nat := if n ≤ p then p else if smB (s p) = true then rE smB s p else if dgB (s p) = true then rE dgB s p else p + 1
def tkK (s : Nat → Int) (n : Int) (p : Nat) : Int := if n ≤ p then 0 else if smB (s p) = true then 3 else if dgB (s p) = true then (if rE dgB s p ≤ p + 2 then 2 else 1) else 4
def tkV (s : Nat → Int) (p : Nat) : Int := if dgB (s p) = true then (if dgB (s (p + 1)) = true then 10 * (s p - 48) + s (p + 1) - 48 else s p - 48) else s p
def tP (J : Jm) (a : Nat) : Nat := rE wsB (seeT J) a
def tE (J : Jm) (a : Nat) : Nat := tkE (seeT J) (J 313 16) (tP J a)
def tK (J : Jm) (a : Nat) : Int := tkK (seeT J) (J 313 16) (tP J a)
def tV (J : Jm) (a : Nat) : Int := tkV (seeT J) (tP J a)
/-- the tape -/
def MTape (J : Jm) : Prop := (0 ≤ J 313 16 ∧ J 313 16 ≤ 300) ∧ ∀ k, k < 300 → -128 ≤ J 325 k ∧ J 325 k ≤ 127
theorem MTape.mp {J J' : Jm} (hM : MTape J) (h : Mp J J') : MTape J' := by
  unfold MTape at *
  simp only [h 313 16 rfl, h 325 _ rfl]
  exact hM
theorem seeT_0 {J : Jm} (hT : MTape J) (k : Nat) (hk : 300 ≤ k) : seeT J k = 0 := by
  unfold seeT
  rw [if_neg (by have := hT.1; omega)]
theorem seeT_in {J : Jm} (hT : MTape J) (k : Nat) : -128 ≤ seeT J k ∧ seeT J k ≤ 127 := by
  unfold seeT
  split
  · exact hT.2 k (by have := hT.1; omega)
  · omega
/-- all but the token's cells is as it was -/
def nxF (J J' : Jm) : Prop := ∀ b k, ¬ (b = 313 ∧ (k = 17 ∨ k = 18 ∨ k = 19 ∨ k = 20)) → J' b k = J b k
theorem nxF.rfl' {J : Jm} : nxF J J := fun _ _ _ => rfl
theorem nxF.trans {J J1 J2 : Jm} (h : nxF J J1) (h2 : nxF J1 J2) : nxF J J2 := fun b k q => (h2 b k q).trans (h b k q)
theorem nxF.up {J J' : Jm} {k : Nat} {z : Int} (h : nxF J J') (hk : k = 17 ∨ k = 18 ∨ k = 19 ∨ k = 20) : nxF J (up J' 313 k z) := fun b j q => by
  rw [up_ne (fun e => q ⟨e.1, by rw [e.2]; exact hk⟩)]
  exact h b j q
theorem nxF.kp {J J' : Jm} (h : nxF J J') : Kp J J' := fun b k q => h b k (fun e => by
  obtain ⟨rfl, e⟩ := e
  rcases e with rfl | rfl | rfl | rfl <;> cases q)
theorem nxF.see {J J' : Jm} (h : nxF J J') : seeT J' = seeT J := by
  funext k
  unfold seeT
  rw [h 313 16 (by omega), h 325 k (by omega)]
def PNx (J : Jm) (a : Nat) (J' : Jm) : Prop := nxF J J' ∧ J' 313 17 = (tE J a : Nat) ∧ J' 313 18 = (tP J a : Nat) ∧ J' 313 19 = tK J a ∧ (tK J a ≠ 0 → J' 313 20 = tV J a)
theorem s_next {w : Wd} {S : Sh} {J : Jm} {Q : Out → Sh → Jm → Prop} (hL : Lay S) (a : Nat) (hT : MTape J) (ha : J 313 17 = (a : Int)) (h300 : a ≤ 300) (K : ∀ J', PNx J a J' → Q (.inl none) S J') : V w 1 mX5_next 0 (ent mX5_next [vR 313]) [] S J Q := by
  have hs0 := seeT_0 hT
  have hT1 := hT.1
  -- a word
  have r109 : ∀ (p E e : Nat) (J2 : Jm), nxF J J2 → J2 313 17 = (e : Int) → J2 313 18 = (p : Int) → J2 313 20 = seeT J p → rE smB (seeT J) e = E → (∀ J3, nxF J J3 → J3 313 17 = (E : Int) → J3 313 18 = (p : Int) → J3 313 20 = seeT J p → J3 313 19 = 3 → Q (.inl none) S J3) → V w 1 mX5_next 109 [some (vR 313), none] [] S J2 Q := by
    intro p E
    refine msr (fun e => 301 - e) (fun e => ∀ (J2 : Jm), nxF J J2 → J2 313 17 = (e : Int) → J2 313 18 = (p : Int) → J2 313 20 = seeT J p → rE smB (seeT J) e = E → (∀ J3, nxF J J3 → J3 313 17 = (E : Int) → J3 313 18 = (p : Int) → J3 313 20 = seeT J p → J3 313 19 = 3 → Q (.inl none) S J3) → V w 1 mX5_next 109 [some (vR 313), none] [] S J2 Q) ?_
    intro e ih J2 f2 e1 e2 e3 hE KK
    have e4 : J2 313 16 = J 313 16 := f2 _ _ (by omega)
    refine gX5_next_109 (J := J2) hL ?_
    rw [e1, e4, f2.see, Int.toNat_natCast]
    (repeat' (first | (refine And.intro ?_ ?_; omega)))
    rw [rE_eq (by decide) hs0 e] at hE
    refine br_i (fun hb => ?_) (fun hb => ?_)
    · have he : e < 300 := Nat.lt_of_not_le fun q => by rw [hs0 e q] at hb; omega
      rw [if_pos (smB_i.mpr hb)] at hE
      (repeat' (first | (refine And.intro ?_ ?_; omega)))
      exact ih (e + 1) (by omega) _ (f2.up (by omega)) (by rw [up_self]; push_cast; rfl) (by simp [up, e2]) (by simp [up, e3]) hE KK
    · rw [if_neg (fun q => hb (smB_i.mp q))] at hE
      subst hE
      exact KK _ (f2.up (by omega)) (by simp [up, e1]) (by simp [up, e2]) (by simp [up, e3]) up_self
  -- a number
  have r159 : ∀ (p E e : Nat) (J2 : Jm), nxF J J2 → J2 313 17 = (e : Int) → J2 313 18 = (p : Int) → e ≤ 301 → (48 ≤ seeT J p ∧ seeT J p ≤ 57) → ((e = p + 1 ∧ J2 313 20 = seeT J p - 48) ∨ (p + 2 ≤ e ∧ (48 ≤ seeT J (p + 1) ∧ seeT J (p + 1) ≤ 57) ∧ J2 313 20 = 10 * (seeT J p - 48) + seeT J (p + 1) - 48)) → rE dgB (seeT J) e = E → (∀ J3, nxF J J3 → J3 313 17 = (E : Int) → J3 313 18 = (p : Int) → J3 313 20 = tkV (seeT J) p → J3 313 19 = (if E ≤ p + 2 then 2 else 1) → Q (.inl none) S J3) → V w 1 mX5_next 159 [some (vR 313), none] [] S J2 Q := by
    intro p E
    refine msr (fun e => 301 - e) (fun e => ∀ (J2 : Jm), nxF J J2 → J2 313 17 = (e : Int) → J2 313 18 = (p : Int) → e ≤ 301 → (48 ≤ seeT J p ∧ seeT J p ≤ 57) → ((e = p + 1 ∧ J2 313 20 = seeT J p - 48) ∨ (p + 2 ≤ e ∧ (48 ≤ seeT J (p + 1) ∧ seeT J (p + 1) ≤ 57) ∧ J2 313 20 = 10 * (seeT J p - 48) + seeT J (p + 1) - 48)) → rE dgB (seeT J) e = E → (∀ J3, nxF J J3 → J3 313 17 = (E : Int) → J3 313 18 = (p : Int) → J3 313 20 = tkV (seeT J) p → J3 313 19 = (if E ≤ p + 2 then 2 else 1) → Q (.inl none) S J3) → V w 1 mX5_next 159 [some (vR 313), none] [] S J2 Q) ?_
    intro e ih J2 f2 e1 e2 he3 hp hv hE KK
    have e4 : J2 313 16 = J 313 16 := f2 _ _ (by omega)
    have hse := seeT_in hT e
    have hv0 : 0 ≤ J2 313 20 ∧ J2 313 20 ≤ 99 := by omega
    have hpe : p < e := by omega
    refine gX5_next_159 (J := J2) hL ?_
    rw [e1, e2, e4, f2.see, Int.toNat_natCast]
    rw [rE_eq (by decide) hs0 e] at hE
    refine And.intro (by omega) (And.intro (by omega) ?_)
    refine br_i (fun hb => ?_) (fun hb => ?_)
    · have he : e < 300 := Nat.lt_of_not_le fun q => by rw [hs0 e q] at hb; omega
      rw [if_pos (dgB_i.mpr hb)] at hE
      refine And.intro (by omega) ?_
      refine br_i (fun hc => ?_) (fun hc => ?_)
      · refine And.intro (by omega) ?_
        refine ih (e + 1) (by omega) _ (f2.up (by omega)) (by rw [up_self]; push_cast; rfl) (by simp [up, e2]) (by omega) hp (Or.inr ?_) hE KK
        have : (up J2 313 17 ((e : Int) + 1)) 313 20 = J2 313 20 := by simp [up]
        rw [this]
        omega
      · obtain ⟨rfl, hv1⟩ : e = p + 1 ∧ J2 313 20 = seeT J p - 48 := by omega
        (repeat' (first | (refine And.intro ?_ ?_; omega)))
        refine ih (p + 1 + 1) (by omega) _ ((f2.up (by omega)).up (by omega)) (by rw [up_self]; push_cast; rfl) (by simp [up, e2]) (by omega) hp (Or.inr ⟨by omega, hb, ?_⟩) hE KK
        rw [up_nk (by decide), up_self, hv1]
    · rw [if_neg (fun q => hb (dgB_i.mp q))] at hE
      subst hE
      have htv : J2 313 20 = tkV (seeT J) p := by
        unfold tkV
        rw [if_pos (dgB_i.mpr hp)]
        rcases hv with ⟨rfl, q⟩ | ⟨q1, q2, q3⟩
        · rw [if_neg (fun q => hb (dgB_i.mp q)), q]
        · rw [if_pos (dgB_i.mpr q2), q3]
      refine And.intro (by omega) ?_
      refine br_i (fun hc => ?_) (fun hc => ?_)
      · exact KK _ (f2.up (by omega)) (by simp [up, e1]) (by simp [up, e2]) (by rw [← htv]; simp [up]) (by rw [up_self, if_pos (by omega)])
      · exact KK _ (f2.up (by omega)) (by simp [up, e1]) (by simp [up, e2]) (by rw [← htv]; simp [up]) (by rw [up_self, if_neg (by omega)])
  -- behind the white space
  have r52 : ∀ (J2 : Jm), nxF J J2 → J2 313 17 = ((tP J a : Nat) : Int) → tP J a ≤ 300 → V w 1 mX5_next 52 [some (vR 313), none] [] S J2 Q := by
    intro J2 f2 e1 hp3
    have e4 : J2 313 16 = J 313 16 := f2 _ _ (by omega)
    have e5 : J2 325 (tP J a) = J 325 (tP J a) := f2 _ _ (by omega)
    have KK : ∀ J3, nxF J J3 → J3 313 17 = ((tE J a : Nat) : Int) → J3 313 18 = ((tP J a : Nat) : Int) → J3 313 19 = tK J a → (tK J a ≠ 0 → J3 313 20 = tV J a) → Q (.inl none) S J3 := fun J3 h1 h2 h3 h4 h5 => K J3 ⟨h1, h2, h3, h4, h5⟩
    unfold tE tK tV at KK
    generalize tP J a = p at e1 hp3 e5 KK
    refine gX5_next_52 (J := J2) hL ?_
    rw [e1, e4, Int.toNat_natCast, e5]
    refine br_i (fun hb => ?_) (fun hb => ?_)
    · have es : seeT J p = J 325 p := if_pos hb
      have hin := seeT_in hT p
      rw [← es]
      unfold tkE tkK at KK
      rw [if_neg (show ¬ J 313 16 ≤ (p : Int) by omega), if_neg (show ¬ J 313 16 ≤ (p : Int) by omega)] at KK
      (repeat' (first | (refine And.intro ?_ ?_; omega)))
      refine br_i (fun hc => ?_) (fun hc => ?_)
      · rw [if_pos (smB_i.mpr hc), if_pos (smB_i.mpr hc)] at KK
        have hE : rE smB (seeT J) (p + 1) = rE smB (seeT J) p := by
          rw [rE_eq (by decide) hs0 p, if_pos (smB_i.mpr hc)]
        refine r109 p _ (p + 1) _ (((f2.up (by omega)).up (by omega)).up (by omega)) (by simp [up]) (by simp [up]) up_self hE (fun J3 h1 h2 h3 h4 h5 => KK J3 h1 h2 h3 h5 (fun _ => ?_))
        rw [h4]
        unfold tkV
        rw [if_neg (fun q => by have := dgB_i.mp q; omega)]
      · rw [if_neg (fun q => hc (smB_i.mp q)), if_neg (fun q => hc (smB_i.mp q))] at KK
        refine br_i (fun hc2 => ?_) (fun hc2 => ?_)
        · rw [if_pos (dgB_i.mpr hc2), if_pos (dgB_i.mpr hc2)] at KK
          have hE : rE dgB (seeT J) (p + 1) = rE dgB (seeT J) p := by
            rw [rE_eq (by decide) hs0 p, if_pos (dgB_i.mpr hc2)]
          (repeat' (first | (refine And.intro ?_ ?_; omega)))
          exact r159 p _ (p + 1) _ ((((f2.up (by omega)).up (by omega)).up (by omega)).up (by omega)) (by simp [up]) (by simp [up]) (by omega) hc2 (Or.inl ⟨rfl, up_self⟩) hE (fun J3 h1 h2 h3 h4 h5 => KK J3 h1 h2 h3 h5 (fun _ => h4))
        · rw [if_neg (fun q => hc2 (dgB_i.mp q)), if_neg (fun q => hc2 (dgB_i.mp q))] at KK
          refine KK _ ((((f2.up (by omega)).up (by omega)).up (by omega)).up (by omega)) (by simp [up]) (by simp [up]) up_self (fun _ => ?_)
          unfold tkV
          rw [if_neg (fun q => hc2 (dgB_i.mp q))]
          simp [up]
    · unfold tkE tkK at KK
      rw [if_pos (show J 313 16 ≤ (p : Int) by omega), if_pos (show J 313 16 ≤ (p : Int) by omega)] at KK
      exact KK _ ((f2.up (by omega)).up (by omega)) (by simp [up, e1]) (by simp [up]) up_self (fun q => absurd rfl q)
  -- the white space
  have r0 : ∀ (e : Nat) (J2 : Jm), nxF J J2 → J2 313 17 = (e : Int) → e ≤ 300 → rE wsB (seeT J) e = tP J a → V w 1 mX5_next 0 [some (vR 313), none] [] S J2 Q := by
    refine msr (fun e => 301 - e) (fun e => ∀ (J2 : Jm), nxF J J2 → J2 313 17 = (e : Int) → e ≤ 300 → rE wsB (seeT J) e = tP J a → V w 1 mX5_next 0 [some (vR 313), none] [] S J2 Q) ?_
    intro e ih J2 f2 e1 he hE
    have e4 : J2 313 16 = J 313 16 := f2 _ _ (by omega)
    have e5 : J2 325 e = J 325 e := f2 _ _ (by omega)
    have hin := (rE_in (P := wsB) (by decide) hs0 e).2 he
    rw [hE] at hin
    have stop : wsB (seeT J e) ≠ true → V w 1 mX5_next 52 [some (vR 313), none] [] S J2 Q := by
      intro q
      rw [rE_eq (by decide) hs0 e, if_neg q] at hE
      exact r52 J2 f2 (by rw [e1, hE]) hin
    have go : wsB (seeT J e) = true → e < 300 → V w 1 mX5_next 0 [some (vR 313), none] [] S (up J2 313 17 ((e : Int) + 1)) Q := by
      intro q h3
      rw [rE_eq (by decide) hs0 e, if_pos q] at hE
      exact ih (e + 1) (by omega) _ (f2.up (by omega)) (by rw [up_self]; push_cast; rfl) (by omega) hE
    refine gX5_next_0 (J := J2) hL ?_
    rw [e1, e4, Int.toNat_natCast, e5]
    refine br_i (fun hb => ?_) (fun hb => ?_)
    · refine stop (fun q => ?_)
      have : seeT J e = 0 := if_neg (by omega)
      rw [this] at q
      cases q
    · have es : seeT J e = J 325 e := if_pos (by omega)
      rw [← es]
      (repeat' (first | (refine And.intro ?_ ?_; omega)))
      refine br_i (fun hc => ?_) (fun hc => ?_)
      · (repeat' (first | (refine And.intro ?_ ?_; omega)))
        exact go (wsB_i.mpr (Or.inl hc)) (by omega)
      · (repeat' (first | (refine And.intro ?_ ?_; omega)))
        refine br_i (fun hc2 => ?_) (fun hc2 => ?_)
        · (repeat' (first | (refine And.intro ?_ ?_; omega)))
          exact go (wsB_i.mpr (Or.inr hc2)) (by omega)
        · exact stop (fun q => by have := wsB_i.mp q; omega)
  exact r0 a J nxF.rfl' ha h300 rfl

theorem s_nextR {w : Wd} {S : Sh} {J : Jm} {Q : Out → Sh → Jm → Prop} (hL : Lay S) (hT : MTape J) (h0 : 0 ≤ J 313 17 ∧ J 313 17 ≤ 300) (K : ∀ J', PNx J (J 313 17).toNat J' → Q (.inl none) S J') : V w 1 mX5_next 0 (ent mX5_next [vR 313]) [] S J Q := s_next hL _ hT (by omega) (by omega) K
