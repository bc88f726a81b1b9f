/-! the model: a name is spelled -/
set_option maxRecDepth 100000
theorem gX5_spells_0 {w : Wd} {S : Sh} {J : Jm} {Q : Out → Sh → Jm → Prop} (hL : Lay S) (n : Nat) (known : Int)
    (K : (0 ≤ J 313 8 ∧ J 313 8 ≤ 10) ∧ (((n : Nat) : Int) < 7) ∧ V w 2 mX5_spells 16 [some (vR 313), some (vI ((n : Nat) : Int)), none, some (vI (rbOf J known)), some (vI 0), none, none, none] [] S (up J 354 n 0) Q) :
    V w 2 mX5_spells 0 (ent mX5_spells [vR 313, vI ((n : Nat) : Int), vI known]) [] S J Q := by
  show V w 2 mX5_spells 0 [some (vR 313), some (vI ((n : Nat) : Int)), some (vI known), none, none, none, none, none] [] S J Q
  refine v_aload_n dX5_spells_0 rfl ?_
  refine v_iload_n dX5_spells_1 rfl ?_
  refine v_callV (d' := 0) (rest := []) [vI known] dX5_spells_2 vrX5_326_5 (L_313 hL).1 rfl rfl (one_I one_nil) (Nat.le_of_ble_eq_true rfl) (Nat.le_of_ble_eq_true rfl) (Nat.le_of_ble_eq_true rfl) ?_
  obtain ⟨o1, K⟩ := K
  refine s_rulesBy hL known o1 ?_
  show V w 2 mX5_spells 5 [some (vR 313), some (vI ((n : Nat) : Int)), some (vI known), none, none, none, none, none] [vI (rbOf J known)] S J Q
  refine v_istore_n dX5_spells_5 (Nat.le_of_ble_eq_true rfl) ?_
  show V w 2 mX5_spells 6 [some (vR 313), some (vI ((n : Nat) : Int)), some (vI known), some (vI (rbOf J known)), none, none, none, none] [] S J Q
  refine v_aload_n dX5_spells_6 rfl ?_
  refine v_getR dX5_spells_7 frX5_139_5 rfl (L_313 hL).1 (LR_313_62 hL) (Or.inl rfl) ?_
  refine v_iload_n dX5_spells_10 rfl ?_
  refine v_iconst dX5_spells_11 (in_lit (by decide)) ?_
  obtain ⟨o2, K⟩ := K
  refine st_354 dX5_spells_12 hL (by omega) o2 ?_
  show V w 2 mX5_spells 13 [some (vR 313), some (vI ((n : Nat) : Int)), some (vI known), some (vI (rbOf J known)), none, none, none, none] [] S (up J 354 n 0) Q
  refine v_iconst dX5_spells_13 (in_lit (by decide)) ?_
  refine v_istore dX5_spells_14 (Nat.le_of_ble_eq_true rfl) ?_
  show V w 2 mX5_spells 16 [some (vR 313), some (vI ((n : Nat) : Int)), some (vI known), some (vI (rbOf J known)), some (vI 0), none, none, none] [] S (up J 354 n 0) Q
  exact v_forget (fg_some (fg_some (fg_none (fg_some (fg_some (fg_none (fg_none (fg_none fg_nil)))))))) K
theorem gX5_spells_16 {w : Wd} {S : Sh} {J : Jm} {Q : Out → Sh → Jm → Prop} (hL : Lay S) (n : Nat) (t : Int) (i : Nat)
    (K : (((n : Nat) : Int) < 7) ∧ Br (J 348 n ≤ ((i : Nat) : Int)) (V w 2 mX5_spells 60 [some (vR 313), some (vI ((n : Nat) : Int)), none, some (vI t), some (vI 0), none, none, none] [] S J Q) ((-2147483648 ≤ 8 * ((n : Nat) : Int) ∧ 8 * ((n : Nat) : Int) ≤ 2147483647) ∧ (-2147483648 ≤ ((8 * n : Nat) : Int) + ((i : Nat) : Int) ∧ ((8 * n : Nat) : Int) + ((i : Nat) : Int) ≤ 2147483647) ∧ ((((8 * n) + i : Nat) : Int) < 56) ∧ (MTxt J) ∧ (-1 ≤ t ∧ t < J 313 8) ∧ (((i : Nat) : Int) < 8) ∧ (-2147483648 ≤ ((i : Nat) : Int) + 1 ∧ ((i : Nat) : Int) + 1 ≤ 2147483647) ∧ V w 2 mX5_spells 16 [some (vR 313), some (vI ((n : Nat) : Int)), none, some (vI t), some (vI ((i + 1 : Nat) : Int)), none, none, none] [] S (up J 355 i (wrI J t (J 349 ((8 * n) + i)))) Q)) :
    V w 2 mX5_spells 16 [some (vR 313), some (vI ((n : Nat) : Int)), none, some (vI t), some (vI ((i : Nat) : Int)), none, none, none] [] S J Q := by
  refine v_iload dX5_spells_16 rfl ?_
  refine v_aload_n dX5_spells_18 rfl ?_
  refine v_getR dX5_spells_19 frX5_121_5 rfl (L_313 hL).1 (LR_313_56 hL) (Or.inl rfl) ?_
  refine v_iload_n dX5_spells_22 rfl ?_
  obtain ⟨o1, K⟩ := K
  refine ld_348 dX5_spells_23 hL (by omega) o1 ?_
  show V w 2 mX5_spells 24 [some (vR 313), some (vI ((n : Nat) : Int)), none, some (vI t), some (vI ((i : Nat) : Int)), none, none, none] [vI (J 348 n), vI ((i : Nat) : Int)] S J Q
  obtain ⟨K1, K2⟩ := K
  refine v_icmp_ge 57 dX5_spells_24 (by decide) (fun c1 => ?_) (fun c1 => ?_)
  · have K := K1 c1
    refine v_iconst dX5_spells_57 (in_lit (by decide)) ?_
    refine v_istore dX5_spells_58 (Nat.le_of_ble_eq_true rfl) ?_
    show V w 2 mX5_spells 60 [some (vR 313), some (vI ((n : Nat) : Int)), none, some (vI t), some (vI 0), none, none, none] [] S J Q
    exact K
  · have K := K2 c1
    refine v_aload_n dX5_spells_27 rfl ?_
    refine v_getR dX5_spells_28 frX5_142_5 rfl (L_313 hL).1 (LR_313_63 hL) (Or.inl rfl) ?_
    refine v_iload dX5_spells_31 rfl ?_
    refine v_aload_n dX5_spells_33 rfl ?_
    refine v_iload_n dX5_spells_34 rfl ?_
    refine v_aload_n dX5_spells_35 rfl ?_
    refine v_getR dX5_spells_36 frX5_124_5 rfl (L_313 hL).1 (LR_313_57 hL) (Or.inl rfl) ?_
    refine v_bipush dX5_spells_39 (by decide) (in_lit (by decide)) ?_
    refine v_iload_n dX5_spells_41 rfl ?_
    obtain ⟨o2, K⟩ := K
    refine v_imul dX5_spells_42 o2 ?_
    show V w 2 mX5_spells 43 [some (vR 313), some (vI ((n : Nat) : Int)), none, some (vI t), some (vI ((i : Nat) : Int)), none, none, none] [vI ((8 * n : Nat) : Int), vR 349, vI t, vR 313, vI ((i : Nat) : Int), vR 355] S J Q
    refine v_iload dX5_spells_43 rfl ?_
    obtain ⟨o3, K⟩ := K
    refine v_iadd dX5_spells_45 o3 ?_
    show V w 2 mX5_spells 46 [some (vR 313), some (vI ((n : Nat) : Int)), none, some (vI t), some (vI ((i : Nat) : Int)), none, none, none] [vI (((8 * n) + i : Nat) : Int), vR 349, vI t, vR 313, vI ((i : Nat) : Int), vR 355] S J Q
    obtain ⟨o4, K⟩ := K
    refine ld_349 dX5_spells_46 hL (by omega) o4 ?_
    show V w 2 mX5_spells 47 [some (vR 313), some (vI ((n : Nat) : Int)), none, some (vI t), some (vI ((i : Nat) : Int)), none, none, none] [vI (J 349 ((8 * n) + i)), vI t, vR 313, vI ((i : Nat) : Int), vR 355] S J Q
    refine v_callV (d' := 0) (rest := [vI ((i : Nat) : Int), vR 355]) [vI t, vI (J 349 ((8 * n) + i))] dX5_spells_47 vrX5_389_5 (L_313 hL).1 rfl rfl (one_I (one_I one_nil)) (Nat.le_of_ble_eq_true rfl) (Nat.le_of_ble_eq_true rfl) (Nat.le_of_ble_eq_true rfl) ?_
    obtain ⟨o5, K⟩ := K
    obtain ⟨o6, K⟩ := K
    refine s_writes hL t (J 349 ((8 * n) + i)) o5 o6 ?_
    show V w 2 mX5_spells 50 [some (vR 313), some (vI ((n : Nat) : Int)), none, some (vI t), some (vI ((i : Nat) : Int)), none, none, none] [vI (wrI J t (J 349 ((8 * n) + i))), vI ((i : Nat) : Int), vR 355] S J Q
    obtain ⟨o7, K⟩ := K
    refine st_355 dX5_spells_50 hL (by omega) o7 ?_
    show V w 2 mX5_spells 51 [some (vR 313), some (vI ((n : Nat) : Int)), none, some (vI t), some (vI ((i : Nat) : Int)), none, none, none] [] S (up J 355 i (wrI J t (J 349 ((8 * n) + i)))) Q
    obtain ⟨o8, K⟩ := K
    refine v_iinc dX5_spells_51 rfl o8 ?_
    show V w 2 mX5_spells 54 [some (vR 313), some (vI ((n : Nat) : Int)), none, some (vI t), some (vI ((i + 1 : Nat) : Int)), none, none, none] [] S (up J 355 i (wrI J t (J 349 ((8 * n) + i)))) Q
    refine v_goto 16 dX5_spells_54 (by decide) ?_
    exact K
theorem gX5_spells_60 {w : Wd} {S : Sh} {J : Jm} {Q : Out → Sh → Jm → Prop} (hL : Lay S) (n : Nat) (t : Int) (i : Nat)
    (K : (((n : Nat) : Int) < 7) ∧ Br (J 348 n ≤ ((i : Nat) : Int)) (Q (.inl none) S J) ((((i : Nat) : Int) < 8) ∧ Br (vwI (J 355 i) = (-1)) ((-2147483648 ≤ ((i : Nat) : Int) + 1 ∧ ((i : Nat) : Int) + 1 ≤ 2147483647) ∧ Br (((i + 1 : Nat) : Int) = J 348 n) (V w 1 mX5_vowelFor 0 (ent mX5_vowelFor [vR 313, vI ((i : Nat) : Int), vI (J 348 n)]) [] S J (CallQ w 2 mX5_spells 166 [some (vR 313), some (vI ((n : Nat) : Int)), none, some (vI t), some (vI ((i : Nat) : Int)), some (vI (vwI (J 355 i))), some (vI 1), none] [] Q)) ((((i + 1 : Nat) : Int) < 8) ∧ Br (vwI (J 355 (i + 1)) = (-1)) (V w 1 mX5_vowelFor 0 (ent mX5_vowelFor [vR 313, vI ((i : Nat) : Int), vI (J 348 n)]) [] S J (CallQ w 2 mX5_spells 166 [some (vR 313), some (vI ((n : Nat) : Int)), none, some (vI t), some (vI ((i : Nat) : Int)), some (vI (vwI (J 355 i))), some (vI 1), none] [] Q)) (V w 1 mX5_vowelFor 0 (ent mX5_vowelFor [vR 313, vI ((i : Nat) : Int), vI (J 348 n)]) [] S J (CallQ w 2 mX5_spells 166 [some (vR 313), some (vI ((n : Nat) : Int)), none, some (vI t), some (vI ((i : Nat) : Int)), some (vI (vwI (J 355 i))), some (vI 0), none] [] Q)))) (Br (((i : Nat) : Int) = 0) (V w 0 mX5_addCell 0 (ent mX5_addCell [vR 313, vI ((n : Nat) : Int), vI 0, vI (vwI (J 355 i))]) [] S J (CallQ w 2 mX5_spells 115 [some (vR 313), some (vI ((n : Nat) : Int)), none, some (vI t), some (vI ((i : Nat) : Int)), some (vI (vwI (J 355 i))), none, none] [] Q)) ((-2147483648 ≤ ((i : Nat) : Int) - 1 ∧ ((i : Nat) : Int) - 1 ≤ 2147483647) ∧ (0 ≤ ((i : Nat) : Int) - 1) ∧ (((i : Nat) : Int) - 1 < 8) ∧ Br (vwI (J 355 (((i : Nat) : Int) - 1).toNat) = (-1)) ((-2147483648 ≤ ((i : Nat) : Int) + 1 ∧ ((i : Nat) : Int) + 1 ≤ 2147483647) ∧ V w 2 mX5_spells 60 [some (vR 313), some (vI ((n : Nat) : Int)), none, some (vI t), some (vI ((i + 1 : Nat) : Int)), none, none, none] [] S J Q) (V w 0 mX5_addCell 0 (ent mX5_addCell [vR 313, vI ((n : Nat) : Int), vI 0, vI (vwI (J 355 i))]) [] S J (CallQ w 2 mX5_spells 115 [some (vR 313), some (vI ((n : Nat) : Int)), none, some (vI t), some (vI ((i : Nat) : Int)), some (vI (vwI (J 355 i))), none, none] [] Q)))))) :
    V w 2 mX5_spells 60 [some (vR 313), some (vI ((n : Nat) : Int)), none, some (vI t), some (vI ((i : Nat) : Int)), none, none, none] [] S J Q := by
  refine v_iload dX5_spells_60 rfl ?_
  refine v_aload_n dX5_spells_62 rfl ?_
  refine v_getR dX5_spells_63 frX5_121_5 rfl (L_313 hL).1 (LR_313_56 hL) (Or.inl rfl) ?_
  refine v_iload_n dX5_spells_66 rfl ?_
  obtain ⟨o1, K⟩ := K
  refine ld_348 dX5_spells_67 hL (by omega) o1 ?_
  show V w 2 mX5_spells 68 [some (vR 313), some (vI ((n : Nat) : Int)), none, some (vI t), some (vI ((i : Nat) : Int)), none, none, none] [vI (J 348 n), vI ((i : Nat) : Int)] S J Q
  obtain ⟨K1, K2⟩ := K
  refine v_icmp_ge 217 dX5_spells_68 (by decide) (fun c1 => ?_) (fun c1 => ?_)
  · have K := K1 c1
    exact v_vret dX5_spells_217 rfl K
  · have K := K2 c1
    refine v_aload_n dX5_spells_71 rfl ?_
    refine v_getR dX5_spells_72 frX5_142_5 rfl (L_313 hL).1 (LR_313_63 hL) (Or.inl rfl) ?_
    refine v_iload dX5_spells_75 rfl ?_
    obtain ⟨o2, K⟩ := K
    refine ld_355 dX5_spells_77 hL (by omega) o2 ?_
    show V w 2 mX5_spells 78 [some (vR 313), some (vI ((n : Nat) : Int)), none, some (vI t), some (vI ((i : Nat) : Int)), none, none, none] [vI (J 355 i)] S J Q
    refine v_callS (d' := 0) (rest := []) [vI (J 355 i)] dX5_spells_78 srX5_278 rfl (one_I one_nil) (Nat.le_of_ble_eq_true rfl) (Nat.le_of_ble_eq_true rfl) (Nat.le_of_ble_eq_true rfl) ?_
    refine s_vowel hL (J 355 i)  ?_
    show V w 2 mX5_spells 81 [some (vR 313), some (vI ((n : Nat) : Int)), none, some (vI t), some (vI ((i : Nat) : Int)), none, none, none] [vI (vwI (J 355 i))] S J Q
    refine v_istore dX5_spells_81 (Nat.le_of_ble_eq_true rfl) ?_
    show V w 2 mX5_spells 83 [some (vR 313), some (vI ((n : Nat) : Int)), none, some (vI t), some (vI ((i : Nat) : Int)), some (vI (vwI (J 355 i))), none, none] [] S J Q
    refine v_iload dX5_spells_83 rfl ?_
    refine v_iconst dX5_spells_85 (in_lit (by decide)) ?_
    obtain ⟨K1, K2⟩ := K
    refine v_icmp_eq 121 dX5_spells_86 (by decide) (fun c2 => ?_) (fun c2 => ?_)
    · have K := K1 c2
      refine v_iload dX5_spells_121 rfl ?_
      refine v_iconst dX5_spells_123 (in_lit (by decide)) ?_
      obtain ⟨o3, K⟩ := K
      refine v_iadd dX5_spells_124 o3 ?_
      show V w 2 mX5_spells 125 [some (vR 313), some (vI ((n : Nat) : Int)), none, some (vI t), some (vI ((i : Nat) : Int)), some (vI (vwI (J 355 i))), none, none] [vI ((i + 1 : Nat) : Int)] S J Q
      refine v_aload_n dX5_spells_125 rfl ?_
      refine v_getR dX5_spells_126 frX5_121_5 rfl (L_313 hL).1 (LR_313_56 hL) (Or.inl rfl) ?_
      refine v_iload_n dX5_spells_129 rfl ?_
      refine ld_348 dX5_spells_130 hL (by omega) o1 ?_
      show V w 2 mX5_spells 131 [some (vR 313), some (vI ((n : Nat) : Int)), none, some (vI t), some (vI ((i : Nat) : Int)), some (vI (vwI (J 355 i))), none, none] [vI (J 348 n), vI ((i + 1 : Nat) : Int)] S J Q
      obtain ⟨K1, K2⟩ := K
      refine v_icmp_eq 150 dX5_spells_131 (by decide) (fun c3 => ?_) (fun c3 => ?_)
      · have K := K1 c3
        refine v_iconst dX5_spells_150 (in_lit (by decide)) ?_
        refine v_goto 155 dX5_spells_151 (by decide) ?_
        refine v_istore dX5_spells_155 (Nat.le_of_ble_eq_true rfl) ?_
        show V w 2 mX5_spells 157 [some (vR 313), some (vI ((n : Nat) : Int)), none, some (vI t), some (vI ((i : Nat) : Int)), some (vI (vwI (J 355 i))), some (vI 1), none] [] S J Q
        refine v_aload_n dX5_spells_157 rfl ?_
        refine v_iload dX5_spells_158 rfl ?_
        refine v_aload_n dX5_spells_160 rfl ?_
        refine v_getR dX5_spells_161 frX5_121_5 rfl (L_313 hL).1 (LR_313_56 hL) (Or.inl rfl) ?_
        refine v_iload_n dX5_spells_164 rfl ?_
        refine ld_348 dX5_spells_165 hL (by omega) o1 ?_
        show V w 2 mX5_spells 166 [some (vR 313), some (vI ((n : Nat) : Int)), none, some (vI t), some (vI ((i : Nat) : Int)), some (vI (vwI (J 355 i))), some (vI 1), none] [vI (J 348 n), vI ((i : Nat) : Int), vR 313] S J Q
        refine v_callV (d' := 1) (rest := []) [vI ((i : Nat) : Int), vI (J 348 n)] dX5_spells_166 vrX5_395_5 (L_313 hL).1 rfl rfl (one_I (one_I one_nil)) (Nat.le_of_ble_eq_true rfl) (Nat.le_of_ble_eq_true rfl) (Nat.le_of_ble_eq_true rfl) ?_
        exact K
      · have K := K2 c3
        refine v_aload_n dX5_spells_134 rfl ?_
        refine v_getR dX5_spells_135 frX5_142_5 rfl (L_313 hL).1 (LR_313_63 hL) (Or.inl rfl) ?_
        refine v_iload dX5_spells_138 rfl ?_
        refine v_iconst dX5_spells_140 (in_lit (by decide)) ?_
        refine v_iadd dX5_spells_141 o3 ?_
        show V w 2 mX5_spells 142 [some (vR 313), some (vI ((n : Nat) : Int)), none, some (vI t), some (vI ((i : Nat) : Int)), some (vI (vwI (J 355 i))), none, none] [vI ((i + 1 : Nat) : Int), vR 355] S J Q
        obtain ⟨o4, K⟩ := K
        refine ld_355 dX5_spells_142 hL (by omega) o4 ?_
        show V w 2 mX5_spells 143 [some (vR 313), some (vI ((n : Nat) : Int)), none, some (vI t), some (vI ((i : Nat) : Int)), some (vI (vwI (J 355 i))), none, none] [vI (J 355 (i + 1))] S J Q
        refine v_callS (d' := 0) (rest := []) [vI (J 355 (i + 1))] dX5_spells_143 srX5_278 rfl (one_I one_nil) (Nat.le_of_ble_eq_true rfl) (Nat.le_of_ble_eq_true rfl) (Nat.le_of_ble_eq_true rfl) ?_
        refine s_vowel hL (J 355 (i + 1))  ?_
        show V w 2 mX5_spells 146 [some (vR 313), some (vI ((n : Nat) : Int)), none, some (vI t), some (vI ((i : Nat) : Int)), some (vI (vwI (J 355 i))), none, none] [vI (vwI (J 355 (i + 1)))] S J Q
        refine v_iconst dX5_spells_146 (in_lit (by decide)) ?_
        obtain ⟨K1, K2⟩ := K
        refine v_icmp_ne 154 dX5_spells_147 (by decide) (fun c4 => ?_) (fun c4 => ?_)
        · have K := K2 c4
          refine v_iconst dX5_spells_154 (in_lit (by decide)) ?_
          refine v_istore dX5_spells_155 (Nat.le_of_ble_eq_true rfl) ?_
          show V w 2 mX5_spells 157 [some (vR 313), some (vI ((n : Nat) : Int)), none, some (vI t), some (vI ((i : Nat) : Int)), some (vI (vwI (J 355 i))), some (vI 0), none] [] S J Q
          refine v_aload_n dX5_spells_157 rfl ?_
          refine v_iload dX5_spells_158 rfl ?_
          refine v_aload_n dX5_spells_160 rfl ?_
          refine v_getR dX5_spells_161 frX5_121_5 rfl (L_313 hL).1 (LR_313_56 hL) (Or.inl rfl) ?_
          refine v_iload_n dX5_spells_164 rfl ?_
          refine ld_348 dX5_spells_165 hL (by omega) o1 ?_
          show V w 2 mX5_spells 166 [some (vR 313), some (vI ((n : Nat) : Int)), none, some (vI t), some (vI ((i : Nat) : Int)), some (vI (vwI (J 355 i))), some (vI 0), none] [vI (J 348 n), vI ((i : Nat) : Int), vR 313] S J Q
          refine v_callV (d' := 1) (rest := []) [vI ((i : Nat) : Int), vI (J 348 n)] dX5_spells_166 vrX5_395_5 (L_313 hL).1 rfl rfl (one_I (one_I one_nil)) (Nat.le_of_ble_eq_true rfl) (Nat.le_of_ble_eq_true rfl) (Nat.le_of_ble_eq_true rfl) ?_
          exact K
        · have K := K1 c4
          refine v_iconst dX5_spells_150 (in_lit (by decide)) ?_
          refine v_goto 155 dX5_spells_151 (by decide) ?_
          refine v_istore dX5_spells_155 (Nat.le_of_ble_eq_true rfl) ?_
          show V w 2 mX5_spells 157 [some (vR 313), some (vI ((n : Nat) : Int)), none, some (vI t), some (vI ((i : Nat) : Int)), some (vI (vwI (J 355 i))), some (vI 1), none] [] S J Q
          refine v_aload_n dX5_spells_157 rfl ?_
          refine v_iload dX5_spells_158 rfl ?_
          refine v_aload_n dX5_spells_160 rfl ?_
          refine v_getR dX5_spells_161 frX5_121_5 rfl (L_313 hL).1 (LR_313_56 hL) (Or.inl rfl) ?_
          refine v_iload_n dX5_spells_164 rfl ?_
          refine ld_348 dX5_spells_165 hL (by omega) o1 ?_
          show V w 2 mX5_spells 166 [some (vR 313), some (vI ((n : Nat) : Int)), none, some (vI t), some (vI ((i : Nat) : Int)), some (vI (vwI (J 355 i))), some (vI 1), none] [vI (J 348 n), vI ((i : Nat) : Int), vR 313] S J Q
          refine v_callV (d' := 1) (rest := []) [vI ((i : Nat) : Int), vI (J 348 n)] dX5_spells_166 vrX5_395_5 (L_313 hL).1 rfl rfl (one_I (one_I one_nil)) (Nat.le_of_ble_eq_true rfl) (Nat.le_of_ble_eq_true rfl) (Nat.le_of_ble_eq_true rfl) ?_
          exact K
    · have K := K2 c2
      refine v_iload dX5_spells_89 rfl ?_
      obtain ⟨K1, K2⟩ := K
      refine v_if_eq 110 dX5_spells_91 (by decide) (fun c5 => ?_) (fun c5 => ?_)
      · have K := K1 c5
        refine v_aload_n dX5_spells_110 rfl ?_
        refine v_iload_n dX5_spells_111 rfl ?_
        refine v_iconst dX5_spells_112 (in_lit (by decide)) ?_
        refine v_iload dX5_spells_113 rfl ?_
        refine v_callV (d' := 0) (rest := []) [vI ((n : Nat) : Int), vI 0, vI (vwI (J 355 i))] dX5_spells_115 vrX5_392_5 (L_313 hL).1 rfl rfl (one_I (one_I (one_I one_nil))) (Nat.le_of_ble_eq_true rfl) (Nat.le_of_ble_eq_true rfl) (Nat.le_of_ble_eq_true rfl) ?_
        exact K
      · have K := K2 c5
        refine v_aload_n dX5_spells_94 rfl ?_
        refine v_getR dX5_spells_95 frX5_142_5 rfl (L_313 hL).1 (LR_313_63 hL) (Or.inl rfl) ?_
        refine v_iload dX5_spells_98 rfl ?_
        refine v_iconst dX5_spells_100 (in_lit (by decide)) ?_
        obtain ⟨o5, K⟩ := K
        refine v_isub dX5_spells_101 o5 ?_
        obtain ⟨o6, K⟩ := K
        obtain ⟨o7, K⟩ := K
        refine ld_355 dX5_spells_102 hL o6 o7 ?_
        refine v_callS (d' := 0) (rest := []) [vI (J 355 (((i : Nat) : Int) - 1).toNat)] dX5_spells_103 srX5_278 rfl (one_I one_nil) (Nat.le_of_ble_eq_true rfl) (Nat.le_of_ble_eq_true rfl) (Nat.le_of_ble_eq_true rfl) ?_
        refine s_vowel hL (J 355 (((i : Nat) : Int) - 1).toNat)  ?_
        show V w 2 mX5_spells 106 [some (vR 313), some (vI ((n : Nat) : Int)), none, some (vI t), some (vI ((i : Nat) : Int)), some (vI (vwI (J 355 i))), none, none] [vI (vwI (J 355 (((i : Nat) : Int) - 1).toNat))] S J Q
        refine v_iconst dX5_spells_106 (in_lit (by decide)) ?_
        obtain ⟨K1, K2⟩ := K
        refine v_icmp_eq 211 dX5_spells_107 (by decide) (fun c6 => ?_) (fun c6 => ?_)
        · have K := K1 c6
          obtain ⟨o8, K⟩ := K
          refine v_iinc dX5_spells_211 rfl o8 ?_
          show V w 2 mX5_spells 214 [some (vR 313), some (vI ((n : Nat) : Int)), none, some (vI t), some (vI ((i + 1 : Nat) : Int)), some (vI (vwI (J 355 i))), none, none] [] S J Q
          refine v_goto 60 dX5_spells_214 (by decide) ?_
          exact v_forget (fg_some (fg_some (fg_none (fg_some (fg_some (fg_none (fg_none (fg_none fg_nil)))))))) K
        · have K := K2 c6
          refine v_aload_n dX5_spells_110 rfl ?_
          refine v_iload_n dX5_spells_111 rfl ?_
          refine v_iconst dX5_spells_112 (in_lit (by decide)) ?_
          refine v_iload dX5_spells_113 rfl ?_
          refine v_callV (d' := 0) (rest := []) [vI ((n : Nat) : Int), vI 0, vI (vwI (J 355 i))] dX5_spells_115 vrX5_392_5 (L_313 hL).1 rfl rfl (one_I (one_I (one_I one_nil))) (Nat.le_of_ble_eq_true rfl) (Nat.le_of_ble_eq_true rfl) (Nat.le_of_ble_eq_true rfl) ?_
          exact K
theorem gX5_spells_118 {w : Wd} {S : Sh} {J : Jm} {Q : Out → Sh → Jm → Prop} (hL : Lay S) (n : Nat) (t : Int) (i : Nat)
    (K : (-2147483648 ≤ ((i : Nat) : Int) + 1 ∧ ((i : Nat) : Int) + 1 ≤ 2147483647) ∧ V w 2 mX5_spells 60 [some (vR 313), some (vI ((n : Nat) : Int)), none, some (vI t), some (vI ((i + 1 : Nat) : Int)), none, none, none] [] S J Q) :
    V w 2 mX5_spells 118 [some (vR 313), some (vI ((n : Nat) : Int)), none, some (vI t), some (vI ((i : Nat) : Int)), none, none, none] [] S J Q := by
  refine v_goto 211 dX5_spells_118 (by decide) ?_
  obtain ⟨o1, K⟩ := K
  refine v_iinc dX5_spells_211 rfl o1 ?_
  show V w 2 mX5_spells 214 [some (vR 313), some (vI ((n : Nat) : Int)), none, some (vI t), some (vI ((i + 1 : Nat) : Int)), none, none, none] [] S J Q
  refine v_goto 60 dX5_spells_214 (by decide) ?_
  exact K
theorem gX5_spells_211 {w : Wd} {S : Sh} {J : Jm} {Q : Out → Sh → Jm → Prop} (hL : Lay S) (n : Nat) (t : Int) (i : Nat)
    (K : (-2147483648 ≤ ((i : Nat) : Int) + 1 ∧ ((i : Nat) : Int) + 1 ≤ 2147483647) ∧ V w 2 mX5_spells 60 [some (vR 313), some (vI ((n : Nat) : Int)), none, some (vI t), some (vI ((i + 1 : Nat) : Int)), none, none, none] [] S J Q) :
    V w 2 mX5_spells 211 [some (vR 313), some (vI ((n : Nat) : Int)), none, some (vI t), some (vI ((i : Nat) : Int)), none, none, none] [] S J Q := by
  obtain ⟨o1, K⟩ := K
  refine v_iinc dX5_spells_211 rfl o1 ?_
  show V w 2 mX5_spells 214 [some (vR 313), some (vI ((n : Nat) : Int)), none, some (vI t), some (vI ((i + 1 : Nat) : Int)), none, none, none] [] S J Q
  refine v_goto 60 dX5_spells_214 (by decide) ?_
  exact K
theorem gX5_spells_169 {w : Wd} {S : Sh} {J : Jm} {Q : Out → Sh → Jm → Prop} (hL : Lay S) (n : Nat) (t : Int) (i : Nat) (bare : Int) (wv : Int)
    (K : Br (wv = (-1)) ((-2147483648 ≤ ((i : Nat) : Int) + 1 ∧ ((i : Nat) : Int) + 1 ≤ 2147483647) ∧ V w 2 mX5_spells 60 [some (vR 313), some (vI ((n : Nat) : Int)), none, some (vI t), some (vI ((i + 1 : Nat) : Int)), none, none, none] [] S J Q) (Br (bare = 0) ((((i : Nat) : Int) < 8) ∧ V w 0 mX5_addCell 0 (ent mX5_addCell [vR 313, vI ((n : Nat) : Int), vI (J 355 i), vI wv]) [] S J (CallQ w 2 mX5_spells 208 [some (vR 313), some (vI ((n : Nat) : Int)), none, some (vI t), some (vI ((i : Nat) : Int)), none, some (vI bare), some (vI wv)] [] Q)) ((((i : Nat) : Int) < 8) ∧ (MTxt J) ∧ (-1 ≤ t ∧ t < J 313 8) ∧ Br (drI J t (J 355 i) = true) ((-2147483648 ≤ ((i : Nat) : Int) + 1 ∧ ((i : Nat) : Int) + 1 ≤ 2147483647) ∧ V w 2 mX5_spells 60 [some (vR 313), some (vI ((n : Nat) : Int)), none, some (vI t), some (vI ((i + 1 : Nat) : Int)), none, none, none] [] S J Q) (V w 0 mX5_addCell 0 (ent mX5_addCell [vR 313, vI ((n : Nat) : Int), vI (J 355 i), vI wv]) [] S J (CallQ w 2 mX5_spells 208 [some (vR 313), some (vI ((n : Nat) : Int)), none, some (vI t), some (vI ((i : Nat) : Int)), none, some (vI bare), some (vI wv)] [] Q))))) :
    V w 2 mX5_spells 169 [some (vR 313), some (vI ((n : Nat) : Int)), none, some (vI t), some (vI ((i : Nat) : Int)), none, some (vI bare), none] [vI wv] S J Q := by
  refine v_istore dX5_spells_169 (Nat.le_of_ble_eq_true rfl) ?_
  show V w 2 mX5_spells 171 [some (vR 313), some (vI ((n : Nat) : Int)), none, some (vI t), some (vI ((i : Nat) : Int)), none, some (vI bare), some (vI wv)] [] S J Q
  refine v_iload dX5_spells_171 rfl ?_
  refine v_iconst dX5_spells_173 (in_lit (by decide)) ?_
  obtain ⟨K1, K2⟩ := K
  refine v_icmp_eq 211 dX5_spells_174 (by decide) (fun c1 => ?_) (fun c1 => ?_)
  · have K := K1 c1
    obtain ⟨o1, K⟩ := K
    refine v_iinc dX5_spells_211 rfl o1 ?_
    show V w 2 mX5_spells 214 [some (vR 313), some (vI ((n : Nat) : Int)), none, some (vI t), some (vI ((i + 1 : Nat) : Int)), none, some (vI bare), some (vI wv)] [] S J Q
    refine v_goto 60 dX5_spells_214 (by decide) ?_
    exact v_forget (fg_some (fg_some (fg_none (fg_some (fg_some (fg_none (fg_none (fg_none fg_nil)))))))) K
  · have K := K2 c1
    refine v_iload dX5_spells_177 rfl ?_
    obtain ⟨K1, K2⟩ := K
    refine v_if_eq 197 dX5_spells_179 (by decide) (fun c2 => ?_) (fun c2 => ?_)
    · have K := K1 c2
      refine v_aload_n dX5_spells_197 rfl ?_
      refine v_iload_n dX5_spells_198 rfl ?_
      refine v_aload_n dX5_spells_199 rfl ?_
      refine v_getR dX5_spells_200 frX5_142_5 rfl (L_313 hL).1 (LR_313_63 hL) (Or.inl rfl) ?_
      refine v_iload dX5_spells_203 rfl ?_
      obtain ⟨o2, K⟩ := K
      refine ld_355 dX5_spells_205 hL (by omega) o2 ?_
      show V w 2 mX5_spells 206 [some (vR 313), some (vI ((n : Nat) : Int)), none, some (vI t), some (vI ((i : Nat) : Int)), none, some (vI bare), some (vI wv)] [vI (J 355 i), vI ((n : Nat) : Int), vR 313] S J Q
      refine v_iload dX5_spells_206 rfl ?_
      refine v_callV (d' := 0) (rest := []) [vI ((n : Nat) : Int), vI (J 355 i), vI wv] dX5_spells_208 vrX5_392_5 (L_313 hL).1 rfl rfl (one_I (one_I (one_I one_nil))) (Nat.le_of_ble_eq_true rfl) (Nat.le_of_ble_eq_true rfl) (Nat.le_of_ble_eq_true rfl) ?_
      exact K
    · have K := K2 c2
      refine v_aload_n dX5_spells_182 rfl ?_
      refine v_iload_n dX5_spells_183 rfl ?_
      refine v_aload_n dX5_spells_184 rfl ?_
      refine v_getR dX5_spells_185 frX5_142_5 rfl (L_313 hL).1 (LR_313_63 hL) (Or.inl rfl) ?_
      refine v_iload dX5_spells_188 rfl ?_
      obtain ⟨o3, K⟩ := K
      refine ld_355 dX5_spells_190 hL (by omega) o3 ?_
      show V w 2 mX5_spells 191 [some (vR 313), some (vI ((n : Nat) : Int)), none, some (vI t), some (vI ((i : Nat) : Int)), none, some (vI bare), some (vI wv)] [vI (J 355 i), vI t, vR 313] S J Q
      refine v_callV (d' := 0) (rest := []) [vI t, vI (J 355 i)] dX5_spells_191 vrX5_398_5 (L_313 hL).1 rfl rfl (one_I (one_I one_nil)) (Nat.le_of_ble_eq_true rfl) (Nat.le_of_ble_eq_true rfl) (Nat.le_of_ble_eq_true rfl) ?_
      obtain ⟨o4, K⟩ := K
      obtain ⟨o5, K⟩ := K
      obtain ⟨K1, K2⟩ := K
      refine s_drops hL t (J 355 i) o4 o5 (fun c3 => ?_) (fun c3 => ?_)
      · have K := K1 c3
        show V w 2 mX5_spells 194 [some (vR 313), some (vI ((n : Nat) : Int)), none, some (vI t), some (vI ((i : Nat) : Int)), none, some (vI bare), some (vI wv)] [vI 1] S J Q
        refine v_if_ne 211 dX5_spells_194 (by decide) (fun _ => ?_) (fun cQ => absurd cQ (by decide))
        obtain ⟨o6, K⟩ := K
        refine v_iinc dX5_spells_211 rfl o6 ?_
        show V w 2 mX5_spells 214 [some (vR 313), some (vI ((n : Nat) : Int)), none, some (vI t), some (vI ((i + 1 : Nat) : Int)), none, some (vI bare), some (vI wv)] [] S J Q
        refine v_goto 60 dX5_spells_214 (by decide) ?_
        exact v_forget (fg_some (fg_some (fg_none (fg_some (fg_some (fg_none (fg_none (fg_none fg_nil)))))))) K
      · have K := K2 c3
        show V w 2 mX5_spells 194 [some (vR 313), some (vI ((n : Nat) : Int)), none, some (vI t), some (vI ((i : Nat) : Int)), none, some (vI bare), some (vI wv)] [vI 0] S J Q
        refine v_if_ne 211 dX5_spells_194 (by decide) (fun cQ => absurd cQ (by decide)) (fun _ => ?_)
        refine v_aload_n dX5_spells_197 rfl ?_
        refine v_iload_n dX5_spells_198 rfl ?_
        refine v_aload_n dX5_spells_199 rfl ?_
        refine v_getR dX5_spells_200 frX5_142_5 rfl (L_313 hL).1 (LR_313_63 hL) (Or.inl rfl) ?_
        refine v_iload dX5_spells_203 rfl ?_
        refine ld_355 dX5_spells_205 hL (by omega) o3 ?_
        show V w 2 mX5_spells 206 [some (vR 313), some (vI ((n : Nat) : Int)), none, some (vI t), some (vI ((i : Nat) : Int)), none, some (vI bare), some (vI wv)] [vI (J 355 i), vI ((n : Nat) : Int), vR 313] S J Q
        refine v_iload dX5_spells_206 rfl ?_
        refine v_callV (d' := 0) (rest := []) [vI ((n : Nat) : Int), vI (J 355 i), vI wv] dX5_spells_208 vrX5_392_5 (L_313 hL).1 rfl rfl (one_I (one_I (one_I one_nil))) (Nat.le_of_ble_eq_true rfl) (Nat.le_of_ble_eq_true rfl) (Nat.le_of_ble_eq_true rfl) ?_
        exact K

theorem vwI_in (c : Int) : -1 ≤ vwI c ∧ vwI c ≤ 4 := by
  unfold vwI
  repeat' split
  all_goals omega
/-- the cells of one letter; of the first i -/
def spC (W : Nat → Int) (dr : Int → Bool) (n i : Nat) : List Int :=
  if vwI (W i) = -1 then (if vfI W n i = -1 then [] else if (i + 1 = n ∨ vwI (W (i + 1)) = -1) ∧ dr (W i) = true then [] else [clC (W i) (vfI W n i)])
  else if i = 0 ∨ vwI (W (i - 1)) ≠ -1 then [clC 0 (vwI (W i))] else []
def spA (W : Nat → Int) (dr : Int → Bool) (n : Nat) : Nat → List Int
  | 0 => []
  | i + 1 => spA W dr n i ++ spC W dr n i
theorem spC_len (W : Nat → Int) (dr : Int → Bool) (n i : Nat) : (spC W dr n i).length ≤ 1 := by
  unfold spC
  repeat' split
  all_goals simp
theorem spA_len (W : Nat → Int) (dr : Int → Bool) (n : Nat) : ∀ i, (spA W dr n i).length ≤ i
  | 0 => Nat.le_refl _
  | i + 1 => by
    have h1 := spA_len W dr n i
    have h2 := spC_len W dr n i
    rw [spA, List.length_append]
    omega
theorem nxV_cong {W W' : Nat → Int} : ∀ (m k : Nat), (∀ j, k ≤ j → j < k + m → W' j = W j) → nxV W' m k = nxV W m k
  | 0, _, _ => rfl
  | m + 1, k, h => by
    rw [nxV, nxV, h k (Nat.le_refl _) (by omega), nxV_cong m (k + 1) (fun j h1 h2 => h j (by omega) (by omega))]
theorem pvV_cong {W W' : Nat → Int} : ∀ (k : Nat), (∀ j, j < k → W' j = W j) → pvV W' k = pvV W k
  | 0, _ => rfl
  | k + 1, h => by
    rw [pvV, pvV, h k (by omega), pvV_cong k (fun j hj => h j (by omega))]
theorem vfI_cong {W W' : Nat → Int} {n i : Nat} (hi : i < n) (h : ∀ j, j < n → W' j = W j) : vfI W' n i = vfI W n i := by
  unfold vfI
  rw [nxV_cong _ _ (fun j h1 h2 => h j (by omega)), pvV_cong _ (fun j hj => h j (by omega))]
theorem nxV_in (W : Nat → Int) : ∀ m k, -1 ≤ nxV W m k ∧ nxV W m k ≤ 4
  | 0, _ => by simp [nxV]
  | m + 1, k => by
    rw [nxV]
    split
    · exact nxV_in W m (k + 1)
    · exact vwI_in _
theorem pvV_in (W : Nat → Int) : ∀ k, -1 ≤ pvV W k ∧ pvV W k ≤ 4
  | 0 => by simp [pvV]
  | k + 1 => by
    rw [pvV]
    split
    · exact pvV_in W k
    · exact vwI_in _
theorem vfI_in (W : Nat → Int) (n i : Nat) : -1 ≤ vfI W n i ∧ vfI W n i ≤ 4 := by
  unfold vfI
  split
  · exact pvV_in _ _
  · exact nxV_in _ _ _
theorem wrN_in {J : Jm} {t : Nat} {l : Int} (hX : MTxt J) (ht : (t : Int) < J 313 8) (hl : 97 ≤ l ∧ l ≤ 122) : ∀ c : Nat, (c : Int) ≤ J 320 t → 97 ≤ wrN J t l c ∧ wrN J t l c ≤ 122
  | 0, _ => hl
  | c + 1, h => by
    rw [wrN]
    split
    · rename_i q
      exact ((hX.2 t ht).2 c (by omega)).2.2.2 q.1
    · exact wrN_in hX ht hl c (by omega)
theorem wrI_in {J : Jm} {t l : Int} (hX : MTxt J) (ht : -1 ≤ t ∧ t < J 313 8) (hl : 97 ≤ l ∧ l ≤ 122) : 97 ≤ wrI J t l ∧ wrI J t l ≤ 122 := by
  unfold wrI
  split
  · exact hl
  · have hX1 := hX.1
    have h2 := (hX.2 t.toNat (by omega)).1
    exact wrN_in hX (by omega) hl _ (by omega)
theorem wrI_mp {J J' : Jm} (hX : MTxt J) (h : Mp J J') {t : Int} (ht : -1 ≤ t ∧ t < J 313 8) (l : Int) : wrI J' t l = wrI J t l := by
  unfold wrI
  split
  · rfl
  · have hX1 := hX.1
    have h2 := (hX.2 t.toNat (by omega)).1
    have e1 : J' 320 t.toNat = J 320 t.toNat := h _ _ (by unfold mper scr; simp; omega)
    rw [e1]
    have key : ∀ c : Nat, (c : Int) ≤ J 320 t.toNat → wrN J' t.toNat l c = wrN J t.toNat l c := by
      intro c
      induction c with
      | zero => intro _; rfl
      | succ c ih =>
        intro hc
        have a1 : J' 321 (12 * t.toNat + c) = J 321 (12 * t.toNat + c) := h _ _ (by unfold mper scr; simp; omega)
        have a2 : J' 322 (12 * t.toNat + c) = J 322 (12 * t.toNat + c) := h _ _ (by unfold mper scr; simp; omega)
        have a3 : J' 323 (12 * t.toNat + c) = J 323 (12 * t.toNat + c) := h _ _ (by unfold mper scr; simp; omega)
        rw [wrN, wrN, a1, a2, a3, ih (by omega)]
    exact key _ (by omega)
theorem drI_mp {J J' : Jm} (hX : MTxt J) (h : Mp J J') {t : Int} (ht : -1 ≤ t ∧ t < J 313 8) (l : Int) : drI J' t l = drI J t l := by
  unfold drI
  split
  · rfl
  · have hX1 := hX.1
    have h2 := (hX.2 t.toNat (by omega)).1
    have e1 : J' 320 t.toNat = J 320 t.toNat := h _ _ (by unfold mper scr; simp; omega)
    rw [e1]
    have key : ∀ c : Nat, (c : Int) ≤ J 320 t.toNat → drN J' t.toNat l c = drN J t.toNat l c := by
      intro c
      induction c with
      | zero => intro _; rfl
      | succ c ih =>
        intro hc
        have a1 : J' 321 (12 * t.toNat + c) = J 321 (12 * t.toNat + c) := h _ _ (by unfold mper scr; simp; omega)
        have a2 : J' 322 (12 * t.toNat + c) = J 322 (12 * t.toNat + c) := h _ _ (by unfold mper scr; simp; omega)
        rw [drN, drN, a1, a2, ih (by omega)]
    exact key _ (by omega)
theorem rbOf_in {J : Jm} (hX : MTxt J) (known : Int) : -1 ≤ rbOf J known ∧ rbOf J known < J 313 8 ∨ (rbOf J known = -1) := by
  have hin := rbN_in J known (J 313 8).toNat
  have hX1 := hX.1
  unfold rbOf
  omega
theorem rbOf_in2 {J : Jm} (hX : MTxt J) (known : Int) : -1 ≤ rbOf J known ∧ rbOf J known < J 313 8 ∨ J 313 8 = 0 ∧ rbOf J known = -1 := by
  have hin := rbN_in J known (J 313 8).toNat
  have hX1 := hX.1
  unfold rbOf
  omega
theorem rbOf_ok {J : Jm} (hX : MTxt J) (known : Int) : -1 ≤ rbOf J known ∧ rbOf J known < J 313 8 := by
  have hin := rbN_in J known (J 313 8).toNat
  have hX1 := hX.1
  unfold rbOf
  omega
/-- how a name's letters are written by the rules known on a day; its cells -/
def spW (J : Jm) (n : Nat) (known : Int) (i : Nat) : Int := wrI J (rbOf J known) (J 349 (8 * n + i))
def spOf (J : Jm) (n : Nat) (known : Int) : List Int := spA (spW J n known) (drI J (rbOf J known)) (J 348 n).toNat (J 348 n).toNat
/-- what spelling writes -/
def spF (J J' : Jm) (n : Nat) : Prop := ∀ b k, ¬ (b = 353 ∧ 8 * n ≤ k ∧ k < 8 * n + 8) → ¬ (b = 354 ∧ k = n) → b ≠ 355 → J' b k = J b k
theorem spF.kp {J J' : Jm} {n : Nat} (h : spF J J' n) : Kp J J' := fun b k q => h b k (fun e => by obtain ⟨rfl, -⟩ := e; cases q) (fun e => by obtain ⟨rfl, -⟩ := e; cases q) (fun e => by subst e; cases q)
def PSp (J : Jm) (n : Nat) (known : Int) (J' : Jm) : Prop := spF J J' n ∧ J' 354 n = ((spOf J n known).length : Nat) ∧ ∀ i, i < (spOf J n known).length → J' 353 (8 * n + i) = (spOf J n known).getD i 0
/-- a name's letters are there -/
def NamAt (J : Jm) (n : Nat) : Prop := (1 ≤ J 348 n ∧ J 348 n ≤ 8) ∧ ∀ i : Nat, (i : Int) < J 348 n → 97 ≤ J 349 (8 * n + i) ∧ J 349 (8 * n + i) ≤ 122
