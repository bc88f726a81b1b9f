/-! the model: a clause is read -/
set_option maxRecDepth 100000
theorem gX5_readClause_0 {w : Wd} {S : Sh} {J : Jm} {Q : Out → Sh → Jm → Prop} (hL : Lay S) 
    (K : (0 ≤ J 313 18 ∧ J 313 18 ≤ 300 ∧ 0 ≤ J 313 17 ∧ J 313 17 ≤ 300) ∧ Br (WordIs J [99, 111, 110, 115, 111, 110, 97, 110, 116]) (Br (J 320 10 = 12) ((J 313 21 = 0) ∧ Q (.inl none) S (up (up J 313 21 3) 313 22 (J 313 18))) (Br (J 313 21 = 0) ((-2147483648 ≤ 120 + (J 320 10) ∧ 120 + (J 320 10) ≤ 2147483647) ∧ (-2147483648 ≤ (J 320 10) + 1 ∧ (J 320 10) + 1 ≤ 2147483647) ∧ (0 ≤ 120 + (J 320 10)) ∧ (120 + (J 320 10) < 132) ∧ (MTape (up (up J 320 10 ((J 320 10) + 1)) 321 (120 + (J 320 10)).toNat 0)) ∧ (0 ≤ (J 313 17) ∧ (J 313 17) ≤ 300) ∧ (∀ (J1 : Jm), PNx (up (up J 320 10 ((J 320 10) + 1)) 321 (120 + (J 320 10)).toNat 0) ((up (up J 320 10 ((J 320 10) + 1)) 321 (120 + (J 320 10)).toNat 0) 313 17).toNat J1 → V w 5 mX5_readClause 129 [some (vR 313), some (vI 0), some (vI (120 + (J 320 10)))] [] S J1 Q)) (Q (.inl none) S J))) (Br (WordIs J [118, 111, 119, 101, 108]) (Br (J 320 10 = 12) ((J 313 21 = 0) ∧ Q (.inl none) S (up (up J 313 21 3) 313 22 (J 313 18))) (Br (J 313 21 = 0) ((-2147483648 ≤ 120 + (J 320 10) ∧ 120 + (J 320 10) ≤ 2147483647) ∧ (-2147483648 ≤ (J 320 10) + 1 ∧ (J 320 10) + 1 ≤ 2147483647) ∧ (0 ≤ 120 + (J 320 10)) ∧ (120 + (J 320 10) < 132) ∧ (MTape (up (up J 320 10 ((J 320 10) + 1)) 321 (120 + (J 320 10)).toNat 1)) ∧ (0 ≤ (J 313 17) ∧ (J 313 17) ≤ 300) ∧ (∀ (J2 : Jm), PNx (up (up J 320 10 ((J 320 10) + 1)) 321 (120 + (J 320 10)).toNat 1) ((up (up J 320 10 ((J 320 10) + 1)) 321 (120 + (J 320 10)).toNat 1) 313 17).toNat J2 → V w 5 mX5_readClause 129 [some (vR 313), some (vI 1), some (vI (120 + (J 320 10)))] [] S J2 Q)) (Q (.inl none) S J))) (Br (WordIs J [119, 114, 105, 116, 101]) (Br (J 320 10 = 12) ((J 313 21 = 0) ∧ Q (.inl none) S (up (up J 313 21 3) 313 22 (J 313 18))) (Br (J 313 21 = 0) ((-2147483648 ≤ 120 + (J 320 10) ∧ 120 + (J 320 10) ≤ 2147483647) ∧ (-2147483648 ≤ (J 320 10) + 1 ∧ (J 320 10) + 1 ≤ 2147483647) ∧ (0 ≤ 120 + (J 320 10)) ∧ (120 + (J 320 10) < 132) ∧ (MTape (up (up J 320 10 ((J 320 10) + 1)) 321 (120 + (J 320 10)).toNat 2)) ∧ (0 ≤ (J 313 17) ∧ (J 313 17) ≤ 300) ∧ (∀ (J3 : Jm), PNx (up (up J 320 10 ((J 320 10) + 1)) 321 (120 + (J 320 10)).toNat 2) ((up (up J 320 10 ((J 320 10) + 1)) 321 (120 + (J 320 10)).toNat 2) 313 17).toNat J3 → V w 5 mX5_readClause 129 [some (vR 313), some (vI 2), some (vI (120 + (J 320 10)))] [] S J3 Q)) (Q (.inl none) S J))) (Br (WordIs J [100, 114, 111, 112]) (Br (J 320 10 = 12) ((J 313 21 = 0) ∧ Q (.inl none) S (up (up J 313 21 3) 313 22 (J 313 18))) (Br (J 313 21 = 0) ((-2147483648 ≤ 120 + (J 320 10) ∧ 120 + (J 320 10) ≤ 2147483647) ∧ (-2147483648 ≤ (J 320 10) + 1 ∧ (J 320 10) + 1 ≤ 2147483647) ∧ (0 ≤ 120 + (J 320 10)) ∧ (120 + (J 320 10) < 132) ∧ (MTape (up (up J 320 10 ((J 320 10) + 1)) 321 (120 + (J 320 10)).toNat 3)) ∧ (0 ≤ (J 313 17) ∧ (J 313 17) ≤ 300) ∧ (∀ (J4 : Jm), PNx (up (up J 320 10 ((J 320 10) + 1)) 321 (120 + (J 320 10)).toNat 3) ((up (up J 320 10 ((J 320 10) + 1)) 321 (120 + (J 320 10)).toNat 3) 313 17).toNat J4 → V w 5 mX5_readClause 129 [some (vR 313), some (vI 3), some (vI (120 + (J 320 10)))] [] S J4 Q)) (Q (.inl none) S J))) ((J 313 21 = 0) ∧ Q (.inl none) S (up (up J 313 21 1) 313 22 (J 313 18))))))) :
    V w 5 mX5_readClause 0 (ent mX5_readClause [vR 313]) [] S J Q := by
  show V w 5 mX5_readClause 0 [some (vR 313), none, none] [] S J Q
  refine v_aload_n dX5_readClause_0 rfl ?_
  refine v_ldcSw (i := 13) dX5_readClause_1 rfl ?_
  refine v_callV (d' := 4) (rest := []) [vR (2 * 13)] dX5_readClause_4 vrX5_258_5 (L_313 hL).1 rfl rfl (one_O one_nil) (Nat.le_of_ble_eq_true rfl) (Nat.le_of_ble_eq_true rfl) (Nat.le_of_ble_eq_true rfl) ?_
  obtain ⟨o1, K⟩ := K
  obtain ⟨K1, K2⟩ := K
  refine s_isWord hL 13 [99, 111, 110, 115, 111, 110, 97, 110, 116] (⟨_, _, _, rfl⟩ : StrB 13 [99, 111, 110, 115, 111, 110, 97, 110, 116]) o1 (fun c1 => ?_) (fun c1 => ?_)
  · have K := K1 c1
    show V w 5 mX5_readClause 7 [some (vR 313), none, none] [vI 1] S J Q
    refine v_if_eq 14 dX5_readClause_7 (by decide) (fun cQ => absurd cQ (by decide)) (fun _ => ?_)
    refine v_iconst dX5_readClause_10 (in_lit (by decide)) ?_
    refine v_goto 57 dX5_readClause_11 (by decide) ?_
    refine v_istore_n dX5_readClause_57 (Nat.le_of_ble_eq_true rfl) ?_
    show V w 5 mX5_readClause 58 [some (vR 313), some (vI 0), none] [] S J Q
    refine v_iload_n dX5_readClause_58 rfl ?_
    refine v_iconst dX5_readClause_59 (in_lit (by decide)) ?_
    refine v_icmp_ne 71 dX5_readClause_60 (by decide) (fun _ => ?_) (fun cQ => absurd cQ (by decide))
    refine v_aload_n dX5_readClause_71 rfl ?_
    refine v_getR dX5_readClause_72 frX5_32_5 rfl (L_313 hL).1 (LR_313_10 hL) (Or.inl rfl) ?_
    refine v_bipush dX5_readClause_75 (by decide) (in_lit (by decide)) ?_
    refine ld_320 dX5_readClause_77 hL (by omega) (by decide) ?_
    show V w 5 mX5_readClause 78 [some (vR 313), some (vI 0), none] [vI (J 320 10)] S J Q
    refine v_bipush dX5_readClause_78 (by decide) (in_lit (by decide)) ?_
    obtain ⟨K1, K2⟩ := K
    refine v_icmp_ne 88 dX5_readClause_80 (by decide) (fun c2 => ?_) (fun c2 => ?_)
    · have K := K2 c2
      refine v_aload_n dX5_readClause_88 rfl ?_
      refine v_callV (d' := 0) (rest := []) [] dX5_readClause_89 vrX5_222_5 (L_313 hL).1 rfl rfl one_nil (Nat.le_of_ble_eq_true rfl) (Nat.le_of_ble_eq_true rfl) (Nat.le_of_ble_eq_true rfl) ?_
      obtain ⟨K1, K2⟩ := K
      refine sX5_isWell hL   (fun c3 => ?_) (fun c3 => ?_)
      · have K := K1 c3
        show V w 5 mX5_readClause 92 [some (vR 313), some (vI 0), none] [vI 1] S J Q
        refine v_if_ne 96 dX5_readClause_92 (by decide) (fun _ => ?_) (fun cQ => absurd cQ (by decide))
        refine v_bipush dX5_readClause_96 (by decide) (in_lit (by decide)) ?_
        refine v_aload_n dX5_readClause_98 rfl ?_
        refine v_getR dX5_readClause_99 frX5_32_5 rfl (L_313 hL).1 (LR_313_10 hL) (Or.inl rfl) ?_
        refine v_bipush dX5_readClause_102 (by decide) (in_lit (by decide)) ?_
        refine ld_320 dX5_readClause_104 hL (by omega) (by decide) ?_
        show V w 5 mX5_readClause 105 [some (vR 313), some (vI 0), none] [vI (J 320 10), vI 120] S J Q
        obtain ⟨o2, K⟩ := K
        refine v_iadd dX5_readClause_105 o2 ?_
        refine v_istore_n dX5_readClause_106 (Nat.le_of_ble_eq_true rfl) ?_
        show V w 5 mX5_readClause 107 [some (vR 313), some (vI 0), some (vI (120 + (J 320 10)))] [] S J Q
        refine v_aload_n dX5_readClause_107 rfl ?_
        refine v_getR dX5_readClause_108 frX5_32_5 rfl (L_313 hL).1 (LR_313_10 hL) (Or.inl rfl) ?_
        refine v_bipush dX5_readClause_111 (by decide) (in_lit (by decide)) ?_
        refine v_dup2 dX5_readClause_113 trivial trivial ?_
        refine ld_320 dX5_readClause_114 hL (by omega) (by decide) ?_
        show V w 5 mX5_readClause 115 [some (vR 313), some (vI 0), some (vI (120 + (J 320 10)))] [vI (J 320 10), vI 10, vR 320] S J Q
        refine v_iconst dX5_readClause_115 (in_lit (by decide)) ?_
        obtain ⟨o3, K⟩ := K
        refine v_iadd dX5_readClause_116 o3 ?_
        refine st_320 dX5_readClause_117 hL (by omega) (by decide) ?_
        show V w 5 mX5_readClause 118 [some (vR 313), some (vI 0), some (vI (120 + (J 320 10)))] [] S (up J 320 10 ((J 320 10) + 1)) Q
        refine v_aload_n dX5_readClause_118 rfl ?_
        refine v_getR dX5_readClause_119 frX5_35_5 rfl (L_313 hL).1 (LR_313_11 hL) (Or.inl rfl) ?_
        refine v_iload_n dX5_readClause_122 rfl ?_
        refine v_iload_n dX5_readClause_123 rfl ?_
        obtain ⟨o4, K⟩ := K
        obtain ⟨o5, K⟩ := K
        refine st_321 dX5_readClause_124 hL o4 o5 ?_
        show V w 5 mX5_readClause 125 [some (vR 313), some (vI 0), some (vI (120 + (J 320 10)))] [] S (up (up J 320 10 ((J 320 10) + 1)) 321 (120 + (J 320 10)).toNat 0) Q
        refine v_aload_n dX5_readClause_125 rfl ?_
        refine v_callV (d' := 1) (rest := []) [] dX5_readClause_126 vrX5_229_5 (L_313 hL).1 rfl rfl one_nil (Nat.le_of_ble_eq_true rfl) (Nat.le_of_ble_eq_true rfl) (Nat.le_of_ble_eq_true rfl) ?_
        obtain ⟨o6, K⟩ := K
        obtain ⟨o7, K⟩ := K
        refine s_nextR hL  o6 o7 (fun J1 hp => ?_)
        have K := K J1 hp
        show V w 5 mX5_readClause 129 [some (vR 313), some (vI 0), some (vI (120 + (J 320 10)))] [] S J1 Q
        exact K
      · have K := K2 c3
        show V w 5 mX5_readClause 92 [some (vR 313), some (vI 0), none] [vI 0] S J Q
        refine v_if_ne 96 dX5_readClause_92 (by decide) (fun cQ => absurd cQ (by decide)) (fun _ => ?_)
        exact v_vret dX5_readClause_95 rfl K
    · have K := K1 c2
      refine v_aload_n dX5_readClause_83 rfl ?_
      refine v_iconst dX5_readClause_84 (in_lit (by decide)) ?_
      refine v_callV (d' := 0) (rest := []) [vI 3] dX5_readClause_85 vrX5_232_5 (L_313 hL).1 rfl rfl (one_I one_nil) (Nat.le_of_ble_eq_true rfl) (Nat.le_of_ble_eq_true rfl) (Nat.le_of_ble_eq_true rfl) ?_
      obtain ⟨o8, K⟩ := K
      refine s_fails hL 3 o8 ?_
      show V w 5 mX5_readClause 88 [some (vR 313), some (vI 0), none] [] S (up (up J 313 21 3) 313 22 (J 313 18)) Q
      refine v_aload_n dX5_readClause_88 rfl ?_
      refine v_callV (d' := 0) (rest := []) [] dX5_readClause_89 vrX5_222_5 (L_313 hL).1 rfl rfl one_nil (Nat.le_of_ble_eq_true rfl) (Nat.le_of_ble_eq_true rfl) (Nat.le_of_ble_eq_true rfl) ?_
      refine sX5_isWell hL   (fun cQ => absurd (show (3 : Int) = 0 from cQ) (by decide)) (fun _ => ?_)
      show V w 5 mX5_readClause 92 [some (vR 313), some (vI 0), none] [vI 0] S (up (up J 313 21 3) 313 22 (J 313 18)) Q
      refine v_if_ne 96 dX5_readClause_92 (by decide) (fun cQ => absurd cQ (by decide)) (fun _ => ?_)
      exact v_vret dX5_readClause_95 rfl K
  · have K := K2 c1
    show V w 5 mX5_readClause 7 [some (vR 313), none, none] [vI 0] S J Q
    refine v_if_eq 14 dX5_readClause_7 (by decide) (fun _ => ?_) (fun cQ => absurd cQ (by decide))
    refine v_aload_n dX5_readClause_14 rfl ?_
    refine v_ldcSw (i := 14) dX5_readClause_15 rfl ?_
    refine v_callV (d' := 4) (rest := []) [vR (2 * 14)] dX5_readClause_18 vrX5_258_5 (L_313 hL).1 rfl rfl (one_O one_nil) (Nat.le_of_ble_eq_true rfl) (Nat.le_of_ble_eq_true rfl) (Nat.le_of_ble_eq_true rfl) ?_
    obtain ⟨K1, K2⟩ := K
    refine s_isWord hL 14 [118, 111, 119, 101, 108] (⟨_, _, _, rfl⟩ : StrB 14 [118, 111, 119, 101, 108]) o1 (fun c4 => ?_) (fun c4 => ?_)
    · have K := K1 c4
      show V w 5 mX5_readClause 21 [some (vR 313), none, none] [vI 1] S J Q
      refine v_if_eq 28 dX5_readClause_21 (by decide) (fun cQ => absurd cQ (by decide)) (fun _ => ?_)
      refine v_iconst dX5_readClause_24 (in_lit (by decide)) ?_
      refine v_goto 57 dX5_readClause_25 (by decide) ?_
      refine v_istore_n dX5_readClause_57 (Nat.le_of_ble_eq_true rfl) ?_
      show V w 5 mX5_readClause 58 [some (vR 313), some (vI 1), none] [] S J Q
      refine v_iload_n dX5_readClause_58 rfl ?_
      refine v_iconst dX5_readClause_59 (in_lit (by decide)) ?_
      refine v_icmp_ne 71 dX5_readClause_60 (by decide) (fun _ => ?_) (fun cQ => absurd cQ (by decide))
      refine v_aload_n dX5_readClause_71 rfl ?_
      refine v_getR dX5_readClause_72 frX5_32_5 rfl (L_313 hL).1 (LR_313_10 hL) (Or.inl rfl) ?_
      refine v_bipush dX5_readClause_75 (by decide) (in_lit (by decide)) ?_
      refine ld_320 dX5_readClause_77 hL (by omega) (by decide) ?_
      show V w 5 mX5_readClause 78 [some (vR 313), some (vI 1), none] [vI (J 320 10)] S J Q
      refine v_bipush dX5_readClause_78 (by decide) (in_lit (by decide)) ?_
      obtain ⟨K1, K2⟩ := K
      refine v_icmp_ne 88 dX5_readClause_80 (by decide) (fun c5 => ?_) (fun c5 => ?_)
      · have K := K2 c5
        refine v_aload_n dX5_readClause_88 rfl ?_
        refine v_callV (d' := 0) (rest := []) [] dX5_readClause_89 vrX5_222_5 (L_313 hL).1 rfl rfl one_nil (Nat.le_of_ble_eq_true rfl) (Nat.le_of_ble_eq_true rfl) (Nat.le_of_ble_eq_true rfl) ?_
        obtain ⟨K1, K2⟩ := K
        refine sX5_isWell hL   (fun c6 => ?_) (fun c6 => ?_)
        · have K := K1 c6
          show V w 5 mX5_readClause 92 [some (vR 313), some (vI 1), none] [vI 1] S J Q
          refine v_if_ne 96 dX5_readClause_92 (by decide) (fun _ => ?_) (fun cQ => absurd cQ (by decide))
          refine v_bipush dX5_readClause_96 (by decide) (in_lit (by decide)) ?_
          refine v_aload_n dX5_readClause_98 rfl ?_
          refine v_getR dX5_readClause_99 frX5_32_5 rfl (L_313 hL).1 (LR_313_10 hL) (Or.inl rfl) ?_
          refine v_bipush dX5_readClause_102 (by decide) (in_lit (by decide)) ?_
          refine ld_320 dX5_readClause_104 hL (by omega) (by decide) ?_
          show V w 5 mX5_readClause 105 [some (vR 313), some (vI 1), none] [vI (J 320 10), vI 120] S J Q
          obtain ⟨o9, K⟩ := K
          refine v_iadd dX5_readClause_105 o9 ?_
          refine v_istore_n dX5_readClause_106 (Nat.le_of_ble_eq_true rfl) ?_
          show V w 5 mX5_readClause 107 [some (vR 313), some (vI 1), some (vI (120 + (J 320 10)))] [] S J Q
          refine v_aload_n dX5_readClause_107 rfl ?_
          refine v_getR dX5_readClause_108 frX5_32_5 rfl (L_313 hL).1 (LR_313_10 hL) (Or.inl rfl) ?_
          refine v_bipush dX5_readClause_111 (by decide) (in_lit (by decide)) ?_
          refine v_dup2 dX5_readClause_113 trivial trivial ?_
          refine ld_320 dX5_readClause_114 hL (by omega) (by decide) ?_
          show V w 5 mX5_readClause 115 [some (vR 313), some (vI 1), some (vI (120 + (J 320 10)))] [vI (J 320 10), vI 10, vR 320] S J Q
          refine v_iconst dX5_readClause_115 (in_lit (by decide)) ?_
          obtain ⟨o10, K⟩ := K
          refine v_iadd dX5_readClause_116 o10 ?_
          refine st_320 dX5_readClause_117 hL (by omega) (by decide) ?_
          show V w 5 mX5_readClause 118 [some (vR 313), some (vI 1), some (vI (120 + (J 320 10)))] [] S (up J 320 10 ((J 320 10) + 1)) Q
          refine v_aload_n dX5_readClause_118 rfl ?_
          refine v_getR dX5_readClause_119 frX5_35_5 rfl (L_313 hL).1 (LR_313_11 hL) (Or.inl rfl) ?_
          refine v_iload_n dX5_readClause_122 rfl ?_
          refine v_iload_n dX5_readClause_123 rfl ?_
          obtain ⟨o11, K⟩ := K
          obtain ⟨o12, K⟩ := K
          refine st_321 dX5_readClause_124 hL o11 o12 ?_
          show V w 5 mX5_readClause 125 [some (vR 313), some (vI 1), some (vI (120 + (J 320 10)))] [] S (up (up J 320 10 ((J 320 10) + 1)) 321 (120 + (J 320 10)).toNat 1) Q
          refine v_aload_n dX5_readClause_125 rfl ?_
          refine v_callV (d' := 1) (rest := []) [] dX5_readClause_126 vrX5_229_5 (L_313 hL).1 rfl rfl one_nil (Nat.le_of_ble_eq_true rfl) (Nat.le_of_ble_eq_true rfl) (Nat.le_of_ble_eq_true rfl) ?_
          obtain ⟨o13, K⟩ := K
          obtain ⟨o14, K⟩ := K
          refine s_nextR hL  o13 o14 (fun J2 hp => ?_)
          have K := K J2 hp
          show V w 5 mX5_readClause 129 [some (vR 313), some (vI 1), some (vI (120 + (J 320 10)))] [] S J2 Q
          exact K
        · have K := K2 c6
          show V w 5 mX5_readClause 92 [some (vR 313), some (vI 1), none] [vI 0] S J Q
          refine v_if_ne 96 dX5_readClause_92 (by decide) (fun cQ => absurd cQ (by decide)) (fun _ => ?_)
          exact v_vret dX5_readClause_95 rfl K
      · have K := K1 c5
        refine v_aload_n dX5_readClause_83 rfl ?_
        refine v_iconst dX5_readClause_84 (in_lit (by decide)) ?_
        refine v_callV (d' := 0) (rest := []) [vI 3] dX5_readClause_85 vrX5_232_5 (L_313 hL).1 rfl rfl (one_I one_nil) (Nat.le_of_ble_eq_true rfl) (Nat.le_of_ble_eq_true rfl) (Nat.le_of_ble_eq_true rfl) ?_
        obtain ⟨o15, K⟩ := K
        refine s_fails hL 3 o15 ?_
        show V w 5 mX5_readClause 88 [some (vR 313), some (vI 1), none] [] S (up (up J 313 21 3) 313 22 (J 313 18)) Q
        refine v_aload_n dX5_readClause_88 rfl ?_
        refine v_callV (d' := 0) (rest := []) [] dX5_readClause_89 vrX5_222_5 (L_313 hL).1 rfl rfl one_nil (Nat.le_of_ble_eq_true rfl) (Nat.le_of_ble_eq_true rfl) (Nat.le_of_ble_eq_true rfl) ?_
        refine sX5_isWell hL   (fun cQ => absurd (show (3 : Int) = 0 from cQ) (by decide)) (fun _ => ?_)
        show V w 5 mX5_readClause 92 [some (vR 313), some (vI 1), none] [vI 0] S (up (up J 313 21 3) 313 22 (J 313 18)) Q
        refine v_if_ne 96 dX5_readClause_92 (by decide) (fun cQ => absurd cQ (by decide)) (fun _ => ?_)
        exact v_vret dX5_readClause_95 rfl K
    · have K := K2 c4
      show V w 5 mX5_readClause 21 [some (vR 313), none, none] [vI 0] S J Q
      refine v_if_eq 28 dX5_readClause_21 (by decide) (fun _ => ?_) (fun cQ => absurd cQ (by decide))
      refine v_aload_n dX5_readClause_28 rfl ?_
      refine v_ldcSw (i := 15) dX5_readClause_29 rfl ?_
      refine v_callV (d' := 4) (rest := []) [vR (2 * 15)] dX5_readClause_32 vrX5_258_5 (L_313 hL).1 rfl rfl (one_O one_nil) (Nat.le_of_ble_eq_true rfl) (Nat.le_of_ble_eq_true rfl) (Nat.le_of_ble_eq_true rfl) ?_
      obtain ⟨K1, K2⟩ := K
      refine s_isWord hL 15 [119, 114, 105, 116, 101] (⟨_, _, _, rfl⟩ : StrB 15 [119, 114, 105, 116, 101]) o1 (fun c7 => ?_) (fun c7 => ?_)
      · have K := K1 c7
        show V w 5 mX5_readClause 35 [some (vR 313), none, none] [vI 1] S J Q
        refine v_if_eq 42 dX5_readClause_35 (by decide) (fun cQ => absurd cQ (by decide)) (fun _ => ?_)
        refine v_iconst dX5_readClause_38 (in_lit (by decide)) ?_
        refine v_goto 57 dX5_readClause_39 (by decide) ?_
        refine v_istore_n dX5_readClause_57 (Nat.le_of_ble_eq_true rfl) ?_
        show V w 5 mX5_readClause 58 [some (vR 313), some (vI 2), none] [] S J Q
        refine v_iload_n dX5_readClause_58 rfl ?_
        refine v_iconst dX5_readClause_59 (in_lit (by decide)) ?_
        refine v_icmp_ne 71 dX5_readClause_60 (by decide) (fun _ => ?_) (fun cQ => absurd cQ (by decide))
        refine v_aload_n dX5_readClause_71 rfl ?_
        refine v_getR dX5_readClause_72 frX5_32_5 rfl (L_313 hL).1 (LR_313_10 hL) (Or.inl rfl) ?_
        refine v_bipush dX5_readClause_75 (by decide) (in_lit (by decide)) ?_
        refine ld_320 dX5_readClause_77 hL (by omega) (by decide) ?_
        show V w 5 mX5_readClause 78 [some (vR 313), some (vI 2), none] [vI (J 320 10)] S J Q
        refine v_bipush dX5_readClause_78 (by decide) (in_lit (by decide)) ?_
        obtain ⟨K1, K2⟩ := K
        refine v_icmp_ne 88 dX5_readClause_80 (by decide) (fun c8 => ?_) (fun c8 => ?_)
        · have K := K2 c8
          refine v_aload_n dX5_readClause_88 rfl ?_
          refine v_callV (d' := 0) (rest := []) [] dX5_readClause_89 vrX5_222_5 (L_313 hL).1 rfl rfl one_nil (Nat.le_of_ble_eq_true rfl) (Nat.le_of_ble_eq_true rfl) (Nat.le_of_ble_eq_true rfl) ?_
          obtain ⟨K1, K2⟩ := K
          refine sX5_isWell hL   (fun c9 => ?_) (fun c9 => ?_)
          · have K := K1 c9
            show V w 5 mX5_readClause 92 [some (vR 313), some (vI 2), none] [vI 1] S J Q
            refine v_if_ne 96 dX5_readClause_92 (by decide) (fun _ => ?_) (fun cQ => absurd cQ (by decide))
            refine v_bipush dX5_readClause_96 (by decide) (in_lit (by decide)) ?_
            refine v_aload_n dX5_readClause_98 rfl ?_
            refine v_getR dX5_readClause_99 frX5_32_5 rfl (L_313 hL).1 (LR_313_10 hL) (Or.inl rfl) ?_
            refine v_bipush dX5_readClause_102 (by decide) (in_lit (by decide)) ?_
            refine ld_320 dX5_readClause_104 hL (by omega) (by decide) ?_
            show V w 5 mX5_readClause 105 [some (vR 313), some (vI 2), none] [vI (J 320 10), vI 120] S J Q
            obtain ⟨o16, K⟩ := K
            refine v_iadd dX5_readClause_105 o16 ?_
            refine v_istore_n dX5_readClause_106 (Nat.le_of_ble_eq_true rfl) ?_
            show V w 5 mX5_readClause 107 [some (vR 313), some (vI 2), some (vI (120 + (J 320 10)))] [] S J Q
            refine v_aload_n dX5_readClause_107 rfl ?_
            refine v_getR dX5_readClause_108 frX5_32_5 rfl (L_313 hL).1 (LR_313_10 hL) (Or.inl rfl) ?_
            refine v_bipush dX5_readClause_111 (by decide) (in_lit (by decide)) ?_
            refine v_dup2 dX5_readClause_113 trivial trivial ?_
            refine ld_320 dX5_readClause_114 hL (by omega) (by decide) ?_
            show V w 5 mX5_readClause 115 [some (vR 313), some (vI 2), some (vI (120 + (J 320 10)))] [vI (J 320 10), vI 10, vR 320] S J Q
            refine v_iconst dX5_readClause_115 (in_lit (by decide)) ?_
            obtain ⟨o17, K⟩ := K
            refine v_iadd dX5_readClause_116 o17 ?_
            refine st_320 dX5_readClause_117 hL (by omega) (by decide) ?_
            show V w 5 mX5_readClause 118 [some (vR 313), some (vI 2), some (vI (120 + (J 320 10)))] [] S (up J 320 10 ((J 320 10) + 1)) Q
            refine v_aload_n dX5_readClause_118 rfl ?_
            refine v_getR dX5_readClause_119 frX5_35_5 rfl (L_313 hL).1 (LR_313_11 hL) (Or.inl rfl) ?_
            refine v_iload_n dX5_readClause_122 rfl ?_
            refine v_iload_n dX5_readClause_123 rfl ?_
            obtain ⟨o18, K⟩ := K
            obtain ⟨o19, K⟩ := K
            refine st_321 dX5_readClause_124 hL o18 o19 ?_
            show V w 5 mX5_readClause 125 [some (vR 313), some (vI 2), some (vI (120 + (J 320 10)))] [] S (up (up J 320 10 ((J 320 10) + 1)) 321 (120 + (J 320 10)).toNat 2) Q
            refine v_aload_n dX5_readClause_125 rfl ?_
            refine v_callV (d' := 1) (rest := []) [] dX5_readClause_126 vrX5_229_5 (L_313 hL).1 rfl rfl one_nil (Nat.le_of_ble_eq_true rfl) (Nat.le_of_ble_eq_true rfl) (Nat.le_of_ble_eq_true rfl) ?_
            obtain ⟨o20, K⟩ := K
            obtain ⟨o21, K⟩ := K
            refine s_nextR hL  o20 o21 (fun J3 hp => ?_)
            have K := K J3 hp
            show V w 5 mX5_readClause 129 [some (vR 313), some (vI 2), some (vI (120 + (J 320 10)))] [] S J3 Q
            exact K
          · have K := K2 c9
            show V w 5 mX5_readClause 92 [some (vR 313), some (vI 2), none] [vI 0] S J Q
            refine v_if_ne 96 dX5_readClause_92 (by decide) (fun cQ => absurd cQ (by decide)) (fun _ => ?_)
            exact v_vret dX5_readClause_95 rfl K
        · have K := K1 c8
          refine v_aload_n dX5_readClause_83 rfl ?_
          refine v_iconst dX5_readClause_84 (in_lit (by decide)) ?_
          refine v_callV (d' := 0) (rest := []) [vI 3] dX5_readClause_85 vrX5_232_5 (L_313 hL).1 rfl rfl (one_I one_nil) (Nat.le_of_ble_eq_true rfl) (Nat.le_of_ble_eq_true rfl) (Nat.le_of_ble_eq_true rfl) ?_
          obtain ⟨o22, K⟩ := K
          refine s_fails hL 3 o22 ?_
          show V w 5 mX5_readClause 88 [some (vR 313), some (vI 2), none] [] S (up (up J 313 21 3) 313 22 (J 313 18)) Q
          refine v_aload_n dX5_readClause_88 rfl ?_
          refine v_callV (d' := 0) (rest := []) [] dX5_readClause_89 vrX5_222_5 (L_313 hL).1 rfl rfl one_nil (Nat.le_of_ble_eq_true rfl) (Nat.le_of_ble_eq_true rfl) (Nat.le_of_ble_eq_true rfl) ?_
          refine sX5_isWell hL   (fun cQ => absurd (show (3 : Int) = 0 from cQ) (by decide)) (fun _ => ?_)
          show V w 5 mX5_readClause 92 [some (vR 313), some (vI 2), none] [vI 0] S (up (up J 313 21 3) 313 22 (J 313 18)) Q
          refine v_if_ne 96 dX5_readClause_92 (by decide) (fun cQ => absurd cQ (by decide)) (fun _ => ?_)
          exact v_vret dX5_readClause_95 rfl K
      · have K := K2 c7
        show V w 5 mX5_readClause 35 [some (vR 313), none, none] [vI 0] S J Q
        refine v_if_eq 42 dX5_readClause_35 (by decide) (fun _ => ?_) (fun cQ => absurd cQ (by decide))
        refine v_aload_n dX5_readClause_42 rfl ?_
        refine v_ldcSw (i := 16) dX5_readClause_43 rfl ?_
        refine v_callV (d' := 4) (rest := []) [vR (2 * 16)] dX5_readClause_46 vrX5_258_5 (L_313 hL).1 rfl rfl (one_O one_nil) (Nat.le_of_ble_eq_true rfl) (Nat.le_of_ble_eq_true rfl) (Nat.le_of_ble_eq_true rfl) ?_
        obtain ⟨K1, K2⟩ := K
        refine s_isWord hL 16 [100, 114, 111, 112] (⟨_, _, _, rfl⟩ : StrB 16 [100, 114, 111, 112]) o1 (fun c10 => ?_) (fun c10 => ?_)
        · have K := K1 c10
          show V w 5 mX5_readClause 49 [some (vR 313), none, none] [vI 1] S J Q
          refine v_if_eq 56 dX5_readClause_49 (by decide) (fun cQ => absurd cQ (by decide)) (fun _ => ?_)
          refine v_iconst dX5_readClause_52 (in_lit (by decide)) ?_
          refine v_goto 57 dX5_readClause_53 (by decide) ?_
          refine v_istore_n dX5_readClause_57 (Nat.le_of_ble_eq_true rfl) ?_
          show V w 5 mX5_readClause 58 [some (vR 313), some (vI 3), none] [] S J Q
          refine v_iload_n dX5_readClause_58 rfl ?_
          refine v_iconst dX5_readClause_59 (in_lit (by decide)) ?_
          refine v_icmp_ne 71 dX5_readClause_60 (by decide) (fun _ => ?_) (fun cQ => absurd cQ (by decide))
          refine v_aload_n dX5_readClause_71 rfl ?_
          refine v_getR dX5_readClause_72 frX5_32_5 rfl (L_313 hL).1 (LR_313_10 hL) (Or.inl rfl) ?_
          refine v_bipush dX5_readClause_75 (by decide) (in_lit (by decide)) ?_
          refine ld_320 dX5_readClause_77 hL (by omega) (by decide) ?_
          show V w 5 mX5_readClause 78 [some (vR 313), some (vI 3), none] [vI (J 320 10)] S J Q
          refine v_bipush dX5_readClause_78 (by decide) (in_lit (by decide)) ?_
          obtain ⟨K1, K2⟩ := K
          refine v_icmp_ne 88 dX5_readClause_80 (by decide) (fun c11 => ?_) (fun c11 => ?_)
          · have K := K2 c11
            refine v_aload_n dX5_readClause_88 rfl ?_
            refine v_callV (d' := 0) (rest := []) [] dX5_readClause_89 vrX5_222_5 (L_313 hL).1 rfl rfl one_nil (Nat.le_of_ble_eq_true rfl) (Nat.le_of_ble_eq_true rfl) (Nat.le_of_ble_eq_true rfl) ?_
            obtain ⟨K1, K2⟩ := K
            refine sX5_isWell hL   (fun c12 => ?_) (fun c12 => ?_)
            · have K := K1 c12
              show V w 5 mX5_readClause 92 [some (vR 313), some (vI 3), none] [vI 1] S J Q
              refine v_if_ne 96 dX5_readClause_92 (by decide) (fun _ => ?_) (fun cQ => absurd cQ (by decide))
              refine v_bipush dX5_readClause_96 (by decide) (in_lit (by decide)) ?_
              refine v_aload_n dX5_readClause_98 rfl ?_
              refine v_getR dX5_readClause_99 frX5_32_5 rfl (L_313 hL).1 (LR_313_10 hL) (Or.inl rfl) ?_
              refine v_bipush dX5_readClause_102 (by decide) (in_lit (by decide)) ?_
              refine ld_320 dX5_readClause_104 hL (by omega) (by decide) ?_
              show V w 5 mX5_readClause 105 [some (vR 313), some (vI 3), none] [vI (J 320 10), vI 120] S J Q
              obtain ⟨o23, K⟩ := K
              refine v_iadd dX5_readClause_105 o23 ?_
              refine v_istore_n dX5_readClause_106 (Nat.le_of_ble_eq_true rfl) ?_
              show V w 5 mX5_readClause 107 [some (vR 313), some (vI 3), some (vI (120 + (J 320 10)))] [] S J Q
              refine v_aload_n dX5_readClause_107 rfl ?_
              refine v_getR dX5_readClause_108 frX5_32_5 rfl (L_313 hL).1 (LR_313_10 hL) (Or.inl rfl) ?_
              refine v_bipush dX5_readClause_111 (by decide) (in_lit (by decide)) ?_
              refine v_dup2 dX5_readClause_113 trivial trivial ?_
              refine ld_320 dX5_readClause_114 hL (by omega) (by decide) ?_
              show V w 5 mX5_readClause 115 [some (vR 313), some (vI 3), some (vI (120 + (J 320 10)))] [vI (J 320 10), vI 10, vR 320] S J Q
              refine v_iconst dX5_readClause_115 (in_lit (by decide)) ?_
              obtain ⟨o24, K⟩ := K
              refine v_iadd dX5_readClause_116 o24 ?_
              refine st_320 dX5_readClause_117 hL (by omega) (by decide) ?_
              show V w 5 mX5_readClause 118 [some (vR 313), some (vI 3), some (vI (120 + (J 320 10)))] [] S (up J 320 10 ((J 320 10) + 1)) Q
              refine v_aload_n dX5_readClause_118 rfl ?_
              refine v_getR dX5_readClause_119 frX5_35_5 rfl (L_313 hL).1 (LR_313_11 hL) (Or.inl rfl) ?_
              refine v_iload_n dX5_readClause_122 rfl ?_
              refine v_iload_n dX5_readClause_123 rfl ?_
              obtain ⟨o25, K⟩ := K
              obtain ⟨o26, K⟩ := K
              refine st_321 dX5_readClause_124 hL o25 o26 ?_
              show V w 5 mX5_readClause 125 [some (vR 313), some (vI 3), some (vI (120 + (J 320 10)))] [] S (up (up J 320 10 ((J 320 10) + 1)) 321 (120 + (J 320 10)).toNat 3) Q
              refine v_aload_n dX5_readClause_125 rfl ?_
              refine v_callV (d' := 1) (rest := []) [] dX5_readClause_126 vrX5_229_5 (L_313 hL).1 rfl rfl one_nil (Nat.le_of_ble_eq_true rfl) (Nat.le_of_ble_eq_true rfl) (Nat.le_of_ble_eq_true rfl) ?_
              obtain ⟨o27, K⟩ := K
              obtain ⟨o28, K⟩ := K
              refine s_nextR hL  o27 o28 (fun J4 hp => ?_)
              have K := K J4 hp
              show V w 5 mX5_readClause 129 [some (vR 313), some (vI 3), some (vI (120 + (J 320 10)))] [] S J4 Q
              exact K
            · have K := K2 c12
              show V w 5 mX5_readClause 92 [some (vR 313), some (vI 3), none] [vI 0] S J Q
              refine v_if_ne 96 dX5_readClause_92 (by decide) (fun cQ => absurd cQ (by decide)) (fun _ => ?_)
              exact v_vret dX5_readClause_95 rfl K
          · have K := K1 c11
            refine v_aload_n dX5_readClause_83 rfl ?_
            refine v_iconst dX5_readClause_84 (in_lit (by decide)) ?_
            refine v_callV (d' := 0) (rest := []) [vI 3] dX5_readClause_85 vrX5_232_5 (L_313 hL).1 rfl rfl (one_I one_nil) (Nat.le_of_ble_eq_true rfl) (Nat.le_of_ble_eq_true rfl) (Nat.le_of_ble_eq_true rfl) ?_
            obtain ⟨o29, K⟩ := K
            refine s_fails hL 3 o29 ?_
            show V w 5 mX5_readClause 88 [some (vR 313), some (vI 3), none] [] S (up (up J 313 21 3) 313 22 (J 313 18)) Q
            refine v_aload_n dX5_readClause_88 rfl ?_
            refine v_callV (d' := 0) (rest := []) [] dX5_readClause_89 vrX5_222_5 (L_313 hL).1 rfl rfl one_nil (Nat.le_of_ble_eq_true rfl) (Nat.le_of_ble_eq_true rfl) (Nat.le_of_ble_eq_true rfl) ?_
            refine sX5_isWell hL   (fun cQ => absurd (show (3 : Int) = 0 from cQ) (by decide)) (fun _ => ?_)
            show V w 5 mX5_readClause 92 [some (vR 313), some (vI 3), none] [vI 0] S (up (up J 313 21 3) 313 22 (J 313 18)) Q
            refine v_if_ne 96 dX5_readClause_92 (by decide) (fun cQ => absurd cQ (by decide)) (fun _ => ?_)
            exact v_vret dX5_readClause_95 rfl K
        · have K := K2 c10
          show V w 5 mX5_readClause 49 [some (vR 313), none, none] [vI 0] S J Q
          refine v_if_eq 56 dX5_readClause_49 (by decide) (fun _ => ?_) (fun cQ => absurd cQ (by decide))
          refine v_iconst dX5_readClause_56 (in_lit (by decide)) ?_
          refine v_istore_n dX5_readClause_57 (Nat.le_of_ble_eq_true rfl) ?_
          show V w 5 mX5_readClause 58 [some (vR 313), some (vI (-1)), none] [] S J Q
          refine v_iload_n dX5_readClause_58 rfl ?_
          refine v_iconst dX5_readClause_59 (in_lit (by decide)) ?_
          refine v_icmp_ne 71 dX5_readClause_60 (by decide) (fun cQ => absurd cQ (by decide)) (fun _ => ?_)
          refine v_aload_n dX5_readClause_63 rfl ?_
          refine v_iconst dX5_readClause_64 (in_lit (by decide)) ?_
          refine v_callV (d' := 0) (rest := []) [vI 1] dX5_readClause_65 vrX5_232_5 (L_313 hL).1 rfl rfl (one_I one_nil) (Nat.le_of_ble_eq_true rfl) (Nat.le_of_ble_eq_true rfl) (Nat.le_of_ble_eq_true rfl) ?_
          obtain ⟨o30, K⟩ := K
          refine s_fails hL 1 o30 ?_
          show V w 5 mX5_readClause 68 [some (vR 313), some (vI (-1)), none] [] S (up (up J 313 21 1) 313 22 (J 313 18)) Q
          refine v_goto 88 dX5_readClause_68 (by decide) ?_
          refine v_aload_n dX5_readClause_88 rfl ?_
          refine v_callV (d' := 0) (rest := []) [] dX5_readClause_89 vrX5_222_5 (L_313 hL).1 rfl rfl one_nil (Nat.le_of_ble_eq_true rfl) (Nat.le_of_ble_eq_true rfl) (Nat.le_of_ble_eq_true rfl) ?_
          refine sX5_isWell hL   (fun cQ => absurd (show (1 : Int) = 0 from cQ) (by decide)) (fun _ => ?_)
          show V w 5 mX5_readClause 92 [some (vR 313), some (vI (-1)), none] [vI 0] S (up (up J 313 21 1) 313 22 (J 313 18)) Q
          refine v_if_ne 96 dX5_readClause_92 (by decide) (fun cQ => absurd cQ (by decide)) (fun _ => ?_)
          exact v_vret dX5_readClause_95 rfl K
theorem gX5_readClause_129 {w : Wd} {S : Sh} {J : Jm} {Q : Out → Sh → Jm → Prop} (hL : Lay S) (so : Int) (r : Nat)
    (K : Br (2 ≤ so) (V w 5 mX5_readClause 281 [some (vR 313), some (vI so), some (vI ((r : Nat) : Int))] [] S J Q) ((((r : Nat) : Int) < 132) ∧ (0 ≤ (J 313 18) ∧ (J 313 18) ≤ 300 ∧ 0 ≤ (J 313 17) ∧ (J 313 17) ≤ 300) ∧ Br (WordIs (up (up J 323 r 3) 324 r 1) [102, 105, 114, 115, 116]) ((MTape (up (up (up J 323 r 3) 324 r 1) 322 r 0)) ∧ (0 ≤ (J 313 17) ∧ (J 313 17) ≤ 300) ∧ (∀ (J1 : Jm), PNx (up (up (up J 323 r 3) 324 r 1) 322 r 0) ((up (up (up J 323 r 3) 324 r 1) 322 r 0) 313 17).toNat J1 → V w 5 mX5_readClause 210 [some (vR 313), none, some (vI ((r : Nat) : Int))] [] S J1 Q)) (Br (WordIs (up (up J 323 r 3) 324 r 1) [108, 97, 115, 116]) ((MTape (up (up (up J 323 r 3) 324 r 1) 322 r 7)) ∧ (0 ≤ (J 313 17) ∧ (J 313 17) ≤ 300) ∧ (∀ (J2 : Jm), PNx (up (up (up J 323 r 3) 324 r 1) 322 r 7) ((up (up (up J 323 r 3) 324 r 1) 322 r 7) 313 17).toNat J2 → V w 5 mX5_readClause 210 [some (vR 313), none, some (vI ((r : Nat) : Int))] [] S J2 Q)) ((MTape (up (up J 323 r 3) 324 r 1)) ∧ (0 ≤ (J 313 17) ∧ (J 313 17) ≤ 300) ∧ (∀ (r3 : Int) (J3 : Jm), PNum (up (up J 323 r 3) 324 r 1) 1 6 r3 J3 → V w 5 mX5_readClause 210 [some (vR 313), none, some (vI ((r : Nat) : Int))] [] S (up J3 322 r r3) Q))))) :
    V w 5 mX5_readClause 129 [some (vR 313), some (vI so), some (vI ((r : Nat) : Int))] [] S J Q := by
  refine v_iload_n dX5_readClause_129 rfl ?_
  refine v_iconst dX5_readClause_130 (in_lit (by decide)) ?_
  obtain ⟨K1, K2⟩ := K
  refine v_icmp_ge 281 dX5_readClause_131 (by decide) (fun c1 => ?_) (fun c1 => ?_)
  · have K := K1 c1
    exact K
  · have K := K2 c1
    refine v_aload_n dX5_readClause_134 rfl ?_
    refine v_getR dX5_readClause_135 frX5_41_5 rfl (L_313 hL).1 (LR_313_13 hL) (Or.inl rfl) ?_
    refine v_iload_n dX5_readClause_138 rfl ?_
    refine v_iconst dX5_readClause_139 (in_lit (by decide)) ?_
    obtain ⟨o1, K⟩ := K
    refine st_323 dX5_readClause_140 hL (by omega) o1 ?_
    show V w 5 mX5_readClause 141 [some (vR 313), some (vI so), some (vI ((r : Nat) : Int))] [] S (up J 323 r 3) Q
    refine v_aload_n dX5_readClause_141 rfl ?_
    refine v_getR dX5_readClause_142 frX5_44_5 rfl (L_313 hL).1 (LR_313_14 hL) (Or.inl rfl) ?_
    refine v_iload_n dX5_readClause_145 rfl ?_
    refine v_iconst dX5_readClause_146 (in_lit (by decide)) ?_
    refine st_324 dX5_readClause_147 hL (by omega) o1 ?_
    show V w 5 mX5_readClause 148 [some (vR 313), some (vI so), some (vI ((r : Nat) : Int))] [] S (up (up J 323 r 3) 324 r 1) Q
    refine v_aload_n dX5_readClause_148 rfl ?_
    refine v_ldcSw (i := 17) dX5_readClause_149 rfl ?_
    refine v_callV (d' := 4) (rest := []) [vR (2 * 17)] dX5_readClause_152 vrX5_258_5 (L_313 hL).1 rfl rfl (one_O one_nil) (Nat.le_of_ble_eq_true rfl) (Nat.le_of_ble_eq_true rfl) (Nat.le_of_ble_eq_true rfl) ?_
    obtain ⟨o2, K⟩ := K
    obtain ⟨K1, K2⟩ := K
    refine s_isWord hL 17 [102, 105, 114, 115, 116] (⟨_, _, _, rfl⟩ : StrB 17 [102, 105, 114, 115, 116]) o2 (fun c2 => ?_) (fun c2 => ?_)
    · have K := K1 c2
      show V w 5 mX5_readClause 155 [some (vR 313), some (vI so), some (vI ((r : Nat) : Int))] [vI 1] S (up (up J 323 r 3) 324 r 1) Q
      refine v_if_ne 168 dX5_readClause_155 (by decide) (fun _ => ?_) (fun cQ => absurd cQ (by decide))
      refine v_aload_n dX5_readClause_168 rfl ?_
      refine v_getR dX5_readClause_169 frX5_38_5 rfl (L_313 hL).1 (LR_313_12 hL) (Or.inl rfl) ?_
      refine v_iload_n dX5_readClause_172 rfl ?_
      refine v_aload_n dX5_readClause_173 rfl ?_
      refine v_ldcSw (i := 17) dX5_readClause_174 rfl ?_
      refine v_callV (d' := 4) (rest := [vI ((r : Nat) : Int), vR 322]) [vR (2 * 17)] dX5_readClause_177 vrX5_258_5 (L_313 hL).1 rfl rfl (one_O one_nil) (Nat.le_of_ble_eq_true rfl) (Nat.le_of_ble_eq_true rfl) (Nat.le_of_ble_eq_true rfl) ?_
      refine s_isWord hL 17 [102, 105, 114, 115, 116] (⟨_, _, _, rfl⟩ : StrB 17 [102, 105, 114, 115, 116]) o2 (fun _ => ?_) (fun cQ => absurd c2 cQ)
      show V w 5 mX5_readClause 180 [some (vR 313), some (vI so), some (vI ((r : Nat) : Int))] [vI 1, vI ((r : Nat) : Int), vR 322] S (up (up J 323 r 3) 324 r 1) Q
      refine v_if_eq 187 dX5_readClause_180 (by decide) (fun cQ => absurd cQ (by decide)) (fun _ => ?_)
      refine v_iconst dX5_readClause_183 (in_lit (by decide)) ?_
      refine v_goto 189 dX5_readClause_184 (by decide) ?_
      refine st_322 dX5_readClause_189 hL (by omega) o1 ?_
      show V w 5 mX5_readClause 190 [some (vR 313), some (vI so), some (vI ((r : Nat) : Int))] [] S (up (up (up J 323 r 3) 324 r 1) 322 r 0) Q
      refine v_aload_n dX5_readClause_190 rfl ?_
      refine v_callV (d' := 1) (rest := []) [] dX5_readClause_191 vrX5_229_5 (L_313 hL).1 rfl rfl one_nil (Nat.le_of_ble_eq_true rfl) (Nat.le_of_ble_eq_true rfl) (Nat.le_of_ble_eq_true rfl) ?_
      obtain ⟨o3, K⟩ := K
      obtain ⟨o4, K⟩ := K
      refine s_nextR hL  o3 o4 (fun J1 hp => ?_)
      have K := K J1 hp
      show V w 5 mX5_readClause 194 [some (vR 313), some (vI so), some (vI ((r : Nat) : Int))] [] S J1 Q
      refine v_goto 210 dX5_readClause_194 (by decide) ?_
      exact v_forget (fg_some (fg_none (fg_some fg_nil))) K
    · have K := K2 c2
      show V w 5 mX5_readClause 155 [some (vR 313), some (vI so), some (vI ((r : Nat) : Int))] [vI 0] S (up (up J 323 r 3) 324 r 1) Q
      refine v_if_ne 168 dX5_readClause_155 (by decide) (fun cQ => absurd cQ (by decide)) (fun _ => ?_)
      refine v_aload_n dX5_readClause_158 rfl ?_
      refine v_ldcSw (i := 18) dX5_readClause_159 rfl ?_
      refine v_callV (d' := 4) (rest := []) [vR (2 * 18)] dX5_readClause_162 vrX5_258_5 (L_313 hL).1 rfl rfl (one_O one_nil) (Nat.le_of_ble_eq_true rfl) (Nat.le_of_ble_eq_true rfl) (Nat.le_of_ble_eq_true rfl) ?_
      obtain ⟨K1, K2⟩ := K
      refine s_isWord hL 18 [108, 97, 115, 116] (⟨_, _, _, rfl⟩ : StrB 18 [108, 97, 115, 116]) o2 (fun c3 => ?_) (fun c3 => ?_)
      · have K := K1 c3
        show V w 5 mX5_readClause 165 [some (vR 313), some (vI so), some (vI ((r : Nat) : Int))] [vI 1] S (up (up J 323 r 3) 324 r 1) Q
        refine v_if_eq 197 dX5_readClause_165 (by decide) (fun cQ => absurd cQ (by decide)) (fun _ => ?_)
        refine v_aload_n dX5_readClause_168 rfl ?_
        refine v_getR dX5_readClause_169 frX5_38_5 rfl (L_313 hL).1 (LR_313_12 hL) (Or.inl rfl) ?_
        refine v_iload_n dX5_readClause_172 rfl ?_
        refine v_aload_n dX5_readClause_173 rfl ?_
        refine v_ldcSw (i := 17) dX5_readClause_174 rfl ?_
        refine v_callV (d' := 4) (rest := [vI ((r : Nat) : Int), vR 322]) [vR (2 * 17)] dX5_readClause_177 vrX5_258_5 (L_313 hL).1 rfl rfl (one_O one_nil) (Nat.le_of_ble_eq_true rfl) (Nat.le_of_ble_eq_true rfl) (Nat.le_of_ble_eq_true rfl) ?_
        refine s_isWord hL 17 [102, 105, 114, 115, 116] (⟨_, _, _, rfl⟩ : StrB 17 [102, 105, 114, 115, 116]) o2 (fun cQ => absurd cQ c2) (fun _ => ?_)
        show V w 5 mX5_readClause 180 [some (vR 313), some (vI so), some (vI ((r : Nat) : Int))] [vI 0, vI ((r : Nat) : Int), vR 322] S (up (up J 323 r 3) 324 r 1) Q
        refine v_if_eq 187 dX5_readClause_180 (by decide) (fun _ => ?_) (fun cQ => absurd cQ (by decide))
        refine v_bipush dX5_readClause_187 (by decide) (in_lit (by decide)) ?_
        refine st_322 dX5_readClause_189 hL (by omega) o1 ?_
        show V w 5 mX5_readClause 190 [some (vR 313), some (vI so), some (vI ((r : Nat) : Int))] [] S (up (up (up J 323 r 3) 324 r 1) 322 r 7) Q
        refine v_aload_n dX5_readClause_190 rfl ?_
        refine v_callV (d' := 1) (rest := []) [] dX5_readClause_191 vrX5_229_5 (L_313 hL).1 rfl rfl one_nil (Nat.le_of_ble_eq_true rfl) (Nat.le_of_ble_eq_true rfl) (Nat.le_of_ble_eq_true rfl) ?_
        obtain ⟨o5, K⟩ := K
        obtain ⟨o6, K⟩ := K
        refine s_nextR hL  o5 o6 (fun J2 hp => ?_)
        have K := K J2 hp
        show V w 5 mX5_readClause 194 [some (vR 313), some (vI so), some (vI ((r : Nat) : Int))] [] S J2 Q
        refine v_goto 210 dX5_readClause_194 (by decide) ?_
        exact v_forget (fg_some (fg_none (fg_some fg_nil))) K
      · have K := K2 c3
        show V w 5 mX5_readClause 165 [some (vR 313), some (vI so), some (vI ((r : Nat) : Int))] [vI 0] S (up (up J 323 r 3) 324 r 1) Q
        refine v_if_eq 197 dX5_readClause_165 (by decide) (fun _ => ?_) (fun cQ => absurd cQ (by decide))
        refine v_aload_n dX5_readClause_197 rfl ?_
        refine v_getR dX5_readClause_198 frX5_38_5 rfl (L_313 hL).1 (LR_313_12 hL) (Or.inl rfl) ?_
        refine v_iload_n dX5_readClause_201 rfl ?_
        refine v_aload_n dX5_readClause_202 rfl ?_
        refine v_iconst dX5_readClause_203 (in_lit (by decide)) ?_
        refine v_bipush dX5_readClause_204 (by decide) (in_lit (by decide)) ?_
        refine v_callV (d' := 2) (rest := [vI ((r : Nat) : Int), vR 322]) [vI 1, vI 6] dX5_readClause_206 vrX5_236_5 (L_313 hL).1 rfl rfl (one_I (one_I one_nil)) (Nat.le_of_ble_eq_true rfl) (Nat.le_of_ble_eq_true rfl) (Nat.le_of_ble_eq_true rfl) ?_
        obtain ⟨o7, K⟩ := K
        obtain ⟨o8, K⟩ := K
        refine s_number hL 1 6 o7 o8 (fun r3 J3 hp => ?_)
        have K := K r3 J3 hp
        show V w 5 mX5_readClause 209 [some (vR 313), some (vI so), some (vI ((r : Nat) : Int))] [vI r3, vI ((r : Nat) : Int), vR 322] S J3 Q
        refine st_322 dX5_readClause_209 hL (by omega) o1 ?_
        show V w 5 mX5_readClause 210 [some (vR 313), some (vI so), some (vI ((r : Nat) : Int))] [] S (up J3 322 r r3) Q
        exact v_forget (fg_some (fg_none (fg_some fg_nil))) K
theorem gX5_readClause_210 {w : Wd} {S : Sh} {J : Jm} {Q : Out → Sh → Jm → Prop} (hL : Lay S) (r : Nat)
    (K : Br (J 313 21 = 0) ((0 ≤ J 313 18 ∧ J 313 18 ≤ 300 ∧ 0 ≤ J 313 17 ∧ J 313 17 ≤ 300) ∧ Br (WordIs J [108, 101, 110, 103, 116, 104]) ((MTape J) ∧ (0 ≤ J 313 17 ∧ J 313 17 ≤ 300) ∧ (∀ (J1 : Jm), PNx J (J 313 17).toNat J1 → (MTape J1) ∧ (0 ≤ J1 313 17 ∧ J1 313 17 ≤ 300) ∧ (∀ (r2 : Int) (J2 : Jm), PNum J1 2 6 r2 J2 → (((r : Nat) : Int) < 132) ∧ V w 5 mX5_readClause 244 [some (vR 313), none, some (vI ((r : Nat) : Int))] [] S (up J2 323 r r2) Q))) (V w 5 mX5_readClause 244 [some (vR 313), none, some (vI ((r : Nat) : Int))] [] S J Q)) (V w 5 mX5_readClause 244 [some (vR 313), none, some (vI ((r : Nat) : Int))] [] S J Q)) :
    V w 5 mX5_readClause 210 [some (vR 313), none, some (vI ((r : Nat) : Int))] [] S J Q := by
  refine v_aload_n dX5_readClause_210 rfl ?_
  refine v_callV (d' := 0) (rest := []) [] dX5_readClause_211 vrX5_222_5 (L_313 hL).1 rfl rfl one_nil (Nat.le_of_ble_eq_true rfl) (Nat.le_of_ble_eq_true rfl) (Nat.le_of_ble_eq_true rfl) ?_
  obtain ⟨K1, K2⟩ := K
  refine sX5_isWell hL   (fun c1 => ?_) (fun c1 => ?_)
  · have K := K1 c1
    show V w 5 mX5_readClause 214 [some (vR 313), none, some (vI ((r : Nat) : Int))] [vI 1] S J Q
    refine v_if_eq 244 dX5_readClause_214 (by decide) (fun cQ => absurd cQ (by decide)) (fun _ => ?_)
    refine v_aload_n dX5_readClause_217 rfl ?_
    refine v_ldcSw (i := 19) dX5_readClause_218 rfl ?_
    refine v_callV (d' := 4) (rest := []) [vR (2 * 19)] dX5_readClause_221 vrX5_258_5 (L_313 hL).1 rfl rfl (one_O one_nil) (Nat.le_of_ble_eq_true rfl) (Nat.le_of_ble_eq_true rfl) (Nat.le_of_ble_eq_true rfl) ?_
    obtain ⟨o1, K⟩ := K
    obtain ⟨K1, K2⟩ := K
    refine s_isWord hL 19 [108, 101, 110, 103, 116, 104] (⟨_, _, _, rfl⟩ : StrB 19 [108, 101, 110, 103, 116, 104]) o1 (fun c2 => ?_) (fun c2 => ?_)
    · have K := K1 c2
      show V w 5 mX5_readClause 224 [some (vR 313), none, some (vI ((r : Nat) : Int))] [vI 1] S J Q
      refine v_if_eq 244 dX5_readClause_224 (by decide) (fun cQ => absurd cQ (by decide)) (fun _ => ?_)
      refine v_aload_n dX5_readClause_227 rfl ?_
      refine v_callV (d' := 1) (rest := []) [] dX5_readClause_228 vrX5_229_5 (L_313 hL).1 rfl rfl one_nil (Nat.le_of_ble_eq_true rfl) (Nat.le_of_ble_eq_true rfl) (Nat.le_of_ble_eq_true rfl) ?_
      obtain ⟨o2, K⟩ := K
      obtain ⟨o3, K⟩ := K
      refine s_nextR hL  o2 o3 (fun J1 hp => ?_)
      have K := K J1 hp
      show V w 5 mX5_readClause 231 [some (vR 313), none, some (vI ((r : Nat) : Int))] [] S J1 Q
      refine v_aload_n dX5_readClause_231 rfl ?_
      refine v_getR dX5_readClause_232 frX5_41_5 rfl (L_313 hL).1 (LR_313_13 hL) (Or.inl rfl) ?_
      refine v_iload_n dX5_readClause_235 rfl ?_
      refine v_aload_n dX5_readClause_236 rfl ?_
      refine v_iconst dX5_readClause_237 (in_lit (by decide)) ?_
      refine v_bipush dX5_readClause_238 (by decide) (in_lit (by decide)) ?_
      refine v_callV (d' := 2) (rest := [vI ((r : Nat) : Int), vR 323]) [vI 2, vI 6] dX5_readClause_240 vrX5_236_5 (L_313 hL).1 rfl rfl (one_I (one_I one_nil)) (Nat.le_of_ble_eq_true rfl) (Nat.le_of_ble_eq_true rfl) (Nat.le_of_ble_eq_true rfl) ?_
      obtain ⟨o4, K⟩ := K
      obtain ⟨o5, K⟩ := K
      refine s_number hL 2 6 o4 o5 (fun r2 J2 hp => ?_)
      have K := K r2 J2 hp
      show V w 5 mX5_readClause 243 [some (vR 313), none, some (vI ((r : Nat) : Int))] [vI r2, vI ((r : Nat) : Int), vR 323] S J2 Q
      obtain ⟨o6, K⟩ := K
      refine st_323 dX5_readClause_243 hL (by omega) o6 ?_
      show V w 5 mX5_readClause 244 [some (vR 313), none, some (vI ((r : Nat) : Int))] [] S (up J2 323 r r2) Q
      exact K
    · have K := K2 c2
      show V w 5 mX5_readClause 224 [some (vR 313), none, some (vI ((r : Nat) : Int))] [vI 0] S J Q
      refine v_if_eq 244 dX5_readClause_224 (by decide) (fun _ => ?_) (fun cQ => absurd cQ (by decide))
      exact K
  · have K := K2 c1
    show V w 5 mX5_readClause 214 [some (vR 313), none, some (vI ((r : Nat) : Int))] [vI 0] S J Q
    refine v_if_eq 244 dX5_readClause_214 (by decide) (fun _ => ?_) (fun cQ => absurd cQ (by decide))
    exact K
theorem gX5_readClause_244 {w : Wd} {S : Sh} {J : Jm} {Q : Out → Sh → Jm → Prop} (hL : Lay S) (r : Nat)
    (K : Br (J 313 21 = 0) ((0 ≤ J 313 18 ∧ J 313 18 ≤ 300 ∧ 0 ≤ J 313 17 ∧ J 313 17 ≤ 300) ∧ Br (WordIs J [99, 111, 117, 110, 116]) ((MTape J) ∧ (0 ≤ J 313 17 ∧ J 313 17 ≤ 300) ∧ (∀ (J1 : Jm), PNx J (J 313 17).toNat J1 → (MTape J1) ∧ (0 ≤ J1 313 17 ∧ J1 313 17 ≤ 300) ∧ (∀ (r2 : Int) (J2 : Jm), PNum J1 1 99 r2 J2 → (((r : Nat) : Int) < 132) ∧ V w 5 mX5_readClause 442 [some (vR 313), none, none] [] S (up J2 324 r r2) Q))) (V w 5 mX5_readClause 442 [some (vR 313), none, none] [] S J Q)) (V w 5 mX5_readClause 442 [some (vR 313), none, none] [] S J Q)) :
    V w 5 mX5_readClause 244 [some (vR 313), none, some (vI ((r : Nat) : Int))] [] S J Q := by
  refine v_aload_n dX5_readClause_244 rfl ?_
  refine v_callV (d' := 0) (rest := []) [] dX5_readClause_245 vrX5_222_5 (L_313 hL).1 rfl rfl one_nil (Nat.le_of_ble_eq_true rfl) (Nat.le_of_ble_eq_true rfl) (Nat.le_of_ble_eq_true rfl) ?_
  obtain ⟨K1, K2⟩ := K
  refine sX5_isWell hL   (fun c1 => ?_) (fun c1 => ?_)
  · have K := K1 c1
    show V w 5 mX5_readClause 248 [some (vR 313), none, some (vI ((r : Nat) : Int))] [vI 1] S J Q
    refine v_if_eq 442 dX5_readClause_248 (by decide) (fun cQ => absurd cQ (by decide)) (fun _ => ?_)
    refine v_aload_n dX5_readClause_251 rfl ?_
    refine v_ldcSw (i := 20) dX5_readClause_252 rfl ?_
    refine v_callV (d' := 4) (rest := []) [vR (2 * 20)] dX5_readClause_255 vrX5_258_5 (L_313 hL).1 rfl rfl (one_O one_nil) (Nat.le_of_ble_eq_true rfl) (Nat.le_of_ble_eq_true rfl) (Nat.le_of_ble_eq_true rfl) ?_
    obtain ⟨o1, K⟩ := K
    obtain ⟨K1, K2⟩ := K
    refine s_isWord hL 20 [99, 111, 117, 110, 116] (⟨_, _, _, rfl⟩ : StrB 20 [99, 111, 117, 110, 116]) o1 (fun c2 => ?_) (fun c2 => ?_)
    · have K := K1 c2
      show V w 5 mX5_readClause 258 [some (vR 313), none, some (vI ((r : Nat) : Int))] [vI 1] S J Q
      refine v_if_eq 442 dX5_readClause_258 (by decide) (fun cQ => absurd cQ (by decide)) (fun _ => ?_)
      refine v_aload_n dX5_readClause_261 rfl ?_
      refine v_callV (d' := 1) (rest := []) [] dX5_readClause_262 vrX5_229_5 (L_313 hL).1 rfl rfl one_nil (Nat.le_of_ble_eq_true rfl) (Nat.le_of_ble_eq_true rfl) (Nat.le_of_ble_eq_true rfl) ?_
      obtain ⟨o2, K⟩ := K
      obtain ⟨o3, K⟩ := K
      refine s_nextR hL  o2 o3 (fun J1 hp => ?_)
      have K := K J1 hp
      show V w 5 mX5_readClause 265 [some (vR 313), none, some (vI ((r : Nat) : Int))] [] S J1 Q
      refine v_aload_n dX5_readClause_265 rfl ?_
      refine v_getR dX5_readClause_266 frX5_44_5 rfl (L_313 hL).1 (LR_313_14 hL) (Or.inl rfl) ?_
      refine v_iload_n dX5_readClause_269 rfl ?_
      refine v_aload_n dX5_readClause_270 rfl ?_
      refine v_iconst dX5_readClause_271 (in_lit (by decide)) ?_
      refine v_bipush dX5_readClause_272 (by decide) (in_lit (by decide)) ?_
      refine v_callV (d' := 2) (rest := [vI ((r : Nat) : Int), vR 324]) [vI 1, vI 99] dX5_readClause_274 vrX5_236_5 (L_313 hL).1 rfl rfl (one_I (one_I one_nil)) (Nat.le_of_ble_eq_true rfl) (Nat.le_of_ble_eq_true rfl) (Nat.le_of_ble_eq_true rfl) ?_
      obtain ⟨o4, K⟩ := K
      obtain ⟨o5, K⟩ := K
      refine s_number hL 1 99 o4 o5 (fun r2 J2 hp => ?_)
      have K := K r2 J2 hp
      show V w 5 mX5_readClause 277 [some (vR 313), none, some (vI ((r : Nat) : Int))] [vI r2, vI ((r : Nat) : Int), vR 324] S J2 Q
      obtain ⟨o6, K⟩ := K
      refine st_324 dX5_readClause_277 hL (by omega) o6 ?_
      show V w 5 mX5_readClause 278 [some (vR 313), none, some (vI ((r : Nat) : Int))] [] S (up J2 324 r r2) Q
      refine v_goto 442 dX5_readClause_278 (by decide) ?_
      exact v_forget (fg_some (fg_none (fg_none fg_nil))) K
    · have K := K2 c2
      show V w 5 mX5_readClause 258 [some (vR 313), none, some (vI ((r : Nat) : Int))] [vI 0] S J Q
      refine v_if_eq 442 dX5_readClause_258 (by decide) (fun _ => ?_) (fun cQ => absurd cQ (by decide))
      exact v_forget (fg_some (fg_none (fg_none fg_nil))) K
  · have K := K2 c1
    show V w 5 mX5_readClause 248 [some (vR 313), none, some (vI ((r : Nat) : Int))] [vI 0] S J Q
    refine v_if_eq 442 dX5_readClause_248 (by decide) (fun _ => ?_) (fun cQ => absurd cQ (by decide))
    exact v_forget (fg_some (fg_none (fg_none fg_nil))) K
theorem gX5_readClause_281 {w : Wd} {S : Sh} {J : Jm} {Q : Out → Sh → Jm → Prop} (hL : Lay S) (so : Int) (r : Nat)
    (K : ((0 ≤ J 313 17 ∧ J 313 17 ≤ 300) ∧ 0 ≤ J 313 18 ∧ J 313 18 ≤ 300) ∧ (∀ (r1 : Int) (J1 : Jm), PLet J r1 J1 → (((r : Nat) : Int) < 132) ∧ Br ((J1 313 21) = 0) (Br (so = 3) (Br (vwI ((up J1 322 r r1) 322 r) = (-1)) ((MTape (up J1 322 r r1)) ∧ (0 ≤ (J1 313 17) ∧ (J1 313 17) ≤ 300) ∧ (∀ (J3 : Jm), PNx (up J1 322 r r1) ((up J1 322 r r1) 313 17).toNat J3 → V w 5 mX5_readClause 332 [some (vR 313), some (vI so), some (vI ((r : Nat) : Int))] [] S J3 Q)) (V w 5 mX5_readClause 332 [some (vR 313), some (vI so), some (vI ((r : Nat) : Int))] [] S (up (up (up J1 322 r r1) 313 21 2) 313 22 (J1 313 18)) Q)) ((MTape (up J1 322 r r1)) ∧ (0 ≤ (J1 313 17) ∧ (J1 313 17) ≤ 300) ∧ (∀ (J2 : Jm), PNx (up J1 322 r r1) ((up J1 322 r r1) 313 17).toNat J2 → V w 5 mX5_readClause 332 [some (vR 313), some (vI so), some (vI ((r : Nat) : Int))] [] S J2 Q))) (V w 5 mX5_readClause 332 [some (vR 313), some (vI so), some (vI ((r : Nat) : Int))] [] S (up J1 322 r r1) Q))) :
    V w 5 mX5_readClause 281 [some (vR 313), some (vI so), some (vI ((r : Nat) : Int))] [] S J Q := by
  refine v_aload_n dX5_readClause_281 rfl ?_
  refine v_getR dX5_readClause_282 frX5_38_5 rfl (L_313 hL).1 (LR_313_12 hL) (Or.inl rfl) ?_
  refine v_iload_n dX5_readClause_285 rfl ?_
  refine v_aload_n dX5_readClause_286 rfl ?_
  refine v_callV (d' := 1) (rest := [vI ((r : Nat) : Int), vR 322]) [] dX5_readClause_287 vrX5_275_5 (L_313 hL).1 rfl rfl one_nil (Nat.le_of_ble_eq_true rfl) (Nat.le_of_ble_eq_true rfl) (Nat.le_of_ble_eq_true rfl) ?_
  obtain ⟨o1, K⟩ := K
  refine s_letterHere hL  o1 (fun r1 J1 hp => ?_)
  have K := K r1 J1 hp
  show V w 5 mX5_readClause 290 [some (vR 313), some (vI so), some (vI ((r : Nat) : Int))] [vI r1, vI ((r : Nat) : Int), vR 322] S J1 Q
  obtain ⟨o2, K⟩ := K
  refine st_322 dX5_readClause_290 hL (by omega) o2 ?_
  show V w 5 mX5_readClause 291 [some (vR 313), some (vI so), some (vI ((r : Nat) : Int))] [] S (up J1 322 r r1) Q
  refine v_aload_n dX5_readClause_291 rfl ?_
  refine v_callV (d' := 0) (rest := []) [] dX5_readClause_292 vrX5_222_5 (L_313 hL).1 rfl rfl one_nil (Nat.le_of_ble_eq_true rfl) (Nat.le_of_ble_eq_true rfl) (Nat.le_of_ble_eq_true rfl) ?_
  obtain ⟨K1, K2⟩ := K
  refine sX5_isWell hL   (fun c1 => ?_) (fun c1 => ?_)
  · have K := K1 c1
    show V w 5 mX5_readClause 295 [some (vR 313), some (vI so), some (vI ((r : Nat) : Int))] [vI 1] S (up J1 322 r r1) Q
    refine v_if_eq 321 dX5_readClause_295 (by decide) (fun cQ => absurd cQ (by decide)) (fun _ => ?_)
    refine v_iload_n dX5_readClause_298 rfl ?_
    refine v_iconst dX5_readClause_299 (in_lit (by decide)) ?_
    obtain ⟨K1, K2⟩ := K
    refine v_icmp_ne 321 dX5_readClause_300 (by decide) (fun c2 => ?_) (fun c2 => ?_)
    · have K := K2 c2
      refine v_aload_n dX5_readClause_321 rfl ?_
      refine v_callV (d' := 0) (rest := []) [] dX5_readClause_322 vrX5_222_5 (L_313 hL).1 rfl rfl one_nil (Nat.le_of_ble_eq_true rfl) (Nat.le_of_ble_eq_true rfl) (Nat.le_of_ble_eq_true rfl) ?_
      refine sX5_isWell hL   (fun _ => ?_) (fun cQ => absurd c1 cQ)
      show V w 5 mX5_readClause 325 [some (vR 313), some (vI so), some (vI ((r : Nat) : Int))] [vI 1] S (up J1 322 r r1) Q
      refine v_if_eq 332 dX5_readClause_325 (by decide) (fun cQ => absurd cQ (by decide)) (fun _ => ?_)
      refine v_aload_n dX5_readClause_328 rfl ?_
      refine v_callV (d' := 1) (rest := []) [] dX5_readClause_329 vrX5_229_5 (L_313 hL).1 rfl rfl one_nil (Nat.le_of_ble_eq_true rfl) (Nat.le_of_ble_eq_true rfl) (Nat.le_of_ble_eq_true rfl) ?_
      obtain ⟨o3, K⟩ := K
      obtain ⟨o4, K⟩ := K
      refine s_nextR hL  o3 o4 (fun J2 hp => ?_)
      have K := K J2 hp
      show V w 5 mX5_readClause 332 [some (vR 313), some (vI so), some (vI ((r : Nat) : Int))] [] S J2 Q
      exact K
    · have K := K1 c2
      refine v_aload_n dX5_readClause_303 rfl ?_
      refine v_getR dX5_readClause_304 frX5_38_5 rfl (L_313 hL).1 (LR_313_12 hL) (Or.inl rfl) ?_
      refine v_iload_n dX5_readClause_307 rfl ?_
      refine ld_322 dX5_readClause_308 hL (by omega) o2 ?_
      show V w 5 mX5_readClause 309 [some (vR 313), some (vI so), some (vI ((r : Nat) : Int))] [vI ((up J1 322 r r1) 322 r)] S (up J1 322 r r1) Q
      refine v_callS (d' := 0) (rest := []) [vI ((up J1 322 r r1) 322 r)] dX5_readClause_309 srX5_278 rfl (one_I one_nil) (Nat.le_of_ble_eq_true rfl) (Nat.le_of_ble_eq_true rfl) (Nat.le_of_ble_eq_true rfl) ?_
      refine s_vowel hL ((up J1 322 r r1) 322 r)  ?_
      show V w 5 mX5_readClause 312 [some (vR 313), some (vI so), some (vI ((r : Nat) : Int))] [vI (vwI ((up J1 322 r r1) 322 r))] S (up J1 322 r r1) Q
      refine v_iconst dX5_readClause_312 (in_lit (by decide)) ?_
      obtain ⟨K1, K2⟩ := K
      refine v_icmp_eq 321 dX5_readClause_313 (by decide) (fun c3 => ?_) (fun c3 => ?_)
      · have K := K1 c3
        refine v_aload_n dX5_readClause_321 rfl ?_
        refine v_callV (d' := 0) (rest := []) [] dX5_readClause_322 vrX5_222_5 (L_313 hL).1 rfl rfl one_nil (Nat.le_of_ble_eq_true rfl) (Nat.le_of_ble_eq_true rfl) (Nat.le_of_ble_eq_true rfl) ?_
        refine sX5_isWell hL   (fun _ => ?_) (fun cQ => absurd c1 cQ)
        show V w 5 mX5_readClause 325 [some (vR 313), some (vI so), some (vI ((r : Nat) : Int))] [vI 1] S (up J1 322 r r1) Q
        refine v_if_eq 332 dX5_readClause_325 (by decide) (fun cQ => absurd cQ (by decide)) (fun _ => ?_)
        refine v_aload_n dX5_readClause_328 rfl ?_
        refine v_callV (d' := 1) (rest := []) [] dX5_readClause_329 vrX5_229_5 (L_313 hL).1 rfl rfl one_nil (Nat.le_of_ble_eq_true rfl) (Nat.le_of_ble_eq_true rfl) (Nat.le_of_ble_eq_true rfl) ?_
        obtain ⟨o5, K⟩ := K
        obtain ⟨o6, K⟩ := K
        refine s_nextR hL  o5 o6 (fun J3 hp => ?_)
        have K := K J3 hp
        show V w 5 mX5_readClause 332 [some (vR 313), some (vI so), some (vI ((r : Nat) : Int))] [] S J3 Q
        exact K
      · have K := K2 c3
        refine v_aload_n dX5_readClause_316 rfl ?_
        refine v_iconst dX5_readClause_317 (in_lit (by decide)) ?_
        refine v_callV (d' := 0) (rest := []) [vI 2] dX5_readClause_318 vrX5_232_5 (L_313 hL).1 rfl rfl (one_I one_nil) (Nat.le_of_ble_eq_true rfl) (Nat.le_of_ble_eq_true rfl) (Nat.le_of_ble_eq_true rfl) ?_
        refine s_fails hL 2 c1 ?_
        show V w 5 mX5_readClause 321 [some (vR 313), some (vI so), some (vI ((r : Nat) : Int))] [] S (up (up (up J1 322 r r1) 313 21 2) 313 22 (J1 313 18)) Q
        refine v_aload_n dX5_readClause_321 rfl ?_
        refine v_callV (d' := 0) (rest := []) [] dX5_readClause_322 vrX5_222_5 (L_313 hL).1 rfl rfl one_nil (Nat.le_of_ble_eq_true rfl) (Nat.le_of_ble_eq_true rfl) (Nat.le_of_ble_eq_true rfl) ?_
        refine sX5_isWell hL   (fun cQ => absurd (show (2 : Int) = 0 from cQ) (by decide)) (fun _ => ?_)
        show V w 5 mX5_readClause 325 [some (vR 313), some (vI so), some (vI ((r : Nat) : Int))] [vI 0] S (up (up (up J1 322 r r1) 313 21 2) 313 22 (J1 313 18)) Q
        refine v_if_eq 332 dX5_readClause_325 (by decide) (fun _ => ?_) (fun cQ => absurd cQ (by decide))
        exact K
  · have K := K2 c1
    show V w 5 mX5_readClause 295 [some (vR 313), some (vI so), some (vI ((r : Nat) : Int))] [vI 0] S (up J1 322 r r1) Q
    refine v_if_eq 321 dX5_readClause_295 (by decide) (fun _ => ?_) (fun cQ => absurd cQ (by decide))
    refine v_aload_n dX5_readClause_321 rfl ?_
    refine v_callV (d' := 0) (rest := []) [] dX5_readClause_322 vrX5_222_5 (L_313 hL).1 rfl rfl one_nil (Nat.le_of_ble_eq_true rfl) (Nat.le_of_ble_eq_true rfl) (Nat.le_of_ble_eq_true rfl) ?_
    refine sX5_isWell hL   (fun cQ => absurd cQ c1) (fun _ => ?_)
    show V w 5 mX5_readClause 325 [some (vR 313), some (vI so), some (vI ((r : Nat) : Int))] [vI 0] S (up J1 322 r r1) Q
    refine v_if_eq 332 dX5_readClause_325 (by decide) (fun _ => ?_) (fun cQ => absurd cQ (by decide))
    exact K
theorem gX5_readClause_332 {w : Wd} {S : Sh} {J : Jm} {Q : Out → Sh → Jm → Prop} (hL : Lay S) (so : Int) (r : Nat)
    (K : Br (so = 2) (Br (J 313 21 = 0) ((0 ≤ J 313 18 ∧ J 313 18 ≤ 300 ∧ 0 ≤ J 313 17 ∧ J 313 17 ≤ 300) ∧ Br (WordIs J [97, 115]) ((MTape J) ∧ (0 ≤ J 313 17 ∧ J 313 17 ≤ 300) ∧ (∀ (J1 : Jm), PNx J (J 313 17).toNat J1 → V w 5 mX5_readClause 370 [some (vR 313), none, some (vI ((r : Nat) : Int))] [] S J1 Q)) (V w 5 mX5_readClause 370 [some (vR 313), none, some (vI ((r : Nat) : Int))] [] S (up (up J 313 21 1) 313 22 (J 313 18)) Q)) (V w 5 mX5_readClause 370 [some (vR 313), none, some (vI ((r : Nat) : Int))] [] S J Q)) (V w 5 mX5_readClause 442 [some (vR 313), none, none] [] S J Q)) :
    V w 5 mX5_readClause 332 [some (vR 313), some (vI so), some (vI ((r : Nat) : Int))] [] S J Q := by
  refine v_iload_n dX5_readClause_332 rfl ?_
  refine v_iconst dX5_readClause_333 (in_lit (by decide)) ?_
  obtain ⟨K1, K2⟩ := K
  refine v_icmp_ne 442 dX5_readClause_334 (by decide) (fun c1 => ?_) (fun c1 => ?_)
  · have K := K2 c1
    exact v_forget (fg_some (fg_none (fg_none fg_nil))) K
  · have K := K1 c1
    refine v_aload_n dX5_readClause_337 rfl ?_
    refine v_callV (d' := 0) (rest := []) [] dX5_readClause_338 vrX5_222_5 (L_313 hL).1 rfl rfl one_nil (Nat.le_of_ble_eq_true rfl) (Nat.le_of_ble_eq_true rfl) (Nat.le_of_ble_eq_true rfl) ?_
    obtain ⟨K1, K2⟩ := K
    refine sX5_isWell hL   (fun c2 => ?_) (fun c2 => ?_)
    · have K := K1 c2
      show V w 5 mX5_readClause 341 [some (vR 313), some (vI so), some (vI ((r : Nat) : Int))] [vI 1] S J Q
      refine v_if_eq 359 dX5_readClause_341 (by decide) (fun cQ => absurd cQ (by decide)) (fun _ => ?_)
      refine v_aload_n dX5_readClause_344 rfl ?_
      refine v_ldcSw (i := 21) dX5_readClause_345 rfl ?_
      refine v_callV (d' := 4) (rest := []) [vR (2 * 21)] dX5_readClause_348 vrX5_258_5 (L_313 hL).1 rfl rfl (one_O one_nil) (Nat.le_of_ble_eq_true rfl) (Nat.le_of_ble_eq_true rfl) (Nat.le_of_ble_eq_true rfl) ?_
      obtain ⟨o1, K⟩ := K
      obtain ⟨K1, K2⟩ := K
      refine s_isWord hL 21 [97, 115] (⟨_, _, _, rfl⟩ : StrB 21 [97, 115]) o1 (fun c3 => ?_) (fun c3 => ?_)
      · have K := K1 c3
        show V w 5 mX5_readClause 351 [some (vR 313), some (vI so), some (vI ((r : Nat) : Int))] [vI 1] S J Q
        refine v_if_ne 359 dX5_readClause_351 (by decide) (fun _ => ?_) (fun cQ => absurd cQ (by decide))
        refine v_aload_n dX5_readClause_359 rfl ?_
        refine v_callV (d' := 0) (rest := []) [] dX5_readClause_360 vrX5_222_5 (L_313 hL).1 rfl rfl one_nil (Nat.le_of_ble_eq_true rfl) (Nat.le_of_ble_eq_true rfl) (Nat.le_of_ble_eq_true rfl) ?_
        refine sX5_isWell hL   (fun _ => ?_) (fun cQ => absurd c2 cQ)
        show V w 5 mX5_readClause 363 [some (vR 313), some (vI so), some (vI ((r : Nat) : Int))] [vI 1] S J Q
        refine v_if_eq 370 dX5_readClause_363 (by decide) (fun cQ => absurd cQ (by decide)) (fun _ => ?_)
        refine v_aload_n dX5_readClause_366 rfl ?_
        refine v_callV (d' := 1) (rest := []) [] dX5_readClause_367 vrX5_229_5 (L_313 hL).1 rfl rfl one_nil (Nat.le_of_ble_eq_true rfl) (Nat.le_of_ble_eq_true rfl) (Nat.le_of_ble_eq_true rfl) ?_
        obtain ⟨o2, K⟩ := K
        obtain ⟨o3, K⟩ := K
        refine s_nextR hL  o2 o3 (fun J1 hp => ?_)
        have K := K J1 hp
        show V w 5 mX5_readClause 370 [some (vR 313), some (vI so), some (vI ((r : Nat) : Int))] [] S J1 Q
        exact v_forget (fg_some (fg_none (fg_some fg_nil))) K
      · have K := K2 c3
        show V w 5 mX5_readClause 351 [some (vR 313), some (vI so), some (vI ((r : Nat) : Int))] [vI 0] S J Q
        refine v_if_ne 359 dX5_readClause_351 (by decide) (fun cQ => absurd cQ (by decide)) (fun _ => ?_)
        refine v_aload_n dX5_readClause_354 rfl ?_
        refine v_iconst dX5_readClause_355 (in_lit (by decide)) ?_
        refine v_callV (d' := 0) (rest := []) [vI 1] dX5_readClause_356 vrX5_232_5 (L_313 hL).1 rfl rfl (one_I one_nil) (Nat.le_of_ble_eq_true rfl) (Nat.le_of_ble_eq_true rfl) (Nat.le_of_ble_eq_true rfl) ?_
        refine s_fails hL 1 c2 ?_
        show V w 5 mX5_readClause 359 [some (vR 313), some (vI so), some (vI ((r : Nat) : Int))] [] S (up (up J 313 21 1) 313 22 (J 313 18)) Q
        refine v_aload_n dX5_readClause_359 rfl ?_
        refine v_callV (d' := 0) (rest := []) [] dX5_readClause_360 vrX5_222_5 (L_313 hL).1 rfl rfl one_nil (Nat.le_of_ble_eq_true rfl) (Nat.le_of_ble_eq_true rfl) (Nat.le_of_ble_eq_true rfl) ?_
        refine sX5_isWell hL   (fun cQ => absurd (show (1 : Int) = 0 from cQ) (by decide)) (fun _ => ?_)
        show V w 5 mX5_readClause 363 [some (vR 313), some (vI so), some (vI ((r : Nat) : Int))] [vI 0] S (up (up J 313 21 1) 313 22 (J 313 18)) Q
        refine v_if_eq 370 dX5_readClause_363 (by decide) (fun _ => ?_) (fun cQ => absurd cQ (by decide))
        exact v_forget (fg_some (fg_none (fg_some fg_nil))) K
    · have K := K2 c2
      show V w 5 mX5_readClause 341 [some (vR 313), some (vI so), some (vI ((r : Nat) : Int))] [vI 0] S J Q
      refine v_if_eq 359 dX5_readClause_341 (by decide) (fun _ => ?_) (fun cQ => absurd cQ (by decide))
      refine v_aload_n dX5_readClause_359 rfl ?_
      refine v_callV (d' := 0) (rest := []) [] dX5_readClause_360 vrX5_222_5 (L_313 hL).1 rfl rfl one_nil (Nat.le_of_ble_eq_true rfl) (Nat.le_of_ble_eq_true rfl) (Nat.le_of_ble_eq_true rfl) ?_
      refine sX5_isWell hL   (fun cQ => absurd cQ c2) (fun _ => ?_)
      show V w 5 mX5_readClause 363 [some (vR 313), some (vI so), some (vI ((r : Nat) : Int))] [vI 0] S J Q
      refine v_if_eq 370 dX5_readClause_363 (by decide) (fun _ => ?_) (fun cQ => absurd cQ (by decide))
      exact v_forget (fg_some (fg_none (fg_some fg_nil))) K
theorem gX5_readClause_370 {w : Wd} {S : Sh} {J : Jm} {Q : Out → Sh → Jm → Prop} (hL : Lay S) (r : Nat)
    (K : ((0 ≤ J 313 17 ∧ J 313 17 ≤ 300) ∧ 0 ≤ J 313 18 ∧ J 313 18 ≤ 300) ∧ (∀ (r1 : Int) (J1 : Jm), PLet J r1 J1 → (((r : Nat) : Int) < 132) ∧ Br ((J1 313 21) = 0) (Br (vwI (J1 322 r) = (-1)) (Br (vwI ((up J1 323 r r1) 323 r) = (-1)) ((MTape (up J1 323 r r1)) ∧ (0 ≤ (J1 313 17) ∧ (J1 313 17) ≤ 300) ∧ (∀ (J2 : Jm), PNx (up J1 323 r r1) ((up J1 323 r r1) 313 17).toNat J2 → V w 5 mX5_readClause 442 [some (vR 313), none, none] [] S J2 Q)) (V w 5 mX5_readClause 442 [some (vR 313), none, none] [] S (up (up (up J1 323 r r1) 313 21 2) 313 22 (J1 313 18)) Q)) (Br (vwI ((up J1 323 r r1) 323 r) = (-1)) (V w 5 mX5_readClause 442 [some (vR 313), none, none] [] S (up (up (up J1 323 r r1) 313 21 2) 313 22 (J1 313 18)) Q) ((MTape (up J1 323 r r1)) ∧ (0 ≤ (J1 313 17) ∧ (J1 313 17) ≤ 300) ∧ (∀ (J3 : Jm), PNx (up J1 323 r r1) ((up J1 323 r r1) 313 17).toNat J3 → V w 5 mX5_readClause 442 [some (vR 313), none, none] [] S J3 Q)))) (V w 5 mX5_readClause 442 [some (vR 313), none, none] [] S (up J1 323 r r1) Q))) :
    V w 5 mX5_readClause 370 [some (vR 313), none, some (vI ((r : Nat) : Int))] [] S J Q := by
  refine v_aload_n dX5_readClause_370 rfl ?_
  refine v_getR dX5_readClause_371 frX5_41_5 rfl (L_313 hL).1 (LR_313_13 hL) (Or.inl rfl) ?_
  refine v_iload_n dX5_readClause_374 rfl ?_
  refine v_aload_n dX5_readClause_375 rfl ?_
  refine v_callV (d' := 1) (rest := [vI ((r : Nat) : Int), vR 323]) [] dX5_readClause_376 vrX5_275_5 (L_313 hL).1 rfl rfl one_nil (Nat.le_of_ble_eq_true rfl) (Nat.le_of_ble_eq_true rfl) (Nat.le_of_ble_eq_true rfl) ?_
  obtain ⟨o1, K⟩ := K
  refine s_letterHere hL  o1 (fun r1 J1 hp => ?_)
  have K := K r1 J1 hp
  show V w 5 mX5_readClause 379 [some (vR 313), none, some (vI ((r : Nat) : Int))] [vI r1, vI ((r : Nat) : Int), vR 323] S J1 Q
  obtain ⟨o2, K⟩ := K
  refine st_323 dX5_readClause_379 hL (by omega) o2 ?_
  show V w 5 mX5_readClause 380 [some (vR 313), none, some (vI ((r : Nat) : Int))] [] S (up J1 323 r r1) Q
  refine v_aload_n dX5_readClause_380 rfl ?_
  refine v_callV (d' := 0) (rest := []) [] dX5_readClause_381 vrX5_222_5 (L_313 hL).1 rfl rfl one_nil (Nat.le_of_ble_eq_true rfl) (Nat.le_of_ble_eq_true rfl) (Nat.le_of_ble_eq_true rfl) ?_
  obtain ⟨K1, K2⟩ := K
  refine sX5_isWell hL   (fun c1 => ?_) (fun c1 => ?_)
  · have K := K1 c1
    show V w 5 mX5_readClause 384 [some (vR 313), none, some (vI ((r : Nat) : Int))] [vI 1] S (up J1 323 r r1) Q
    refine v_if_eq 431 dX5_readClause_384 (by decide) (fun cQ => absurd cQ (by decide)) (fun _ => ?_)
    refine v_aload_n dX5_readClause_387 rfl ?_
    refine v_getR dX5_readClause_388 frX5_38_5 rfl (L_313 hL).1 (LR_313_12 hL) (Or.inl rfl) ?_
    refine v_iload_n dX5_readClause_391 rfl ?_
    refine ld_322 dX5_readClause_392 hL (by omega) o2 ?_
    show V w 5 mX5_readClause 393 [some (vR 313), none, some (vI ((r : Nat) : Int))] [vI (J1 322 r)] S (up J1 323 r r1) Q
    refine v_callS (d' := 0) (rest := []) [vI (J1 322 r)] dX5_readClause_393 srX5_278 rfl (one_I one_nil) (Nat.le_of_ble_eq_true rfl) (Nat.le_of_ble_eq_true rfl) (Nat.le_of_ble_eq_true rfl) ?_
    refine s_vowel hL (J1 322 r)  ?_
    show V w 5 mX5_readClause 396 [some (vR 313), none, some (vI ((r : Nat) : Int))] [vI (vwI (J1 322 r))] S (up J1 323 r r1) Q
    refine v_iconst dX5_readClause_396 (in_lit (by decide)) ?_
    obtain ⟨K1, K2⟩ := K
    refine v_icmp_eq 404 dX5_readClause_397 (by decide) (fun c2 => ?_) (fun c2 => ?_)
    · have K := K1 c2
      refine v_iconst dX5_readClause_404 (in_lit (by decide)) ?_
      refine v_aload_n dX5_readClause_405 rfl ?_
      refine v_getR dX5_readClause_406 frX5_41_5 rfl (L_313 hL).1 (LR_313_13 hL) (Or.inl rfl) ?_
      refine v_iload_n dX5_readClause_409 rfl ?_
      refine ld_323 dX5_readClause_410 hL (by omega) o2 ?_
      show V w 5 mX5_readClause 411 [some (vR 313), none, some (vI ((r : Nat) : Int))] [vI ((up J1 323 r r1) 323 r), vI 0] S (up J1 323 r r1) Q
      refine v_callS (d' := 0) (rest := [vI 0]) [vI ((up J1 323 r r1) 323 r)] dX5_readClause_411 srX5_278 rfl (one_I one_nil) (Nat.le_of_ble_eq_true rfl) (Nat.le_of_ble_eq_true rfl) (Nat.le_of_ble_eq_true rfl) ?_
      refine s_vowel hL ((up J1 323 r r1) 323 r)  ?_
      show V w 5 mX5_readClause 414 [some (vR 313), none, some (vI ((r : Nat) : Int))] [vI (vwI ((up J1 323 r r1) 323 r)), vI 0] S (up J1 323 r r1) Q
      refine v_iconst dX5_readClause_414 (in_lit (by decide)) ?_
      obtain ⟨K1, K2⟩ := K
      refine v_icmp_eq 422 dX5_readClause_415 (by decide) (fun c3 => ?_) (fun c3 => ?_)
      · have K := K1 c3
        refine v_iconst dX5_readClause_422 (in_lit (by decide)) ?_
        refine v_icmp_eq 431 dX5_readClause_423 (by decide) (fun _ => ?_) (fun cQ => absurd cQ (by decide))
        refine v_aload_n dX5_readClause_431 rfl ?_
        refine v_callV (d' := 0) (rest := []) [] dX5_readClause_432 vrX5_222_5 (L_313 hL).1 rfl rfl one_nil (Nat.le_of_ble_eq_true rfl) (Nat.le_of_ble_eq_true rfl) (Nat.le_of_ble_eq_true rfl) ?_
        refine sX5_isWell hL   (fun _ => ?_) (fun cQ => absurd c1 cQ)
        show V w 5 mX5_readClause 435 [some (vR 313), none, some (vI ((r : Nat) : Int))] [vI 1] S (up J1 323 r r1) Q
        refine v_if_eq 442 dX5_readClause_435 (by decide) (fun cQ => absurd cQ (by decide)) (fun _ => ?_)
        refine v_aload_n dX5_readClause_438 rfl ?_
        refine v_callV (d' := 1) (rest := []) [] dX5_readClause_439 vrX5_229_5 (L_313 hL).1 rfl rfl one_nil (Nat.le_of_ble_eq_true rfl) (Nat.le_of_ble_eq_true rfl) (Nat.le_of_ble_eq_true rfl) ?_
        obtain ⟨o3, K⟩ := K
        obtain ⟨o4, K⟩ := K
        refine s_nextR hL  o3 o4 (fun J2 hp => ?_)
        have K := K J2 hp
        show V w 5 mX5_readClause 442 [some (vR 313), none, some (vI ((r : Nat) : Int))] [] S J2 Q
        exact v_forget (fg_some (fg_none (fg_none fg_nil))) K
      · have K := K2 c3
        refine v_iconst dX5_readClause_418 (in_lit (by decide)) ?_
        refine v_goto 423 dX5_readClause_419 (by decide) ?_
        refine v_icmp_eq 431 dX5_readClause_423 (by decide) (fun cQ => absurd cQ (by decide)) (fun _ => ?_)
        refine v_aload_n dX5_readClause_426 rfl ?_
        refine v_iconst dX5_readClause_427 (in_lit (by decide)) ?_
        refine v_callV (d' := 0) (rest := []) [vI 2] dX5_readClause_428 vrX5_232_5 (L_313 hL).1 rfl rfl (one_I one_nil) (Nat.le_of_ble_eq_true rfl) (Nat.le_of_ble_eq_true rfl) (Nat.le_of_ble_eq_true rfl) ?_
        refine s_fails hL 2 c1 ?_
        show V w 5 mX5_readClause 431 [some (vR 313), none, some (vI ((r : Nat) : Int))] [] S (up (up (up J1 323 r r1) 313 21 2) 313 22 (J1 313 18)) Q
        refine v_aload_n dX5_readClause_431 rfl ?_
        refine v_callV (d' := 0) (rest := []) [] dX5_readClause_432 vrX5_222_5 (L_313 hL).1 rfl rfl one_nil (Nat.le_of_ble_eq_true rfl) (Nat.le_of_ble_eq_true rfl) (Nat.le_of_ble_eq_true rfl) ?_
        refine sX5_isWell hL   (fun cQ => absurd (show (2 : Int) = 0 from cQ) (by decide)) (fun _ => ?_)
        show V w 5 mX5_readClause 435 [some (vR 313), none, some (vI ((r : Nat) : Int))] [vI 0] S (up (up (up J1 323 r r1) 313 21 2) 313 22 (J1 313 18)) Q
        refine v_if_eq 442 dX5_readClause_435 (by decide) (fun _ => ?_) (fun cQ => absurd cQ (by decide))
        exact v_forget (fg_some (fg_none (fg_none fg_nil))) K
    · have K := K2 c2
      refine v_iconst dX5_readClause_400 (in_lit (by decide)) ?_
      refine v_goto 405 dX5_readClause_401 (by decide) ?_
      refine v_aload_n dX5_readClause_405 rfl ?_
      refine v_getR dX5_readClause_406 frX5_41_5 rfl (L_313 hL).1 (LR_313_13 hL) (Or.inl rfl) ?_
      refine v_iload_n dX5_readClause_409 rfl ?_
      refine ld_323 dX5_readClause_410 hL (by omega) o2 ?_
      show V w 5 mX5_readClause 411 [some (vR 313), none, some (vI ((r : Nat) : Int))] [vI ((up J1 323 r r1) 323 r), vI 1] S (up J1 323 r r1) Q
      refine v_callS (d' := 0) (rest := [vI 1]) [vI ((up J1 323 r r1) 323 r)] dX5_readClause_411 srX5_278 rfl (one_I one_nil) (Nat.le_of_ble_eq_true rfl) (Nat.le_of_ble_eq_true rfl) (Nat.le_of_ble_eq_true rfl) ?_
      refine s_vowel hL ((up J1 323 r r1) 323 r)  ?_
      show V w 5 mX5_readClause 414 [some (vR 313), none, some (vI ((r : Nat) : Int))] [vI (vwI ((up J1 323 r r1) 323 r)), vI 1] S (up J1 323 r r1) Q
      refine v_iconst dX5_readClause_414 (in_lit (by decide)) ?_
      obtain ⟨K1, K2⟩ := K
      refine v_icmp_eq 422 dX5_readClause_415 (by decide) (fun c4 => ?_) (fun c4 => ?_)
      · have K := K1 c4
        refine v_iconst dX5_readClause_422 (in_lit (by decide)) ?_
        refine v_icmp_eq 431 dX5_readClause_423 (by decide) (fun cQ => absurd cQ (by decide)) (fun _ => ?_)
        refine v_aload_n dX5_readClause_426 rfl ?_
        refine v_iconst dX5_readClause_427 (in_lit (by decide)) ?_
        refine v_callV (d' := 0) (rest := []) [vI 2] dX5_readClause_428 vrX5_232_5 (L_313 hL).1 rfl rfl (one_I one_nil) (Nat.le_of_ble_eq_true rfl) (Nat.le_of_ble_eq_true rfl) (Nat.le_of_ble_eq_true rfl) ?_
        refine s_fails hL 2 c1 ?_
        show V w 5 mX5_readClause 431 [some (vR 313), none, some (vI ((r : Nat) : Int))] [] S (up (up (up J1 323 r r1) 313 21 2) 313 22 (J1 313 18)) Q
        refine v_aload_n dX5_readClause_431 rfl ?_
        refine v_callV (d' := 0) (rest := []) [] dX5_readClause_432 vrX5_222_5 (L_313 hL).1 rfl rfl one_nil (Nat.le_of_ble_eq_true rfl) (Nat.le_of_ble_eq_true rfl) (Nat.le_of_ble_eq_true rfl) ?_
        refine sX5_isWell hL   (fun cQ => absurd (show (2 : Int) = 0 from cQ) (by decide)) (fun _ => ?_)
        show V w 5 mX5_readClause 435 [some (vR 313), none, some (vI ((r : Nat) : Int))] [vI 0] S (up (up (up J1 323 r r1) 313 21 2) 313 22 (J1 313 18)) Q
        refine v_if_eq 442 dX5_readClause_435 (by decide) (fun _ => ?_) (fun cQ => absurd cQ (by decide))
        exact v_forget (fg_some (fg_none (fg_none fg_nil))) K
      · have K := K2 c4
        refine v_iconst dX5_readClause_418 (in_lit (by decide)) ?_
        refine v_goto 423 dX5_readClause_419 (by decide) ?_
        refine v_icmp_eq 431 dX5_readClause_423 (by decide) (fun _ => ?_) (fun cQ => absurd cQ (by decide))
        refine v_aload_n dX5_readClause_431 rfl ?_
        refine v_callV (d' := 0) (rest := []) [] dX5_readClause_432 vrX5_222_5 (L_313 hL).1 rfl rfl one_nil (Nat.le_of_ble_eq_true rfl) (Nat.le_of_ble_eq_true rfl) (Nat.le_of_ble_eq_true rfl) ?_
        refine sX5_isWell hL   (fun _ => ?_) (fun cQ => absurd c1 cQ)
        show V w 5 mX5_readClause 435 [some (vR 313), none, some (vI ((r : Nat) : Int))] [vI 1] S (up J1 323 r r1) Q
        refine v_if_eq 442 dX5_readClause_435 (by decide) (fun cQ => absurd cQ (by decide)) (fun _ => ?_)
        refine v_aload_n dX5_readClause_438 rfl ?_
        refine v_callV (d' := 1) (rest := []) [] dX5_readClause_439 vrX5_229_5 (L_313 hL).1 rfl rfl one_nil (Nat.le_of_ble_eq_true rfl) (Nat.le_of_ble_eq_true rfl) (Nat.le_of_ble_eq_true rfl) ?_
        obtain ⟨o5, K⟩ := K
        obtain ⟨o6, K⟩ := K
        refine s_nextR hL  o5 o6 (fun J3 hp => ?_)
        have K := K J3 hp
        show V w 5 mX5_readClause 442 [some (vR 313), none, some (vI ((r : Nat) : Int))] [] S J3 Q
        exact v_forget (fg_some (fg_none (fg_none fg_nil))) K
  · have K := K2 c1
    show V w 5 mX5_readClause 384 [some (vR 313), none, some (vI ((r : Nat) : Int))] [vI 0] S (up J1 323 r r1) Q
    refine v_if_eq 431 dX5_readClause_384 (by decide) (fun _ => ?_) (fun cQ => absurd cQ (by decide))
    refine v_aload_n dX5_readClause_431 rfl ?_
    refine v_callV (d' := 0) (rest := []) [] dX5_readClause_432 vrX5_222_5 (L_313 hL).1 rfl rfl one_nil (Nat.le_of_ble_eq_true rfl) (Nat.le_of_ble_eq_true rfl) (Nat.le_of_ble_eq_true rfl) ?_
    refine sX5_isWell hL   (fun cQ => absurd cQ c1) (fun _ => ?_)
    show V w 5 mX5_readClause 435 [some (vR 313), none, some (vI ((r : Nat) : Int))] [vI 0] S (up J1 323 r r1) Q
    refine v_if_eq 442 dX5_readClause_435 (by decide) (fun _ => ?_) (fun cQ => absurd cQ (by decide))
    exact v_forget (fg_some (fg_none (fg_none fg_nil))) K
theorem gX5_readClause_442 {w : Wd} {S : Sh} {J : Jm} {Q : Out → Sh → Jm → Prop} (hL : Lay S) 
    (K : (MTape J) ∧ (0 ≤ J 313 17 ∧ J 313 17 ≤ 300) ∧ (∀ (J1 : Jm), PWs J 59 J1 → Q (.inl none) S J1)) :
    V w 5 mX5_readClause 442 [some (vR 313), none, none] [] S J Q := by
  refine v_aload_n dX5_readClause_442 rfl ?_
  refine v_bipush dX5_readClause_443 (by decide) (in_lit (by decide)) ?_
  refine v_callV (d' := 2) (rest := []) [vI 59] dX5_readClause_445 vrX5_240_5 (L_313 hL).1 rfl rfl (one_I one_nil) (Nat.le_of_ble_eq_true rfl) (Nat.le_of_ble_eq_true rfl) (Nat.le_of_ble_eq_true rfl) ?_
  obtain ⟨o1, K⟩ := K
  obtain ⟨o2, K⟩ := K
  refine s_wantSign hL 59 o1 o2 (fun J1 hp => ?_)
  have K := K J1 hp
  show V w 5 mX5_readClause 448 [some (vR 313), none, none] [] S J1 Q
  exact v_vret dX5_readClause_448 rfl K

/-- a fault, or a clause (sort, where or letter, least or other letter, count) and where it ends -/
abbrev ClR : Type := (Int × Nat) ⊕ ((Int × Int × Int × Int) × Nat)
def numR (J : Jm) (c : Nat) (lo hi : Int) (k : Int → ClR) : ClR := if tK J c = 2 then (if lo ≤ tV J c ∧ tV J c ≤ hi then k (tV J c) else .inl (2, tP J c)) else .inl (1, tP J c)
def letR (J : Jm) (c : Nat) (k : Int → ClR) : ClR := if tK J c = 3 ∧ tE J c = tP J c + 1 then k (tV J c) else .inl (1, tP J c)
def semR (J : Jm) (e : Nat) (cl : Int × Int × Int × Int) : ClR := if tK J e = 4 ∧ tV J e = 59 then .inr (cl, tE J e) else .inl (1, tP J e)
def cntR (J : Jm) (d : Nat) (so wh le : Int) : ClR := if tW J d [99, 111, 117, 110, 116] then numR J (tE J d) 1 99 (fun v => semR J (tE J (tE J d)) (so, wh, le, v)) else semR J d (so, wh, le, 1)
def lenR (J : Jm) (c : Nat) (so wh : Int) : ClR := if tW J c [108, 101, 110, 103, 116, 104] then numR J (tE J c) 2 6 (fun v => cntR J (tE J (tE J c)) so wh v) else cntR J c so wh 3
def whR (J : Jm) (b : Nat) (so : Int) : ClR := if tW J b [102, 105, 114, 115, 116] then lenR J (tE J b) so 0 else if tW J b [108, 97, 115, 116] then lenR J (tE J b) so 7 else numR J b 1 6 (fun v => lenR J (tE J b) so v)
def drpR (J : Jm) (b : Nat) : ClR := letR J b (fun v => if vwI v = -1 then semR J (tE J b) (3, v, 0, 0) else .inl (2, tP J b))
def wrtR (J : Jm) (b : Nat) : ClR := letR J b (fun v => if tW J (tE J b) [97, 115] then letR J (tE J (tE J b)) (fun u => if (vwI v = -1) ↔ (vwI u = -1) then semR J (tE J (tE J (tE J b))) (2, v, u, 0) else .inl (2, tP J (tE J (tE J b)))) else .inl (1, tP J (tE J b)))
/-- a clause from the token at a on, behind n others -/
def pCl (J : Jm) (a n : Nat) : ClR :=
  if tW J a [99, 111, 110, 115, 111, 110, 97, 110, 116] then (if n = 12 then .inl (3, tP J a) else whR J (tE J a) 0)
  else if tW J a [118, 111, 119, 101, 108] then (if n = 12 then .inl (3, tP J a) else whR J (tE J a) 1)
  else if tW J a [119, 114, 105, 116, 101] then (if n = 12 then .inl (3, tP J a) else wrtR J (tE J a))
  else if tW J a [100, 114, 111, 112] then (if n = 12 then .inl (3, tP J a) else drpR J (tE J a))
  else .inl (1, tP J a)
def ClAt (J : Jm) (r : Nat) (cl : Int × Int × Int × Int) : Prop := J 321 r = cl.1 ∧ J 322 r = cl.2.1 ∧ (cl.1 < 3 → J 323 r = cl.2.2.1) ∧ (cl.1 < 2 → J 324 r = cl.2.2.2)
/-- what is written while a clause is read -/
def cfF (J J' : Jm) (n : Nat) : Prop := ∀ b k, ¬ (b = 313 ∧ (k = 17 ∨ k = 18 ∨ k = 19 ∨ k = 20 ∨ k = 21 ∨ k = 22)) → ¬ (b = 320 ∧ k = 10) → ¬ ((b = 321 ∨ b = 322 ∨ b = 323 ∨ b = 324) ∧ k = 120 + n) → J' b k = J b k
theorem cfF.kp {J J' : Jm} {n : Nat} (h : cfF J J' n) : Kp J J' := fun b k q => by
  refine h b k (fun e => ?_) (fun e => ?_) (fun e => ?_)
  · obtain ⟨rfl, e⟩ := e
    rcases e with rfl | rfl | rfl | rfl | rfl | rfl <;> cases q
  · obtain ⟨rfl, rfl⟩ := e
    cases q
  · obtain ⟨e1, e2⟩ := e
    unfold scr at q
    rcases e1 with rfl | rfl | rfl | rfl <;> simp at q <;> omega
theorem cfF.up {J J' : Jm} {n a k : Nat} {z : Int} (h : cfF J J' n) (hk : (a = 313 ∧ (k = 17 ∨ k = 18 ∨ k = 19 ∨ k = 20 ∨ k = 21 ∨ k = 22)) ∨ (a = 320 ∧ k = 10) ∨ ((a = 321 ∨ a = 322 ∨ a = 323 ∨ a = 324) ∧ k = 120 + n)) : cfF J (up J' a k z) n := fun b j q1 q2 q3 => by
  rw [up_ne (fun e => by rw [e.1, e.2] at q1 q2 q3; rcases hk with q | q | q; exact q1 q; exact q2 q; exact q3 q)]
  exact h b j q1 q2 q3
theorem cfF.nx {J J1 J2 : Jm} {n : Nat} (h : cfF J J1 n) (h2 : nxF J1 J2) : cfF J J2 n := fun b j q1 q2 q3 => (h2 b j (fun e => q1 ⟨e.1, by omega⟩)).trans (h b j q1 q2 q3)
theorem Tk.rng {J J1 : Jm} {c : Nat} (hT : MTape J) (hc : c ≤ 300) (h : Tk J J1 c) : (0 ≤ J1 313 18 ∧ J1 313 18 ≤ 300 ∧ 0 ≤ J1 313 17 ∧ J1 313 17 ≤ 300) ∧ tE J c ≤ 300 := by
  have := tok_in hT hc
  obtain ⟨h1, h2, -, -⟩ := h
  omega
theorem Tk.of {J J1 J2 : Jm} {c : Nat} (h : Tk J J1 c) (e : ∀ k, k = 17 ∨ k = 18 ∨ k = 19 ∨ k = 20 → J2 313 k = J1 313 k) : Tk J J2 c := by
  unfold Tk at h ⊢
  rw [e 17 (by omega), e 18 (by omega), e 19 (by omega), e 20 (by omega)]
  exact h
theorem num_cases {J J2 J3 : Jm} {c : Nat} {lo hi x : Int} {C : Prop} (hp : PNum J2 lo hi x J3) (e0 : J2 313 21 = 0) (hk : Tk J J2 c) (hm : Mp J J2)
    (h1 : tK J c ≠ 2 → x = 0 → J3 = flt J2 1 → C) (h2 : tK J c = 2 → ¬ (lo ≤ tV J c ∧ tV J c ≤ hi) → x = 0 → J3 = flt J2 2 → C) (h3 : tK J c = 2 → (lo ≤ tV J c ∧ tV J c ≤ hi) → x = tV J c → nxF J2 J3 → Tk J J3 (tE J c) → C) : C := by
  obtain ⟨k1, k2, k3, k4⟩ := hk
  rcases hp with ⟨q, -⟩ | ⟨-, q1, q2, q3⟩ | ⟨-, q1, q2, q3, q4⟩ | ⟨-, q1, q2, q3, q4⟩
  · exact absurd e0 q
  · exact h1 (by rw [← k3]; exact q1) q2 q3
  · rw [k3] at q1
    rw [k4 (by omega)] at q2
    exact h2 q1 q2 q3 q4
  · rw [k3] at q1
    rw [k4 (by omega)] at q2 q3
    rw [k1, Int.toNat_natCast] at q4
    exact h3 q1 q2 q3 q4.1 (PNx.tk hm q4)
theorem let_cases {J J2 J3 : Jm} {c : Nat} {x : Int} {C : Prop} (hp : PLet J2 x J3) (e0 : J2 313 21 = 0) (hk : Tk J J2 c) (hle : tP J c ≤ tE J c)
    (h1 : ¬ (tK J c = 3 ∧ tE J c = tP J c + 1) → x = 97 → J3 = flt J2 1 → C) (h2 : (tK J c = 3 ∧ tE J c = tP J c + 1) → x = tV J c → J3 = J2 → C) : C := by
  obtain ⟨k1, k2, k3, k4⟩ := hk
  rcases hp with ⟨q, -⟩ | ⟨-, q1, q2, q3⟩ | ⟨-, q1, q2, q3⟩
  · exact absurd e0 q
  · rw [k3, k1, k2] at q1
    rw [k4 (by omega)] at q2
    exact h2 ⟨q1.1, by omega⟩ q2 q3
  · rw [k3, k1, k2] at q1
    exact h1 (fun q => q1 ⟨q.1, by omega⟩) q2 q3
theorem s_readClause {w : Wd} {S : Sh} {J : Jm} {Q : Out → Sh → Jm → Prop} (hL : Lay S) (a n : Nat) (hT : MTape J) (ha : a ≤ 300) (hk : Tk J J a) (h0 : J 313 21 = 0) (hn : J 320 10 = (n : Int)) (hn12 : n ≤ 12)
    (K : ∀ J', cfF J J' n → (∀ k p, pCl J a n = .inl (k, p) → J' 313 21 = k ∧ J' 313 22 = (p : Nat) ∧ (k = 1 ∨ k = 2 ∨ k = 3)) → (∀ cl b, pCl J a n = .inr (cl, b) → J' 313 21 = 0 ∧ J' 320 10 = ((n + 1 : Nat) : Int) ∧ ClAt J' (120 + n) cl ∧ Tk J J' b ∧ b ≤ 300 ∧ a < b) → Q (.inl none) S J') : V w 5 mX5_readClause 0 (ent mX5_readClause [vR 313]) [] S J Q := by
  generalize hres : pCl J a n = res at K
  -- a fault: nothing more happens
  have bad442 : ∀ (k : Int) (p : Nat) (J1 : Jm), cfF J J1 n → J1 313 21 = k → J1 313 22 = (p : Int) → (k = 1 ∨ k = 2 ∨ k = 3) → (0 ≤ J1 313 18 ∧ J1 313 18 ≤ 300 ∧ 0 ≤ J1 313 17 ∧ J1 313 17 ≤ 300) → res = .inl (k, p) → V w 5 mX5_readClause 442 [some (vR 313), none, none] [] S J1 Q := by
    intro k p J1 f1 e1 e2 hk3 hr hres1
    refine gX5_readClause_442 (J := J1) hL ⟨hT.mp f1.kp.mp, by omega, fun J2 hp => ?_⟩
    rcases hp with ⟨-, rfl⟩ | ⟨q, -⟩ | ⟨q, -⟩
    · refine K _ f1 (fun k' p' h => ?_) (fun cl b h => ?_)
      · rw [hres1] at h; cases h; exact ⟨e1, e2, hk3⟩
      · rw [hres1] at h; cases h
    · omega
    · omega
  have bad370 : n < 12 → ∀ (k : Int) (p : Nat) (J1 : Jm), cfF J J1 n → J1 313 21 = k → J1 313 22 = (p : Int) → (k = 1 ∨ k = 2 ∨ k = 3) → (0 ≤ J1 313 18 ∧ J1 313 18 ≤ 300 ∧ 0 ≤ J1 313 17 ∧ J1 313 17 ≤ 300) → res = .inl (k, p) → V w 5 mX5_readClause 370 [some (vR 313), none, some (vI ((120 + n : Nat) : Int))] [] S J1 Q := by
    intro h12 k p J1 f1 e1 e2 hk3 hr hres1
    refine gX5_readClause_370 (J := J1) hL (120 + n) ⟨by omega, fun x J2 hp => ?_⟩
    rcases hp with ⟨-, rfl, rfl⟩ | ⟨q, -⟩ | ⟨q, -⟩
    · refine ⟨by omega, br_n (by omega) ?_⟩
      exact bad442 k p _ (f1.up (Or.inr (Or.inr ⟨by omega, rfl⟩))) (by rw [up_na (by decide)]; exact e1) (by rw [up_na (by decide)]; exact e2) hk3 (by rw [up_na (by decide), up_na (by decide)]; exact hr) hres1
    · omega
    · omega
  have bad332 : n < 12 → ∀ (so : Int) (k : Int) (p : Nat) (J1 : Jm), cfF J J1 n → J1 313 21 = k → J1 313 22 = (p : Int) → (k = 1 ∨ k = 2 ∨ k = 3) → (0 ≤ J1 313 18 ∧ J1 313 18 ≤ 300 ∧ 0 ≤ J1 313 17 ∧ J1 313 17 ≤ 300) → res = .inl (k, p) → V w 5 mX5_readClause 332 [some (vR 313), some (vI so), some (vI ((120 + n : Nat) : Int))] [] S J1 Q := by
    intro h12 so k p J1 f1 e1 e2 hk3 hr hres1
    exact gX5_readClause_332 (J := J1) hL so (120 + n) (br_i (fun _ => br_n (by omega) (bad370 h12 k p J1 f1 e1 e2 hk3 hr hres1)) (fun _ => bad442 k p J1 f1 e1 e2 hk3 hr hres1))
  have bad244 : ∀ (k : Int) (p : Nat) (J1 : Jm), cfF J J1 n → J1 313 21 = k → J1 313 22 = (p : Int) → (k = 1 ∨ k = 2 ∨ k = 3) → (0 ≤ J1 313 18 ∧ J1 313 18 ≤ 300 ∧ 0 ≤ J1 313 17 ∧ J1 313 17 ≤ 300) → res = .inl (k, p) → V w 5 mX5_readClause 244 [some (vR 313), none, some (vI ((120 + n : Nat) : Int))] [] S J1 Q := by
    intro k p J1 f1 e1 e2 hk3 hr hres1
    exact gX5_readClause_244 (J := J1) hL (120 + n) (br_n (by omega) (bad442 k p J1 f1 e1 e2 hk3 hr hres1))
  have bad210 : ∀ (k : Int) (p : Nat) (J1 : Jm), cfF J J1 n → J1 313 21 = k → J1 313 22 = (p : Int) → (k = 1 ∨ k = 2 ∨ k = 3) → (0 ≤ J1 313 18 ∧ J1 313 18 ≤ 300 ∧ 0 ≤ J1 313 17 ∧ J1 313 17 ≤ 300) → res = .inl (k, p) → V w 5 mX5_readClause 210 [some (vR 313), none, some (vI ((120 + n : Nat) : Int))] [] S J1 Q := by
    intro k p J1 f1 e1 e2 hk3 hr hres1
    exact gX5_readClause_210 (J := J1) hL (120 + n) (br_n (by omega) (bad244 k p J1 f1 e1 e2 hk3 hr hres1))
  -- the semicolon
  have g442 : ∀ (e : Nat) (cl : Int × Int × Int × Int) (J1 : Jm), cfF J J1 n → J1 313 21 = 0 → J1 320 10 = ((n + 1 : Nat) : Int) → ClAt J1 (120 + n) cl → Tk J J1 e → e ≤ 300 → a < e → res = semR J e cl → V w 5 mX5_readClause 442 [some (vR 313), none, none] [] S J1 Q := by
    intro e cl J1 f1 e0 e1 hcl hk1 he hae hres1
    have hr := Tk.rng hT he hk1
    have hti := tok_in hT he
    obtain ⟨t1, t2, t3, t4⟩ := id hk1
    unfold semR at hres1
    refine gX5_readClause_442 (J := J1) hL ⟨hT.mp f1.kp.mp, by omega, fun J2 hp => ?_⟩
    rcases hp with ⟨q, -⟩ | ⟨-, ⟨q1, q2⟩, q3⟩ | ⟨-, q1, q2⟩
    · exact absurd e0 q
    · rw [t3] at q1
      rw [t4 (by omega)] at q2
      rw [if_pos ⟨q1, q2⟩] at hres1
      rw [t1, Int.toNat_natCast] at q3
      refine K _ (f1.nx q3.1) (fun k p h => ?_) (fun cl' b h => ?_)
      · rw [hres1] at h; cases h
      · rw [hres1] at h
        cases h
        have u : ∀ b k, b ≠ 313 → J2 b k = J1 b k := fun b k h => q3.1 b k (fun e => h e.1)
        refine ⟨by rw [q3.1 _ _ (by omega)]; exact e0, by rw [u _ _ (by decide)]; exact e1, ?_, PNx.tk f1.kp.mp q3, by omega, by omega⟩
        unfold ClAt
        rw [u _ _ (by decide), u _ _ (by decide), u _ _ (by decide), u _ _ (by decide)]
        exact hcl
    · rw [if_neg (fun q => q1 ⟨by rw [t3]; exact q.1, by rw [t4 (by omega)]; exact q.2⟩)] at hres1
      rw [q2]
      refine K _ ((f1.up (Or.inl ⟨rfl, by omega⟩)).up (Or.inl ⟨rfl, by omega⟩)) (fun k p h => ?_) (fun cl' b h => ?_)
      · rw [hres1] at h
        cases h
        refine ⟨by simp [flt, up], by simp [flt, up, t2], by omega⟩
      · rw [hres1] at h; cases h
  -- a fault that is noted now
  have nf : ∀ (k : Int) (c : Nat) (J1 : Jm), cfF J J1 n → Tk J J1 c → c ≤ 300 → cfF J (flt J1 k) n ∧ (flt J1 k) 313 21 = k ∧ (flt J1 k) 313 22 = ((tP J c : Nat) : Int) ∧ (0 ≤ (flt J1 k) 313 18 ∧ (flt J1 k) 313 18 ≤ 300 ∧ 0 ≤ (flt J1 k) 313 17 ∧ (flt J1 k) 313 17 ≤ 300) := by
    intro k c J1 f1 hk1 hc
    have hr := Tk.rng hT hc hk1
    refine ⟨(f1.up (Or.inl ⟨rfl, by omega⟩)).up (Or.inl ⟨rfl, by omega⟩), by simp [flt, up], by simp [flt, up, hk1.2.1], ?_⟩
    have e1 : (flt J1 k) 313 18 = J1 313 18 := by simp [flt, up]
    have e2 : (flt J1 k) 313 17 = J1 313 17 := by simp [flt, up]
    rw [e1, e2]
    exact hr.1
  have g244 : n < 12 → ∀ (d : Nat) (so wh le : Int) (J1 : Jm), so < 2 → cfF J J1 n → J1 313 21 = 0 → J1 320 10 = ((n + 1 : Nat) : Int) → J1 321 (120 + n) = so → J1 322 (120 + n) = wh → J1 323 (120 + n) = le → J1 324 (120 + n) = 1 → Tk J J1 d → d ≤ 300 → a < d → res = cntR J d so wh le → V w 5 mX5_readClause 244 [some (vR 313), none, some (vI ((120 + n : Nat) : Int))] [] S J1 Q := by
    intro h12 d so wh le J1 hso f1 e0 e1 c1 c2 c3 c4 hk1 hd had hres1
    have hr := Tk.rng hT hd hk1
    have hti := tok_in hT hd
    have hm := f1.kp.mp
    unfold cntR at hres1
    refine gX5_readClause_244 (J := J1) hL (120 + n) (br_y e0 ⟨hr.1, br_i (fun hb => ⟨hT.mp hm, by omega, fun J2 hp => ?_⟩) (fun hb => ?_)⟩)
    · have hw := (WordIs.iff hm hk1 _).mp hb
      rw [if_pos hw] at hres1
      rw [hk1.1, Int.toNat_natCast] at hp
      have f2 := f1.nx hp.1
      have hk2 : Tk J J2 (tE J d) := PNx.tk hm hp
      have hr2 := Tk.rng hT hr.2 hk2
      have hti2 := tok_in hT hr.2
      have u : ∀ b k, b ≠ 313 → J2 b k = J1 b k := fun b k h => hp.1 b k (fun e => h e.1)
      have e02 : J2 313 21 = 0 := by rw [hp.1 _ _ (by omega)]; exact e0
      refine ⟨hT.mp f2.kp.mp, by omega, fun x J3 hp3 => ⟨by omega, ?_⟩⟩
      unfold numR at hres1
      refine num_cases hp3 e02 hk2 f2.kp.mp (fun q1 q2 q3 => ?_) (fun q1 q2 q3 q4 => ?_) (fun q1 q2 q3 q4 q5 => ?_)
      · rw [if_neg q1] at hres1
        obtain ⟨z1, z2, z3, z4⟩ := nf 1 _ J2 f2 hk2 hr.2
        rw [q3]
        exact bad442 1 _ _ (z1.up (Or.inr (Or.inr ⟨by omega, rfl⟩))) (by rw [up_na (by decide)]; exact z2) (by rw [up_na (by decide)]; exact z3) (by omega) (by rw [up_na (by decide), up_na (by decide)]; exact z4) hres1
      · rw [if_pos q1, if_neg q2] at hres1
        obtain ⟨z1, z2, z3, z4⟩ := nf 2 _ J2 f2 hk2 hr.2
        rw [q4]
        exact bad442 2 _ _ (z1.up (Or.inr (Or.inr ⟨by omega, rfl⟩))) (by rw [up_na (by decide)]; exact z2) (by rw [up_na (by decide)]; exact z3) (by omega) (by rw [up_na (by decide), up_na (by decide)]; exact z4) hres1
      · rw [if_pos q1, if_pos q2] at hres1
        have u3 : ∀ b k, b ≠ 313 → J3 b k = J1 b k := fun b k h => (q4 b k (fun e => h e.1)).trans (u b k h)
        refine g442 _ _ _ ((f2.nx q4).up (Or.inr (Or.inr ⟨by omega, rfl⟩))) ?_ ?_ ⟨?_, ?_, fun _ => ?_, fun _ => ?_⟩ (q5.of (fun k _ => up_na (by decide))) (by omega) (by omega) hres1
        · rw [up_na (by decide), q4 _ _ (by omega)]; exact e02
        · rw [up_na (by decide), u3 _ _ (by decide)]; exact e1
        · rw [up_na (by decide), u3 _ _ (by decide)]; exact c1
        · rw [up_na (by decide), u3 _ _ (by decide)]; exact c2
        · rw [up_na (by decide), u3 _ _ (by decide)]; exact c3
        · rw [up_self]; exact q3
    · rw [if_neg (fun q => hb ((WordIs.iff hm hk1 _).mpr q))] at hres1
      exact g442 d _ J1 f1 e0 e1 ⟨c1, c2, fun _ => c3, fun _ => c4⟩ hk1 hd had hres1
  have g210 : n < 12 → ∀ (d : Nat) (so wh : Int) (J1 : Jm), so < 2 → cfF J J1 n → J1 313 21 = 0 → J1 320 10 = ((n + 1 : Nat) : Int) → J1 321 (120 + n) = so → J1 322 (120 + n) = wh → J1 323 (120 + n) = 3 → J1 324 (120 + n) = 1 → Tk J J1 d → d ≤ 300 → a < d → res = lenR J d so wh → V w 5 mX5_readClause 210 [some (vR 313), none, some (vI ((120 + n : Nat) : Int))] [] S J1 Q := by
    intro h12 d so wh J1 hso f1 e0 e1 c1 c2 c3 c4 hk1 hd had hres1
    have hr := Tk.rng hT hd hk1
    have hti := tok_in hT hd
    have hm := f1.kp.mp
    unfold lenR at hres1
    refine gX5_readClause_210 (J := J1) hL (120 + n) (br_y e0 ⟨hr.1, br_i (fun hb => ⟨hT.mp hm, by omega, fun J2 hp => ?_⟩) (fun hb => ?_)⟩)
    · have hw := (WordIs.iff hm hk1 _).mp hb
      rw [if_pos hw] at hres1
      rw [hk1.1, Int.toNat_natCast] at hp
      have f2 := f1.nx hp.1
      have hk2 : Tk J J2 (tE J d) := PNx.tk hm hp
      have hr2 := Tk.rng hT hr.2 hk2
      have hti2 := tok_in hT hr.2
      have u : ∀ b k, b ≠ 313 → J2 b k = J1 b k := fun b k h => hp.1 b k (fun e => h e.1)
      have e02 : J2 313 21 = 0 := by rw [hp.1 _ _ (by omega)]; exact e0
      refine ⟨hT.mp f2.kp.mp, by omega, fun x J3 hp3 => ⟨by omega, ?_⟩⟩
      unfold numR at hres1
      refine num_cases hp3 e02 hk2 f2.kp.mp (fun q1 q2 q3 => ?_) (fun q1 q2 q3 q4 => ?_) (fun q1 q2 q3 q4 q5 => ?_)
      · rw [if_neg q1] at hres1
        obtain ⟨z1, z2, z3, z4⟩ := nf 1 _ J2 f2 hk2 hr.2
        rw [q3]
        exact bad244 1 _ _ (z1.up (Or.inr (Or.inr ⟨by omega, rfl⟩))) (by rw [up_na (by decide)]; exact z2) (by rw [up_na (by decide)]; exact z3) (by omega) (by rw [up_na (by decide), up_na (by decide)]; exact z4) hres1
      · rw [if_pos q1, if_neg q2] at hres1
        obtain ⟨z1, z2, z3, z4⟩ := nf 2 _ J2 f2 hk2 hr.2
        rw [q4]
        exact bad244 2 _ _ (z1.up (Or.inr (Or.inr ⟨by omega, rfl⟩))) (by rw [up_na (by decide)]; exact z2) (by rw [up_na (by decide)]; exact z3) (by omega) (by rw [up_na (by decide), up_na (by decide)]; exact z4) hres1
      · rw [if_pos q1, if_pos q2] at hres1
        have u3 : ∀ b k, b ≠ 313 → J3 b k = J1 b k := fun b k h => (q4 b k (fun e => h e.1)).trans (u b k h)
        refine g244 h12 _ so wh x _ hso ((f2.nx q4).up (Or.inr (Or.inr ⟨by omega, rfl⟩))) ?_ ?_ ?_ ?_ up_self ?_ (q5.of (fun k _ => up_na (by decide))) (by omega) (by omega) (by rw [q3]; exact hres1)
        · rw [up_na (by decide), q4 _ _ (by omega)]; exact e02
        · rw [up_na (by decide), u3 _ _ (by decide)]; exact e1
        · rw [up_na (by decide), u3 _ _ (by decide)]; exact c1
        · rw [up_na (by decide), u3 _ _ (by decide)]; exact c2
        · rw [up_na (by decide), u3 _ _ (by decide)]; exact c4
    · rw [if_neg (fun q => hb ((WordIs.iff hm hk1 _).mpr q))] at hres1
      exact g244 h12 d so wh 3 J1 hso f1 e0 e1 c1 c2 c3 c4 hk1 hd had hres1
  have g129 : n < 12 → ∀ (b : Nat) (so : Int) (J1 : Jm), so < 2 → cfF J J1 n → J1 313 21 = 0 → J1 320 10 = ((n + 1 : Nat) : Int) → J1 321 (120 + n) = so → Tk J J1 b → b ≤ 300 → a < b → res = whR J b so → V w 5 mX5_readClause 129 [some (vR 313), some (vI so), some (vI ((120 + n : Nat) : Int))] [] S J1 Q := by
    intro h12 b so J1 hso f1 e0 e1 c1 hk1 hb had hres1
    have hr := Tk.rng hT hb hk1
    have hti := tok_in hT hb
    refine gX5_readClause_129 (J := J1) hL so (120 + n) (br_n (by omega) ⟨by omega, hr.1, ?_⟩)
    have f2 : cfF J (up (up J1 323 (120 + n) 3) 324 (120 + n) 1) n := (f1.up (Or.inr (Or.inr ⟨by omega, rfl⟩))).up (Or.inr (Or.inr ⟨by omega, rfl⟩))
    have hk2 : Tk J (up (up J1 323 (120 + n) 3) 324 (120 + n) 1) b := hk1.of (fun k _ => by rw [up_na (by decide), up_na (by decide)])
    have a0 : (up (up J1 323 (120 + n) 3) 324 (120 + n) 1) 313 21 = 0 := by rw [up_na (by decide), up_na (by decide)]; exact e0
    have a1 : (up (up J1 323 (120 + n) 3) 324 (120 + n) 1) 320 10 = ((n + 1 : Nat) : Int) := by rw [up_na (by decide), up_na (by decide)]; exact e1
    have a2 : (up (up J1 323 (120 + n) 3) 324 (120 + n) 1) 321 (120 + n) = so := by rw [up_na (by decide), up_na (by decide)]; exact c1
    have a3 : (up (up J1 323 (120 + n) 3) 324 (120 + n) 1) 323 (120 + n) = 3 := by rw [up_na (by decide), up_self]
    have a4 : (up (up J1 323 (120 + n) 3) 324 (120 + n) 1) 324 (120 + n) = 1 := up_self
    generalize up (up J1 323 (120 + n) 3) 324 (120 + n) 1 = J2 at f2 hk2 a0 a1 a2 a3 a4
    have hm := f2.kp.mp
    have ea : ∀ z, (up J2 322 (120 + n) z) 313 17 = ((tE J b : Nat) : Int) := fun z => by rw [up_na (by decide)]; exact hk2.1
    have fz : ∀ z, cfF J (up J2 322 (120 + n) z) n := fun z => f2.up (Or.inr (Or.inr ⟨by omega, rfl⟩))
    unfold whR at hres1
    -- a word that says where
    have wd : ∀ z : Int, res = lenR J (tE J b) so z → ∀ J3, PNx (up J2 322 (120 + n) z) ((up J2 322 (120 + n) z) 313 17).toNat J3 → tK J b = 3 → V w 5 mX5_readClause 210 [some (vR 313), none, some (vI ((120 + n : Nat) : Int))] [] S J3 Q := by
      intro z hz J3 hp h3
      rw [ea, Int.toNat_natCast] at hp
      have u : ∀ b k, b ≠ 313 → J3 b k = (up J2 322 (120 + n) z) b k := fun b k h => hp.1 b k (fun e => h e.1)
      refine g210 h12 _ so z J3 hso ((fz z).nx hp.1) ?_ ?_ ?_ ?_ ?_ ?_ (PNx.tk (fz z).kp.mp hp) (by omega) (by omega) hz
      · rw [hp.1 _ _ (by omega), up_na (by decide)]; exact a0
      · rw [u _ _ (by decide), up_na (by decide)]; exact a1
      · rw [u _ _ (by decide), up_na (by decide)]; exact a2
      · rw [u _ _ (by decide), up_self]
      · rw [u _ _ (by decide), up_na (by decide)]; exact a3
      · rw [u _ _ (by decide), up_na (by decide)]; exact a4
    refine br_i (fun hb1 => ?_) (fun hb1 => br_i (fun hb2 => ?_) (fun hb2 => ?_))
    · have hw := (WordIs.iff hm hk2 _).mp hb1
      rw [if_pos hw] at hres1
      exact ⟨hT.mp (fz 0).kp.mp, by rw [hk1.1]; omega, fun J3 hp => wd 0 hres1 J3 hp hw.1⟩
    · have hw := (WordIs.iff hm hk2 _).mp hb2
      rw [if_neg (fun q => hb1 ((WordIs.iff hm hk2 _).mpr q)), if_pos hw] at hres1
      exact ⟨hT.mp (fz 7).kp.mp, by rw [hk1.1]; omega, fun J3 hp => wd 7 hres1 J3 hp hw.1⟩
    · rw [if_neg (fun q => hb1 ((WordIs.iff hm hk2 _).mpr q)), if_neg (fun q => hb2 ((WordIs.iff hm hk2 _).mpr q))] at hres1
      refine ⟨hT.mp hm, by rw [hk1.1]; omega, fun x J3 hp3 => ?_⟩
      unfold numR at hres1
      refine num_cases hp3 a0 hk2 hm (fun q1 q2 q3 => ?_) (fun q1 q2 q3 q4 => ?_) (fun q1 q2 q3 q4 q5 => ?_)
      · rw [if_neg q1] at hres1
        obtain ⟨z1, z2, z3, z4⟩ := nf 1 _ J2 f2 hk2 hb
        rw [q3]
        exact bad210 1 _ _ (z1.up (Or.inr (Or.inr ⟨by omega, rfl⟩))) (by rw [up_na (by decide)]; exact z2) (by rw [up_na (by decide)]; exact z3) (by omega) (by rw [up_na (by decide), up_na (by decide)]; exact z4) hres1
      · rw [if_pos q1, if_neg q2] at hres1
        obtain ⟨z1, z2, z3, z4⟩ := nf 2 _ J2 f2 hk2 hb
        rw [q4]
        exact bad210 2 _ _ (z1.up (Or.inr (Or.inr ⟨by omega, rfl⟩))) (by rw [up_na (by decide)]; exact z2) (by rw [up_na (by decide)]; exact z3) (by omega) (by rw [up_na (by decide), up_na (by decide)]; exact z4) hres1
      · rw [if_pos q1, if_pos q2] at hres1
        have u3 : ∀ b k, b ≠ 313 → J3 b k = J2 b k := fun b k h => q4 b k (fun e => h e.1)
        refine g210 h12 _ so x _ hso ((f2.nx q4).up (Or.inr (Or.inr ⟨by omega, rfl⟩))) ?_ ?_ ?_ up_self ?_ ?_ (q5.of (fun k _ => up_na (by decide))) (by omega) (by omega) (by rw [q3]; exact hres1)
        · rw [up_na (by decide), q4 _ _ (by omega)]; exact a0
        · rw [up_na (by decide), u3 _ _ (by decide)]; exact a1
        · rw [up_na (by decide), u3 _ _ (by decide)]; exact a2
        · rw [up_na (by decide), u3 _ _ (by decide)]; exact a3
        · rw [up_na (by decide), u3 _ _ (by decide)]; exact a4
  -- the other letter
  have g370 : n < 12 → ∀ (d : Nat) (v : Int) (J1 : Jm), cfF J J1 n → J1 313 21 = 0 → J1 320 10 = ((n + 1 : Nat) : Int) → J1 321 (120 + n) = 2 → J1 322 (120 + n) = v → Tk J J1 d → d ≤ 300 → a < d → res = letR J d (fun u => if (vwI v = -1) ↔ (vwI u = -1) then semR J (tE J d) (2, v, u, 0) else .inl (2, tP J d)) → V w 5 mX5_readClause 370 [some (vR 313), none, some (vI ((120 + n : Nat) : Int))] [] S J1 Q := by
    intro h12 d v J1 f1 e0 e1 c1 c2 hk1 hd had hres1
    have hr := Tk.rng hT hd hk1
    have hti := tok_in hT hd
    refine gX5_readClause_370 (J := J1) hL (120 + n) ⟨by omega, fun x J2 hp => ⟨by omega, ?_⟩⟩
    unfold letR at hres1
    refine let_cases hp e0 hk1 hti.2.2.1 (fun q1 q2 q3 => ?_) (fun q1 q2 q3 => ?_)
    · rw [if_neg q1] at hres1
      obtain ⟨z1, z2, z3, z4⟩ := nf 1 _ J1 f1 hk1 hd
      rw [q3]
      refine br_n (by omega) ?_
      exact bad442 1 _ _ (z1.up (Or.inr (Or.inr ⟨by omega, rfl⟩))) (by rw [up_na (by decide)]; exact z2) (by rw [up_na (by decide)]; exact z3) (by omega) (by rw [up_na (by decide), up_na (by decide)]; exact z4) hres1
    · rw [if_pos q1] at hres1
      subst q3
      rw [up_self, c2, q2]
      have f2 : ∀ z, cfF J (up J2 323 (120 + n) z) n := fun z => f1.up (Or.inr (Or.inr ⟨by omega, rfl⟩))
      have hk2 : ∀ z, Tk J (up J2 323 (120 + n) z) d := fun z => hk1.of (fun k _ => up_na (by decide))
      have bd : res = .inl (2, tP J d) → V w 5 mX5_readClause 442 [some (vR 313), none, none] [] S (up (up (up J2 323 (120 + n) (tV J d)) 313 21 2) 313 22 (J2 313 18)) Q := by
        intro h9
        obtain ⟨z1, z2, z3, z4⟩ := nf 2 _ _ (f2 (tV J d)) (hk2 _) hd
        have e9 : up (up (up J2 323 (120 + n) (tV J d)) 313 21 2) 313 22 (J2 313 18) = flt (up J2 323 (120 + n) (tV J d)) 2 := by
          unfold flt
          rw [up_na (by decide)]
        rw [e9]
        exact bad442 2 _ _ z1 z2 z3 (by omega) z4 h9
      have gd : res = semR J (tE J d) (2, v, tV J d, 0) → MTape (up J2 323 (120 + n) (tV J d)) ∧ (0 ≤ J2 313 17 ∧ J2 313 17 ≤ 300) ∧ ∀ J3, PNx (up J2 323 (120 + n) (tV J d)) ((up J2 323 (120 + n) (tV J d)) 313 17).toNat J3 → V w 5 mX5_readClause 442 [some (vR 313), none, none] [] S J3 Q := by
        intro h9
        refine ⟨hT.mp (f2 _).kp.mp, by omega, fun J3 hp3 => ?_⟩
        rw [(hk2 _).1, Int.toNat_natCast] at hp3
        have u : ∀ b k, b ≠ 313 → J3 b k = (up J2 323 (120 + n) (tV J d)) b k := fun b k h => hp3.1 b k (fun e => h e.1)
        refine g442 _ _ J3 ((f2 _).nx hp3.1) ?_ ?_ ⟨?_, ?_, fun _ => ?_, fun h => absurd h (show ¬ (2 : Int) < 2 by decide)⟩ (PNx.tk (f2 _).kp.mp hp3) (by omega) (by omega) h9
        · rw [hp3.1 _ _ (by omega), up_na (by decide)]; exact e0
        · rw [u _ _ (by decide), up_na (by decide)]; exact e1
        · rw [u _ _ (by decide), up_na (by decide)]; exact c1
        · rw [u _ _ (by decide), up_na (by decide)]; exact c2
        · rw [u _ _ (by decide), up_self]
      refine br_y e0 (br_i (fun h1 => br_i (fun h2 => ?_) (fun h2 => ?_)) (fun h1 => br_i (fun h2 => ?_) (fun h2 => ?_)))
      · exact gd (by rw [hres1]; exact if_pos ⟨fun _ => h2, fun _ => h1⟩)
      · exact bd (by rw [hres1]; exact if_neg (fun q => h2 (q.mp h1)))
      · exact bd (by rw [hres1]; exact if_neg (fun q => h1 (q.mpr h2)))
      · exact gd (by rw [hres1]; exact if_pos ⟨fun q => absurd q h1, fun q => absurd q h2⟩)
  have g281 : n < 12 → ∀ (b : Nat) (so : Int) (J1 : Jm), (so = 2 ∨ so = 3) → cfF J J1 n → J1 313 21 = 0 → J1 320 10 = ((n + 1 : Nat) : Int) → J1 321 (120 + n) = so → Tk J J1 b → b ≤ 300 → a < b → (so = 2 → res = wrtR J b) → (so = 3 → res = drpR J b) → V w 5 mX5_readClause 281 [some (vR 313), some (vI so), some (vI ((120 + n : Nat) : Int))] [] S J1 Q := by
    intro h12 b so J1 hso f1 e0 e1 c1 hk1 hb had hr2 hr3
    have hr := Tk.rng hT hb hk1
    have hti := tok_in hT hb
    refine gX5_readClause_281 (J := J1) hL so (120 + n) ⟨by omega, fun x J2 hp => ⟨by omega, ?_⟩⟩
    have hk2 : ∀ z, Tk J (up J1 322 (120 + n) z) b := fun z => hk1.of (fun k _ => up_na (by decide))
    have f2 : ∀ z, cfF J (up J1 322 (120 + n) z) n := fun z => f1.up (Or.inr (Or.inr ⟨by omega, rfl⟩))
    refine let_cases hp e0 hk1 hti.2.2.1 (fun q1 q2 q3 => ?_) (fun q1 q2 q3 => ?_)
    · have hres1 : res = .inl (1, tP J b) := by
        rcases hso with h | h
        · rw [hr2 h]; unfold wrtR letR; rw [if_neg q1]
        · rw [hr3 h]; unfold drpR letR; rw [if_neg q1]
      obtain ⟨z1, z2, z3, z4⟩ := nf 1 _ J1 f1 hk1 hb
      rw [q3]
      refine br_n (by omega) ?_
      exact bad332 h12 so 1 _ _ (z1.up (Or.inr (Or.inr ⟨by omega, rfl⟩))) (by rw [up_na (by decide)]; exact z2) (by rw [up_na (by decide)]; exact z3) (by omega) (by rw [up_na (by decide), up_na (by decide)]; exact z4) hres1
    · subst q3
      rw [up_self, q2]
      -- the letter is gone over
      have nxt : ∀ J3, PNx (up J2 322 (120 + n) (tV J b)) ((up J2 322 (120 + n) (tV J b)) 313 17).toNat J3 → nxF (up J2 322 (120 + n) (tV J b)) J3 ∧ Tk J J3 (tE J b) := by
        intro J3 hp3
        rw [(hk2 _).1, Int.toNat_natCast] at hp3
        exact ⟨hp3.1, PNx.tk (f2 _).kp.mp hp3⟩
      refine br_y e0 (br_i (fun h3 => ?_) (fun h3 => ?_))
      · have hres1 := hr3 h3
        unfold drpR letR at hres1
        rw [if_pos q1] at hres1
        refine br_i (fun hv => ⟨hT.mp (f2 _).kp.mp, by omega, fun J3 hp3 => ?_⟩) (fun hv => ?_)
        · obtain ⟨n1, n2⟩ := nxt J3 hp3
          have u : ∀ q k, q ≠ 313 → J3 q k = (up J2 322 (120 + n) (tV J b)) q k := fun q k h => n1 q k (fun e => h e.1)
          refine gX5_readClause_332 (J := J3) hL so (120 + n) (br_n (by omega) ?_)
          refine g442 _ (3, tV J b, 0, 0) J3 ((f2 _).nx n1) ?_ ?_ ⟨?_, ?_, fun h => absurd h (show ¬ (3 : Int) < 3 by decide), fun h => absurd h (show ¬ (3 : Int) < 2 by decide)⟩ n2 (by omega) (by omega) (by rw [hres1]; exact if_pos hv)
          · rw [n1 _ _ (by omega), up_na (by decide)]; exact e0
          · rw [u _ _ (by decide), up_na (by decide)]; exact e1
          · rw [u _ _ (by decide), up_na (by decide), c1]; exact h3
          · rw [u _ _ (by decide), up_self]
        · obtain ⟨z1, z2, z3, z4⟩ := nf 2 _ _ (f2 (tV J b)) (hk2 _) hb
          have e9 : up (up (up J2 322 (120 + n) (tV J b)) 313 21 2) 313 22 (J2 313 18) = flt (up J2 322 (120 + n) (tV J b)) 2 := by
            unfold flt
            rw [up_na (by decide)]
          rw [e9]
          exact bad332 h12 so 2 _ _ z1 z2 z3 (by omega) z4 (by rw [hres1]; exact if_neg hv)
      · have h2 : so = 2 := by omega
        have hres1 := hr2 h2
        unfold wrtR at hres1
        unfold letR at hres1
        rw [if_pos q1] at hres1
        change res = if tW J (tE J b) [97, 115] then _ else _ at hres1
        refine ⟨hT.mp (f2 _).kp.mp, by omega, fun J3 hp3 => ?_⟩
        obtain ⟨n1, n2⟩ := nxt J3 hp3
        have f3 := (f2 (tV J b)).nx n1
        have u : ∀ q k, q ≠ 313 → J3 q k = (up J2 322 (120 + n) (tV J b)) q k := fun q k h => n1 q k (fun e => h e.1)
        have e03 : J3 313 21 = 0 := by rw [n1 _ _ (by omega), up_na (by decide)]; exact e0
        have hr3' := Tk.rng hT hr.2 n2
        have hti3 := tok_in hT hr.2
        refine gX5_readClause_332 (J := J3) hL so (120 + n) (br_y h2 (br_y e03 ⟨hr3'.1, br_i (fun hb1 => ?_) (fun hb1 => ?_)⟩))
        · have hw := (WordIs.iff f3.kp.mp n2 _).mp hb1
          rw [if_pos hw] at hres1
          refine ⟨hT.mp f3.kp.mp, by omega, fun J4 hp4 => ?_⟩
          rw [n2.1, Int.toNat_natCast] at hp4
          have u4 : ∀ b k, b ≠ 313 → J4 b k = J3 b k := fun b k h => hp4.1 b k (fun e => h e.1)
          refine g370 h12 (tE J (tE J b)) (tV J b) J4 (f3.nx hp4.1) ?_ ?_ ?_ ?_ (PNx.tk f3.kp.mp hp4) (by omega) (by omega) ?_
          · rw [hp4.1 _ _ (by omega)]; exact e03
          · rw [u4 _ _ (by decide), u _ _ (by decide), up_na (by decide)]; exact e1
          · rw [u4 _ _ (by decide), u _ _ (by decide), up_na (by decide), c1]; exact h2
          · rw [u4 _ _ (by decide), u _ _ (by decide), up_self]
          · rw [hres1]; rfl
        · rw [if_neg (fun q => hb1 ((WordIs.iff f3.kp.mp n2 _).mpr q))] at hres1
          obtain ⟨z1, z2, z3, z4⟩ := nf 1 _ J3 f3 n2 hr.2
          exact bad370 h12 1 _ _ z1 z2 z3 (by omega) z4 hres1
  -- the first word
  have hr := Tk.rng hT ha hk
  have hti := tok_in hT ha
  have f0 : cfF J J n := fun _ _ _ _ _ => rfl
  have full : n = 12 → res = .inl (3, tP J a) → Q (.inl none) S (up (up J 313 21 3) 313 22 (J 313 18)) := by
    intro _ hr9
    refine K _ ((f0.up (Or.inl ⟨rfl, by omega⟩)).up (Or.inl ⟨rfl, by omega⟩)) (fun k p h => ?_) (fun cl b h => ?_)
    · rw [hr9] at h
      cases h
      refine ⟨by simp [up], by simp [up, hk.2.1], by omega⟩
    · rw [hr9] at h; cases h
  have f1 : ∀ so : Int, cfF J (up (up J 320 10 (((n : Nat) : Int) + 1)) 321 (120 + n) so) n := fun so => (f0.up (Or.inr (Or.inl ⟨rfl, rfl⟩))).up (Or.inr (Or.inr ⟨by omega, rfl⟩))
  have go : ∀ so : Int, (0 ≤ so ∧ so ≤ 3) → n < 12 → tK J a = 3 → (so < 2 → res = whR J (tE J a) so) → (so = 2 → res = wrtR J (tE J a)) → (so = 3 → res = drpR J (tE J a)) → MTape (up (up J 320 10 (((n : Nat) : Int) + 1)) 321 (120 + n) so) ∧ (0 ≤ J 313 17 ∧ J 313 17 ≤ 300) ∧ ∀ J1, PNx (up (up J 320 10 (((n : Nat) : Int) + 1)) 321 (120 + n) so) ((up (up J 320 10 (((n : Nat) : Int) + 1)) 321 (120 + n) so) 313 17).toNat J1 → V w 5 mX5_readClause 129 [some (vR 313), some (vI so), some (vI (120 + ((n : Nat) : Int)))] [] S J1 Q := by
    intro so hso h12 h3 r1 r2 r3
    refine ⟨hT.mp (f1 so).kp.mp, by omega, fun J1 hp => ?_⟩
    have ea : (up (up J 320 10 (((n : Nat) : Int) + 1)) 321 (120 + n) so) 313 17 = ((tE J a : Nat) : Int) := by rw [up_na (by decide), up_na (by decide)]; exact hk.1
    rw [ea, Int.toNat_natCast] at hp
    have f2 := (f1 so).nx hp.1
    have hk2 : Tk J J1 (tE J a) := PNx.tk (f1 so).kp.mp hp
    have u : ∀ b k, b ≠ 313 → J1 b k = (up (up J 320 10 (((n : Nat) : Int) + 1)) 321 (120 + n) so) b k := fun b k h => hp.1 b k (fun e => h e.1)
    have e0 : J1 313 21 = 0 := by rw [hp.1 _ _ (by omega), up_na (by decide), up_na (by decide)]; exact h0
    have e1 : J1 320 10 = ((n + 1 : Nat) : Int) := by rw [u _ _ (by decide), up_na (by decide), up_self]; push_cast; rfl
    have e2 : J1 321 (120 + n) = so := by rw [u _ _ (by decide), up_self]
    rw [show 120 + ((n : Nat) : Int) = ((120 + n : Nat) : Int) by omega]
    by_cases h2 : so < 2
    · exact g129 h12 _ so J1 h2 f2 e0 e1 e2 hk2 (by omega) (by omega) (r1 h2)
    · exact gX5_readClause_129 (J := J1) hL so (120 + n) (br_y (by omega) (g281 h12 _ so J1 (by omega) f2 e0 e1 e2 hk2 (by omega) (by omega) r2 r3))
  unfold pCl at hres
  refine gX5_readClause_0 (J := J) hL ⟨hr.1, ?_⟩
  rw [hn, show (120 + ((n : Nat) : Int)).toNat = 120 + n by omega]
  have iff0 := fun bs => WordIs.iff (J0 := J) (J := J) (a := a) Mp.rfl' hk bs
  refine br_i (fun b1 => ?_) (fun b1 => br_i (fun b2 => ?_) (fun b2 => br_i (fun b3 => ?_) (fun b3 => br_i (fun b4 => ?_) (fun b4 => ⟨h0, ?_⟩))))
  · have hw := (iff0 _).mp b1
    rw [if_pos hw] at hres
    refine br_i (fun hc => ⟨h0, full (by omega) (by rw [← hres, if_pos (by omega)])⟩) (fun hc => br_y h0 ?_)
    rw [if_neg (by omega)] at hres
    (repeat' (first | (refine And.intro ?_ ?_; omega)))
    exact go 0 (by omega) (by omega) hw.1 (fun _ => hres.symm) (fun h => absurd h (by decide)) (fun h => absurd h (by decide))
  · have hw := (iff0 _).mp b2
    rw [if_neg (fun q => b1 ((iff0 _).mpr q)), if_pos hw] at hres
    refine br_i (fun hc => ⟨h0, full (by omega) (by rw [← hres, if_pos (by omega)])⟩) (fun hc => br_y h0 ?_)
    rw [if_neg (by omega)] at hres
    (repeat' (first | (refine And.intro ?_ ?_; omega)))
    exact go 1 (by omega) (by omega) hw.1 (fun _ => hres.symm) (fun h => absurd h (by decide)) (fun h => absurd h (by decide))
  · have hw := (iff0 _).mp b3
    rw [if_neg (fun q => b1 ((iff0 _).mpr q)), if_neg (fun q => b2 ((iff0 _).mpr q)), if_pos hw] at hres
    refine br_i (fun hc => ⟨h0, full (by omega) (by rw [← hres, if_pos (by omega)])⟩) (fun hc => br_y h0 ?_)
    rw [if_neg (by omega)] at hres
    (repeat' (first | (refine And.intro ?_ ?_; omega)))
    exact go 2 (by omega) (by omega) hw.1 (fun h => absurd h (by decide)) (fun _ => hres.symm) (fun h => absurd h (by decide))
  · have hw := (iff0 _).mp b4
    rw [if_neg (fun q => b1 ((iff0 _).mpr q)), if_neg (fun q => b2 ((iff0 _).mpr q)), if_neg (fun q => b3 ((iff0 _).mpr q)), if_pos hw] at hres
    refine br_i (fun hc => ⟨h0, full (by omega) (by rw [← hres, if_pos (by omega)])⟩) (fun hc => br_y h0 ?_)
    rw [if_neg (by omega)] at hres
    (repeat' (first | (refine And.intro ?_ ?_; omega)))
    exact go 3 (by omega) (by omega) hw.1 (fun h => absurd h (by decide)) (fun h => absurd h (by decide)) (fun _ => hres.symm)
  · rw [if_neg (fun q => b1 ((iff0 _).mpr q)), if_neg (fun q => b2 ((iff0 _).mpr q)), if_neg (fun q => b3 ((iff0 _).mpr q)), if_neg (fun q => b4 ((iff0 _).mpr q))] at hres
    refine K _ ((f0.up (Or.inl ⟨rfl, by omega⟩)).up (Or.inl ⟨rfl, by omega⟩)) (fun k p h => ?_) (fun cl b h => ?_)
    · rw [← hres] at h
      cases h
      refine ⟨by simp [up], by simp [up, hk.2.1], by omega⟩
    · rw [← hres] at h; cases h
