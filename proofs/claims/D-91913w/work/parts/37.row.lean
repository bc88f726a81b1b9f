/-! the model: a row is read -/
set_option maxRecDepth 100000
theorem gX5_readRow_0 {w : Wd} {S : Sh} {J : Jm} {Q : Out → Sh → Jm → Prop} (hL : Lay S) 
    (K : Br (J 313 19 = 2) (Br (J 316 24 = 8) ((J 313 21 = 0) ∧ Q (.inl none) S (up (up J 313 21 3) 313 22 (J 313 18))) (Br (J 313 21 = 0) ((-2147483648 ≤ 192 + (J 316 24) ∧ 192 + (J 316 24) ≤ 2147483647) ∧ (-2147483648 ≤ (J 316 24) + 1 ∧ (J 316 24) + 1 ≤ 2147483647) ∧ (0 ≤ 192 + (J 316 24)) ∧ (192 + (J 316 24) < 200) ∧ V w 3 mX5_readRow 80 [some (vR 313), some (vI (192 + (J 316 24))), none] [] S (up (up J 316 24 ((J 316 24) + 1)) 317 (192 + (J 316 24)).toNat 0) Q) (Q (.inl none) S J))) (Br (J 313 19 = 4 ∧ J 313 20 = 63) (Br (J 316 24 = 8) ((J 313 21 = 0) ∧ Q (.inl none) S (up (up J 313 21 3) 313 22 (J 313 18))) (Br (J 313 21 = 0) ((-2147483648 ≤ 192 + (J 316 24) ∧ 192 + (J 316 24) ≤ 2147483647) ∧ (-2147483648 ≤ (J 316 24) + 1 ∧ (J 316 24) + 1 ≤ 2147483647) ∧ (0 ≤ 192 + (J 316 24)) ∧ (192 + (J 316 24) < 200) ∧ V w 3 mX5_readRow 80 [some (vR 313), some (vI (192 + (J 316 24))), none] [] S (up (up J 316 24 ((J 316 24) + 1)) 317 (192 + (J 316 24)).toNat 0) Q) (Q (.inl none) S J))) ((J 313 21 = 0) ∧ Q (.inl none) S (up (up J 313 21 1) 313 22 (J 313 18))))) :
    V w 3 mX5_readRow 0 (ent mX5_readRow [vR 313]) [] S J Q := by
  show V w 3 mX5_readRow 0 [some (vR 313), none, none] [] S J Q
  refine v_aload_n dX5_readRow_0 rfl ?_
  refine v_getI dX5_readRow_1 frX5_189_5 rfl rfl (L_313 hL).1 ?_
  refine v_iconst dX5_readRow_4 (in_lit (by decide)) ?_
  obtain ⟨K1, K2⟩ := K
  refine v_icmp_eq 25 dX5_readRow_5 (by decide) (fun c1 => ?_) (fun c1 => ?_)
  · have K := K1 c1
    refine v_aload_n dX5_readRow_25 rfl ?_
    refine v_getR dX5_readRow_26 frX5_20_5 rfl (L_313 hL).1 (LR_313_5 hL) (Or.inl rfl) ?_
    refine v_bipush dX5_readRow_29 (by decide) (in_lit (by decide)) ?_
    refine ld_316 dX5_readRow_31 hL (by omega) (by decide) ?_
    show V w 3 mX5_readRow 32 [some (vR 313), none, none] [vI (J 316 24)] S J Q
    refine v_bipush dX5_readRow_32 (by decide) (in_lit (by decide)) ?_
    obtain ⟨K1, K2⟩ := K
    refine v_icmp_ne 42 dX5_readRow_34 (by decide) (fun c2 => ?_) (fun c2 => ?_)
    · have K := K2 c2
      refine v_aload_n dX5_readRow_42 rfl ?_
      refine v_callV (d' := 0) (rest := []) [] dX5_readRow_43 vrX5_222_5 (L_313 hL).1 rfl rfl one_nil (Nat.le_of_ble_eq_true rfl) (Nat.le_of_ble_eq_true rfl) (Nat.le_of_ble_eq_true rfl) ?_
      obtain ⟨K1, K2⟩ := K
      refine sX5_isWell hL   (fun c3 => ?_) (fun c3 => ?_)
      · have K := K1 c3
        show V w 3 mX5_readRow 46 [some (vR 313), none, none] [vI 1] S J Q
        refine v_if_ne 50 dX5_readRow_46 (by decide) (fun _ => ?_) (fun cQ => absurd cQ (by decide))
        refine v_sipush dX5_readRow_50 (by decide) (in_lit (by decide)) ?_
        refine v_aload_n dX5_readRow_53 rfl ?_
        refine v_getR dX5_readRow_54 frX5_20_5 rfl (L_313 hL).1 (LR_313_5 hL) (Or.inl rfl) ?_
        refine v_bipush dX5_readRow_57 (by decide) (in_lit (by decide)) ?_
        refine ld_316 dX5_readRow_59 hL (by omega) (by decide) ?_
        show V w 3 mX5_readRow 60 [some (vR 313), none, none] [vI (J 316 24), vI 192] S J Q
        obtain ⟨o1, K⟩ := K
        refine v_iadd dX5_readRow_60 o1 ?_
        refine v_istore_n dX5_readRow_61 (Nat.le_of_ble_eq_true rfl) ?_
        show V w 3 mX5_readRow 62 [some (vR 313), some (vI (192 + (J 316 24))), none] [] S J Q
        refine v_aload_n dX5_readRow_62 rfl ?_
        refine v_getR dX5_readRow_63 frX5_20_5 rfl (L_313 hL).1 (LR_313_5 hL) (Or.inl rfl) ?_
        refine v_bipush dX5_readRow_66 (by decide) (in_lit (by decide)) ?_
        refine v_dup2 dX5_readRow_68 trivial trivial ?_
        refine ld_316 dX5_readRow_69 hL (by omega) (by decide) ?_
        show V w 3 mX5_readRow 70 [some (vR 313), some (vI (192 + (J 316 24))), none] [vI (J 316 24), vI 24, vR 316] S J Q
        refine v_iconst dX5_readRow_70 (in_lit (by decide)) ?_
        obtain ⟨o2, K⟩ := K
        refine v_iadd dX5_readRow_71 o2 ?_
        refine st_316 dX5_readRow_72 hL (by omega) (by decide) ?_
        show V w 3 mX5_readRow 73 [some (vR 313), some (vI (192 + (J 316 24))), none] [] S (up J 316 24 ((J 316 24) + 1)) Q
        refine v_aload_n dX5_readRow_73 rfl ?_
        refine v_getR dX5_readRow_74 frX5_23_5 rfl (L_313 hL).1 (LR_313_6 hL) (Or.inl rfl) ?_
        refine v_iload_n dX5_readRow_77 rfl ?_
        refine v_iconst dX5_readRow_78 (in_lit (by decide)) ?_
        obtain ⟨o3, K⟩ := K
        obtain ⟨o4, K⟩ := K
        refine st_317 dX5_readRow_79 hL o3 o4 ?_
        show V w 3 mX5_readRow 80 [some (vR 313), some (vI (192 + (J 316 24))), none] [] S (up (up J 316 24 ((J 316 24) + 1)) 317 (192 + (J 316 24)).toNat 0) Q
        exact K
      · have K := K2 c3
        show V w 3 mX5_readRow 46 [some (vR 313), none, none] [vI 0] S J Q
        refine v_if_ne 50 dX5_readRow_46 (by decide) (fun cQ => absurd cQ (by decide)) (fun _ => ?_)
        exact v_vret dX5_readRow_49 rfl K
    · have K := K1 c2
      refine v_aload_n dX5_readRow_37 rfl ?_
      refine v_iconst dX5_readRow_38 (in_lit (by decide)) ?_
      refine v_callV (d' := 0) (rest := []) [vI 3] dX5_readRow_39 vrX5_232_5 (L_313 hL).1 rfl rfl (one_I one_nil) (Nat.le_of_ble_eq_true rfl) (Nat.le_of_ble_eq_true rfl) (Nat.le_of_ble_eq_true rfl) ?_
      obtain ⟨o5, K⟩ := K
      refine s_fails hL 3 o5 ?_
      show V w 3 mX5_readRow 42 [some (vR 313), none, none] [] S (up (up J 313 21 3) 313 22 (J 313 18)) Q
      refine v_aload_n dX5_readRow_42 rfl ?_
      refine v_callV (d' := 0) (rest := []) [] dX5_readRow_43 vrX5_222_5 (L_313 hL).1 rfl rfl one_nil (Nat.le_of_ble_eq_true rfl) (Nat.le_of_ble_eq_true rfl) (Nat.le_of_ble_eq_true rfl) ?_
      refine sX5_isWell hL   (fun cQ => absurd (show (3 : Int) = 0 from cQ) (by decide)) (fun _ => ?_)
      show V w 3 mX5_readRow 46 [some (vR 313), none, none] [vI 0] S (up (up J 313 21 3) 313 22 (J 313 18)) Q
      refine v_if_ne 50 dX5_readRow_46 (by decide) (fun cQ => absurd cQ (by decide)) (fun _ => ?_)
      exact v_vret dX5_readRow_49 rfl K
  · have K := K2 c1
    refine v_aload_n dX5_readRow_8 rfl ?_
    refine v_bipush dX5_readRow_9 (by decide) (in_lit (by decide)) ?_
    refine v_callV (d' := 0) (rest := []) [vI 63] dX5_readRow_11 vrX5_226_5 (L_313 hL).1 rfl rfl (one_I one_nil) (Nat.le_of_ble_eq_true rfl) (Nat.le_of_ble_eq_true rfl) (Nat.le_of_ble_eq_true rfl) ?_
    obtain ⟨K1, K2⟩ := K
    refine sX5_isSign hL 63  (fun c4 => ?_) (fun c4 => ?_)
    · have K := K1 c4
      show V w 3 mX5_readRow 14 [some (vR 313), none, none] [vI 1] S J Q
      refine v_if_ne 25 dX5_readRow_14 (by decide) (fun _ => ?_) (fun cQ => absurd cQ (by decide))
      refine v_aload_n dX5_readRow_25 rfl ?_
      refine v_getR dX5_readRow_26 frX5_20_5 rfl (L_313 hL).1 (LR_313_5 hL) (Or.inl rfl) ?_
      refine v_bipush dX5_readRow_29 (by decide) (in_lit (by decide)) ?_
      refine ld_316 dX5_readRow_31 hL (by omega) (by decide) ?_
      show V w 3 mX5_readRow 32 [some (vR 313), none, none] [vI (J 316 24)] S J Q
      refine v_bipush dX5_readRow_32 (by decide) (in_lit (by decide)) ?_
      obtain ⟨K1, K2⟩ := K
      refine v_icmp_ne 42 dX5_readRow_34 (by decide) (fun c5 => ?_) (fun c5 => ?_)
      · have K := K2 c5
        refine v_aload_n dX5_readRow_42 rfl ?_
        refine v_callV (d' := 0) (rest := []) [] dX5_readRow_43 vrX5_222_5 (L_313 hL).1 rfl rfl one_nil (Nat.le_of_ble_eq_true rfl) (Nat.le_of_ble_eq_true rfl) (Nat.le_of_ble_eq_true rfl) ?_
        obtain ⟨K1, K2⟩ := K
        refine sX5_isWell hL   (fun c6 => ?_) (fun c6 => ?_)
        · have K := K1 c6
          show V w 3 mX5_readRow 46 [some (vR 313), none, none] [vI 1] S J Q
          refine v_if_ne 50 dX5_readRow_46 (by decide) (fun _ => ?_) (fun cQ => absurd cQ (by decide))
          refine v_sipush dX5_readRow_50 (by decide) (in_lit (by decide)) ?_
          refine v_aload_n dX5_readRow_53 rfl ?_
          refine v_getR dX5_readRow_54 frX5_20_5 rfl (L_313 hL).1 (LR_313_5 hL) (Or.inl rfl) ?_
          refine v_bipush dX5_readRow_57 (by decide) (in_lit (by decide)) ?_
          refine ld_316 dX5_readRow_59 hL (by omega) (by decide) ?_
          show V w 3 mX5_readRow 60 [some (vR 313), none, none] [vI (J 316 24), vI 192] S J Q
          obtain ⟨o6, K⟩ := K
          refine v_iadd dX5_readRow_60 o6 ?_
          refine v_istore_n dX5_readRow_61 (Nat.le_of_ble_eq_true rfl) ?_
          show V w 3 mX5_readRow 62 [some (vR 313), some (vI (192 + (J 316 24))), none] [] S J Q
          refine v_aload_n dX5_readRow_62 rfl ?_
          refine v_getR dX5_readRow_63 frX5_20_5 rfl (L_313 hL).1 (LR_313_5 hL) (Or.inl rfl) ?_
          refine v_bipush dX5_readRow_66 (by decide) (in_lit (by decide)) ?_
          refine v_dup2 dX5_readRow_68 trivial trivial ?_
          refine ld_316 dX5_readRow_69 hL (by omega) (by decide) ?_
          show V w 3 mX5_readRow 70 [some (vR 313), some (vI (192 + (J 316 24))), none] [vI (J 316 24), vI 24, vR 316] S J Q
          refine v_iconst dX5_readRow_70 (in_lit (by decide)) ?_
          obtain ⟨o7, K⟩ := K
          refine v_iadd dX5_readRow_71 o7 ?_
          refine st_316 dX5_readRow_72 hL (by omega) (by decide) ?_
          show V w 3 mX5_readRow 73 [some (vR 313), some (vI (192 + (J 316 24))), none] [] S (up J 316 24 ((J 316 24) + 1)) Q
          refine v_aload_n dX5_readRow_73 rfl ?_
          refine v_getR dX5_readRow_74 frX5_23_5 rfl (L_313 hL).1 (LR_313_6 hL) (Or.inl rfl) ?_
          refine v_iload_n dX5_readRow_77 rfl ?_
          refine v_iconst dX5_readRow_78 (in_lit (by decide)) ?_
          obtain ⟨o8, K⟩ := K
          obtain ⟨o9, K⟩ := K
          refine st_317 dX5_readRow_79 hL o8 o9 ?_
          show V w 3 mX5_readRow 80 [some (vR 313), some (vI (192 + (J 316 24))), none] [] S (up (up J 316 24 ((J 316 24) + 1)) 317 (192 + (J 316 24)).toNat 0) Q
          exact K
        · have K := K2 c6
          show V w 3 mX5_readRow 46 [some (vR 313), none, none] [vI 0] S J Q
          refine v_if_ne 50 dX5_readRow_46 (by decide) (fun cQ => absurd cQ (by decide)) (fun _ => ?_)
          exact v_vret dX5_readRow_49 rfl K
      · have K := K1 c5
        refine v_aload_n dX5_readRow_37 rfl ?_
        refine v_iconst dX5_readRow_38 (in_lit (by decide)) ?_
        refine v_callV (d' := 0) (rest := []) [vI 3] dX5_readRow_39 vrX5_232_5 (L_313 hL).1 rfl rfl (one_I one_nil) (Nat.le_of_ble_eq_true rfl) (Nat.le_of_ble_eq_true rfl) (Nat.le_of_ble_eq_true rfl) ?_
        obtain ⟨o10, K⟩ := K
        refine s_fails hL 3 o10 ?_
        show V w 3 mX5_readRow 42 [some (vR 313), none, none] [] S (up (up J 313 21 3) 313 22 (J 313 18)) Q
        refine v_aload_n dX5_readRow_42 rfl ?_
        refine v_callV (d' := 0) (rest := []) [] dX5_readRow_43 vrX5_222_5 (L_313 hL).1 rfl rfl one_nil (Nat.le_of_ble_eq_true rfl) (Nat.le_of_ble_eq_true rfl) (Nat.le_of_ble_eq_true rfl) ?_
        refine sX5_isWell hL   (fun cQ => absurd (show (3 : Int) = 0 from cQ) (by decide)) (fun _ => ?_)
        show V w 3 mX5_readRow 46 [some (vR 313), none, none] [vI 0] S (up (up J 313 21 3) 313 22 (J 313 18)) Q
        refine v_if_ne 50 dX5_readRow_46 (by decide) (fun cQ => absurd cQ (by decide)) (fun _ => ?_)
        exact v_vret dX5_readRow_49 rfl K
    · have K := K2 c4
      show V w 3 mX5_readRow 14 [some (vR 313), none, none] [vI 0] S J Q
      refine v_if_ne 25 dX5_readRow_14 (by decide) (fun cQ => absurd cQ (by decide)) (fun _ => ?_)
      refine v_aload_n dX5_readRow_17 rfl ?_
      refine v_iconst dX5_readRow_18 (in_lit (by decide)) ?_
      refine v_callV (d' := 0) (rest := []) [vI 1] dX5_readRow_19 vrX5_232_5 (L_313 hL).1 rfl rfl (one_I one_nil) (Nat.le_of_ble_eq_true rfl) (Nat.le_of_ble_eq_true rfl) (Nat.le_of_ble_eq_true rfl) ?_
      obtain ⟨o11, K⟩ := K
      refine s_fails hL 1 o11 ?_
      show V w 3 mX5_readRow 22 [some (vR 313), none, none] [] S (up (up J 313 21 1) 313 22 (J 313 18)) Q
      refine v_goto 42 dX5_readRow_22 (by decide) ?_
      refine v_aload_n dX5_readRow_42 rfl ?_
      refine v_callV (d' := 0) (rest := []) [] dX5_readRow_43 vrX5_222_5 (L_313 hL).1 rfl rfl one_nil (Nat.le_of_ble_eq_true rfl) (Nat.le_of_ble_eq_true rfl) (Nat.le_of_ble_eq_true rfl) ?_
      refine sX5_isWell hL   (fun cQ => absurd (show (1 : Int) = 0 from cQ) (by decide)) (fun _ => ?_)
      show V w 3 mX5_readRow 46 [some (vR 313), none, none] [vI 0] S (up (up J 313 21 1) 313 22 (J 313 18)) Q
      refine v_if_ne 50 dX5_readRow_46 (by decide) (fun cQ => absurd cQ (by decide)) (fun _ => ?_)
      exact v_vret dX5_readRow_49 rfl K
theorem gX5_readRow_80 {w : Wd} {S : Sh} {J : Jm} {Q : Out → Sh → Jm → Prop} (hL : Lay S) (r : Nat)
    (K : Br (J 313 21 = 0) (Br (J 313 19 = 2) ((((r : Nat) : Int) < 200) ∧ Br (J 317 r = 6) (Q (.inl none) S (up (up J 313 21 3) 313 22 (J 313 18))) ((-2147483648 ≤ 6 * ((r : Nat) : Int) ∧ 6 * ((r : Nat) : Int) ≤ 2147483647) ∧ (-2147483648 ≤ ((6 * r : Nat) : Int) + (J 317 r) ∧ ((6 * r : Nat) : Int) + (J 317 r) ≤ 2147483647) ∧ (-2147483648 ≤ (J 317 r) + 1 ∧ (J 317 r) + 1 ≤ 2147483647) ∧ (MTape (up J 317 r ((J 317 r) + 1))) ∧ (0 ≤ (J 313 17) ∧ (J 313 17) ≤ 300) ∧ (∀ (r1 : Int) (J1 : Jm), PNum (up J 317 r ((J 317 r) + 1)) 0 39 r1 J1 → (0 ≤ ((6 * r : Nat) : Int) + (J 317 r)) ∧ (((6 * r : Nat) : Int) + (J 317 r) < 1200) ∧ V w 3 mX5_readRow 80 [some (vR 313), some (vI ((r : Nat) : Int)), none] [] S (up J1 318 (((6 * r : Nat) : Int) + (J 317 r)).toNat r1) Q))) (Br (J 313 19 = 4 ∧ J 313 20 = 63) ((((r : Nat) : Int) < 200) ∧ Br (J 317 r = 6) (Q (.inl none) S (up (up J 313 21 3) 313 22 (J 313 18))) ((-2147483648 ≤ 6 * ((r : Nat) : Int) ∧ 6 * ((r : Nat) : Int) ≤ 2147483647) ∧ (-2147483648 ≤ ((6 * r : Nat) : Int) + (J 317 r) ∧ ((6 * r : Nat) : Int) + (J 317 r) ≤ 2147483647) ∧ (-2147483648 ≤ (J 317 r) + 1 ∧ (J 317 r) + 1 ≤ 2147483647) ∧ (0 ≤ ((6 * r : Nat) : Int) + (J 317 r)) ∧ (((6 * r : Nat) : Int) + (J 317 r) < 1200) ∧ (MTape (up (up J 317 r ((J 317 r) + 1)) 318 (((6 * r : Nat) : Int) + (J 317 r)).toNat (-1))) ∧ (0 ≤ (J 313 17) ∧ (J 313 17) ≤ 300) ∧ (∀ (J2 : Jm), PNx (up (up J 317 r ((J 317 r) + 1)) 318 (((6 * r : Nat) : Int) + (J 317 r)).toNat (-1)) ((up (up J 317 r ((J 317 r) + 1)) 318 (((6 * r : Nat) : Int) + (J 317 r)).toNat (-1)) 313 17).toNat J2 → V w 3 mX5_readRow 80 [some (vR 313), some (vI ((r : Nat) : Int)), none] [] S J2 Q))) ((MTape J) ∧ (0 ≤ J 313 17 ∧ J 313 17 ≤ 300) ∧ (∀ (J3 : Jm), PWs J 46 J3 → Q (.inl none) S J3)))) ((MTape J) ∧ (0 ≤ J 313 17 ∧ J 313 17 ≤ 300) ∧ (∀ (J4 : Jm), PWs J 46 J4 → Q (.inl none) S J4))) :
    V w 3 mX5_readRow 80 [some (vR 313), some (vI ((r : Nat) : Int)), none] [] S J Q := by
  refine v_aload_n dX5_readRow_80 rfl ?_
  refine v_callV (d' := 0) (rest := []) [] dX5_readRow_81 vrX5_222_5 (L_313 hL).1 rfl rfl one_nil (Nat.le_of_ble_eq_true rfl) (Nat.le_of_ble_eq_true rfl) (Nat.le_of_ble_eq_true rfl) ?_
  obtain ⟨K1, K2⟩ := K
  refine sX5_isWell hL   (fun c1 => ?_) (fun c1 => ?_)
  · have K := K1 c1
    show V w 3 mX5_readRow 84 [some (vR 313), some (vI ((r : Nat) : Int)), none] [vI 1] S J Q
    refine v_if_eq 181 dX5_readRow_84 (by decide) (fun cQ => absurd cQ (by decide)) (fun _ => ?_)
    refine v_aload_n dX5_readRow_87 rfl ?_
    refine v_getI dX5_readRow_88 frX5_189_5 rfl rfl (L_313 hL).1 ?_
    refine v_iconst dX5_readRow_91 (in_lit (by decide)) ?_
    obtain ⟨K1, K2⟩ := K
    refine v_icmp_eq 104 dX5_readRow_92 (by decide) (fun c2 => ?_) (fun c2 => ?_)
    · have K := K1 c2
      refine v_aload_n dX5_readRow_104 rfl ?_
      refine v_getR dX5_readRow_105 frX5_23_5 rfl (L_313 hL).1 (LR_313_6 hL) (Or.inl rfl) ?_
      refine v_iload_n dX5_readRow_108 rfl ?_
      obtain ⟨o1, K⟩ := K
      refine ld_317 dX5_readRow_109 hL (by omega) o1 ?_
      show V w 3 mX5_readRow 110 [some (vR 313), some (vI ((r : Nat) : Int)), none] [vI (J 317 r)] S J Q
      refine v_bipush dX5_readRow_110 (by decide) (in_lit (by decide)) ?_
      obtain ⟨K1, K2⟩ := K
      refine v_icmp_ne 121 dX5_readRow_112 (by decide) (fun c3 => ?_) (fun c3 => ?_)
      · have K := K2 c3
        refine v_bipush dX5_readRow_121 (by decide) (in_lit (by decide)) ?_
        refine v_iload_n dX5_readRow_123 rfl ?_
        obtain ⟨o2, K⟩ := K
        refine v_imul dX5_readRow_124 o2 ?_
        show V w 3 mX5_readRow 125 [some (vR 313), some (vI ((r : Nat) : Int)), none] [vI ((6 * r : Nat) : Int)] S J Q
        refine v_aload_n dX5_readRow_125 rfl ?_
        refine v_getR dX5_readRow_126 frX5_23_5 rfl (L_313 hL).1 (LR_313_6 hL) (Or.inl rfl) ?_
        refine v_iload_n dX5_readRow_129 rfl ?_
        refine ld_317 dX5_readRow_130 hL (by omega) o1 ?_
        show V w 3 mX5_readRow 131 [some (vR 313), some (vI ((r : Nat) : Int)), none] [vI (J 317 r), vI ((6 * r : Nat) : Int)] S J Q
        obtain ⟨o3, K⟩ := K
        refine v_iadd dX5_readRow_131 o3 ?_
        refine v_istore_n dX5_readRow_132 (Nat.le_of_ble_eq_true rfl) ?_
        show V w 3 mX5_readRow 133 [some (vR 313), some (vI ((r : Nat) : Int)), some (vI (((6 * r : Nat) : Int) + (J 317 r)))] [] S J Q
        refine v_aload_n dX5_readRow_133 rfl ?_
        refine v_getR dX5_readRow_134 frX5_23_5 rfl (L_313 hL).1 (LR_313_6 hL) (Or.inl rfl) ?_
        refine v_iload_n dX5_readRow_137 rfl ?_
        refine v_dup2 dX5_readRow_138 trivial trivial ?_
        refine ld_317 dX5_readRow_139 hL (by omega) o1 ?_
        show V w 3 mX5_readRow 140 [some (vR 313), some (vI ((r : Nat) : Int)), some (vI (((6 * r : Nat) : Int) + (J 317 r)))] [vI (J 317 r), vI ((r : Nat) : Int), vR 317] S J Q
        refine v_iconst dX5_readRow_140 (in_lit (by decide)) ?_
        obtain ⟨o4, K⟩ := K
        refine v_iadd dX5_readRow_141 o4 ?_
        refine st_317 dX5_readRow_142 hL (by omega) o1 ?_
        show V w 3 mX5_readRow 143 [some (vR 313), some (vI ((r : Nat) : Int)), some (vI (((6 * r : Nat) : Int) + (J 317 r)))] [] S (up J 317 r ((J 317 r) + 1)) Q
        refine v_aload_n dX5_readRow_143 rfl ?_
        refine v_getI dX5_readRow_144 frX5_189_5 rfl rfl (L_313 hL).1 ?_
        show V w 3 mX5_readRow 147 [some (vR 313), some (vI ((r : Nat) : Int)), some (vI (((6 * r : Nat) : Int) + (J 317 r)))] [vI (J 313 19)] S (up J 317 r ((J 317 r) + 1)) Q
        refine v_iconst dX5_readRow_147 (in_lit (by decide)) ?_
        refine v_icmp_ne 167 dX5_readRow_148 (by decide) (fun cQ => absurd c2 cQ) (fun _ => ?_)
        refine v_aload_n dX5_readRow_151 rfl ?_
        refine v_getR dX5_readRow_152 frX5_26_5 rfl (L_313 hL).1 (LR_313_7 hL) (Or.inl rfl) ?_
        refine v_iload_n dX5_readRow_155 rfl ?_
        refine v_aload_n dX5_readRow_156 rfl ?_
        refine v_iconst dX5_readRow_157 (in_lit (by decide)) ?_
        refine v_bipush dX5_readRow_158 (by decide) (in_lit (by decide)) ?_
        refine v_callV (d' := 2) (rest := [vI (((6 * r : Nat) : Int) + (J 317 r)), vR 318]) [vI 0, vI 39] dX5_readRow_160 vrX5_236_5 (L_313 hL).1 rfl rfl (one_I (one_I one_nil)) (Nat.le_of_ble_eq_true rfl) (Nat.le_of_ble_eq_true rfl) (Nat.le_of_ble_eq_true rfl) ?_
        obtain ⟨o5, K⟩ := K
        obtain ⟨o6, K⟩ := K
        refine s_number hL 0 39 o5 o6 (fun r1 J1 hp => ?_)
        have K := K r1 J1 hp
        show V w 3 mX5_readRow 163 [some (vR 313), some (vI ((r : Nat) : Int)), some (vI (((6 * r : Nat) : Int) + (J 317 r)))] [vI r1, vI (((6 * r : Nat) : Int) + (J 317 r)), vR 318] S J1 Q
        obtain ⟨o7, K⟩ := K
        obtain ⟨o8, K⟩ := K
        refine st_318 dX5_readRow_163 hL o7 o8 ?_
        show V w 3 mX5_readRow 164 [some (vR 313), some (vI ((r : Nat) : Int)), some (vI (((6 * r : Nat) : Int) + (J 317 r)))] [] S (up J1 318 (((6 * r : Nat) : Int) + (J 317 r)).toNat r1) Q
        refine v_goto 178 dX5_readRow_164 (by decide) ?_
        refine v_goto 80 dX5_readRow_178 (by decide) ?_
        exact v_forget (fg_some (fg_some (fg_none fg_nil))) K
      · have K := K1 c3
        refine v_aload_n dX5_readRow_115 rfl ?_
        refine v_iconst dX5_readRow_116 (in_lit (by decide)) ?_
        refine v_callV (d' := 0) (rest := []) [vI 3] dX5_readRow_117 vrX5_232_5 (L_313 hL).1 rfl rfl (one_I one_nil) (Nat.le_of_ble_eq_true rfl) (Nat.le_of_ble_eq_true rfl) (Nat.le_of_ble_eq_true rfl) ?_
        refine s_fails hL 3 c1 ?_
        show V w 3 mX5_readRow 120 [some (vR 313), some (vI ((r : Nat) : Int)), none] [] S (up (up J 313 21 3) 313 22 (J 313 18)) Q
        exact v_vret dX5_readRow_120 rfl K
    · have K := K2 c2
      refine v_aload_n dX5_readRow_95 rfl ?_
      refine v_bipush dX5_readRow_96 (by decide) (in_lit (by decide)) ?_
      refine v_callV (d' := 0) (rest := []) [vI 63] dX5_readRow_98 vrX5_226_5 (L_313 hL).1 rfl rfl (one_I one_nil) (Nat.le_of_ble_eq_true rfl) (Nat.le_of_ble_eq_true rfl) (Nat.le_of_ble_eq_true rfl) ?_
      obtain ⟨K1, K2⟩ := K
      refine sX5_isSign hL 63  (fun c4 => ?_) (fun c4 => ?_)
      · have K := K1 c4
        show V w 3 mX5_readRow 101 [some (vR 313), some (vI ((r : Nat) : Int)), none] [vI 1] S J Q
        refine v_if_eq 181 dX5_readRow_101 (by decide) (fun cQ => absurd cQ (by decide)) (fun _ => ?_)
        refine v_aload_n dX5_readRow_104 rfl ?_
        refine v_getR dX5_readRow_105 frX5_23_5 rfl (L_313 hL).1 (LR_313_6 hL) (Or.inl rfl) ?_
        refine v_iload_n dX5_readRow_108 rfl ?_
        obtain ⟨o9, K⟩ := K
        refine ld_317 dX5_readRow_109 hL (by omega) o9 ?_
        show V w 3 mX5_readRow 110 [some (vR 313), some (vI ((r : Nat) : Int)), none] [vI (J 317 r)] S J Q
        refine v_bipush dX5_readRow_110 (by decide) (in_lit (by decide)) ?_
        obtain ⟨K1, K2⟩ := K
        refine v_icmp_ne 121 dX5_readRow_112 (by decide) (fun c5 => ?_) (fun c5 => ?_)
        · have K := K2 c5
          refine v_bipush dX5_readRow_121 (by decide) (in_lit (by decide)) ?_
          refine v_iload_n dX5_readRow_123 rfl ?_
          obtain ⟨o10, K⟩ := K
          refine v_imul dX5_readRow_124 o10 ?_
          show V w 3 mX5_readRow 125 [some (vR 313), some (vI ((r : Nat) : Int)), none] [vI ((6 * r : Nat) : Int)] S J Q
          refine v_aload_n dX5_readRow_125 rfl ?_
          refine v_getR dX5_readRow_126 frX5_23_5 rfl (L_313 hL).1 (LR_313_6 hL) (Or.inl rfl) ?_
          refine v_iload_n dX5_readRow_129 rfl ?_
          refine ld_317 dX5_readRow_130 hL (by omega) o9 ?_
          show V w 3 mX5_readRow 131 [some (vR 313), some (vI ((r : Nat) : Int)), none] [vI (J 317 r), vI ((6 * r : Nat) : Int)] S J Q
          obtain ⟨o11, K⟩ := K
          refine v_iadd dX5_readRow_131 o11 ?_
          refine v_istore_n dX5_readRow_132 (Nat.le_of_ble_eq_true rfl) ?_
          show V w 3 mX5_readRow 133 [some (vR 313), some (vI ((r : Nat) : Int)), some (vI (((6 * r : Nat) : Int) + (J 317 r)))] [] S J Q
          refine v_aload_n dX5_readRow_133 rfl ?_
          refine v_getR dX5_readRow_134 frX5_23_5 rfl (L_313 hL).1 (LR_313_6 hL) (Or.inl rfl) ?_
          refine v_iload_n dX5_readRow_137 rfl ?_
          refine v_dup2 dX5_readRow_138 trivial trivial ?_
          refine ld_317 dX5_readRow_139 hL (by omega) o9 ?_
          show V w 3 mX5_readRow 140 [some (vR 313), some (vI ((r : Nat) : Int)), some (vI (((6 * r : Nat) : Int) + (J 317 r)))] [vI (J 317 r), vI ((r : Nat) : Int), vR 317] S J Q
          refine v_iconst dX5_readRow_140 (in_lit (by decide)) ?_
          obtain ⟨o12, K⟩ := K
          refine v_iadd dX5_readRow_141 o12 ?_
          refine st_317 dX5_readRow_142 hL (by omega) o9 ?_
          show V w 3 mX5_readRow 143 [some (vR 313), some (vI ((r : Nat) : Int)), some (vI (((6 * r : Nat) : Int) + (J 317 r)))] [] S (up J 317 r ((J 317 r) + 1)) Q
          refine v_aload_n dX5_readRow_143 rfl ?_
          refine v_getI dX5_readRow_144 frX5_189_5 rfl rfl (L_313 hL).1 ?_
          show V w 3 mX5_readRow 147 [some (vR 313), some (vI ((r : Nat) : Int)), some (vI (((6 * r : Nat) : Int) + (J 317 r)))] [vI (J 313 19)] S (up J 317 r ((J 317 r) + 1)) Q
          refine v_iconst dX5_readRow_147 (in_lit (by decide)) ?_
          refine v_icmp_ne 167 dX5_readRow_148 (by decide) (fun _ => ?_) (fun cQ => absurd cQ c2)
          refine v_aload_n dX5_readRow_167 rfl ?_
          refine v_getR dX5_readRow_168 frX5_26_5 rfl (L_313 hL).1 (LR_313_7 hL) (Or.inl rfl) ?_
          refine v_iload_n dX5_readRow_171 rfl ?_
          refine v_iconst dX5_readRow_172 (in_lit (by decide)) ?_
          obtain ⟨o13, K⟩ := K
          obtain ⟨o14, K⟩ := K
          refine st_318 dX5_readRow_173 hL o13 o14 ?_
          show V w 3 mX5_readRow 174 [some (vR 313), some (vI ((r : Nat) : Int)), some (vI (((6 * r : Nat) : Int) + (J 317 r)))] [] S (up (up J 317 r ((J 317 r) + 1)) 318 (((6 * r : Nat) : Int) + (J 317 r)).toNat (-1)) Q
          refine v_aload_n dX5_readRow_174 rfl ?_
          refine v_callV (d' := 1) (rest := []) [] dX5_readRow_175 vrX5_229_5 (L_313 hL).1 rfl rfl one_nil (Nat.le_of_ble_eq_true rfl) (Nat.le_of_ble_eq_true rfl) (Nat.le_of_ble_eq_true rfl) ?_
          obtain ⟨o15, K⟩ := K
          obtain ⟨o16, K⟩ := K
          refine s_nextR hL  o15 o16 (fun J2 hp => ?_)
          have K := K J2 hp
          show V w 3 mX5_readRow 178 [some (vR 313), some (vI ((r : Nat) : Int)), some (vI (((6 * r : Nat) : Int) + (J 317 r)))] [] S J2 Q
          refine v_goto 80 dX5_readRow_178 (by decide) ?_
          exact v_forget (fg_some (fg_some (fg_none fg_nil))) K
        · have K := K1 c5
          refine v_aload_n dX5_readRow_115 rfl ?_
          refine v_iconst dX5_readRow_116 (in_lit (by decide)) ?_
          refine v_callV (d' := 0) (rest := []) [vI 3] dX5_readRow_117 vrX5_232_5 (L_313 hL).1 rfl rfl (one_I one_nil) (Nat.le_of_ble_eq_true rfl) (Nat.le_of_ble_eq_true rfl) (Nat.le_of_ble_eq_true rfl) ?_
          refine s_fails hL 3 c1 ?_
          show V w 3 mX5_readRow 120 [some (vR 313), some (vI ((r : Nat) : Int)), none] [] S (up (up J 313 21 3) 313 22 (J 313 18)) Q
          exact v_vret dX5_readRow_120 rfl K
      · have K := K2 c4
        show V w 3 mX5_readRow 101 [some (vR 313), some (vI ((r : Nat) : Int)), none] [vI 0] S J Q
        refine v_if_eq 181 dX5_readRow_101 (by decide) (fun _ => ?_) (fun cQ => absurd cQ (by decide))
        refine v_aload_n dX5_readRow_181 rfl ?_
        refine v_bipush dX5_readRow_182 (by decide) (in_lit (by decide)) ?_
        refine v_callV (d' := 2) (rest := []) [vI 46] dX5_readRow_184 vrX5_240_5 (L_313 hL).1 rfl rfl (one_I one_nil) (Nat.le_of_ble_eq_true rfl) (Nat.le_of_ble_eq_true rfl) (Nat.le_of_ble_eq_true rfl) ?_
        obtain ⟨o17, K⟩ := K
        obtain ⟨o18, K⟩ := K
        refine s_wantSign hL 46 o17 o18 (fun J3 hp => ?_)
        have K := K J3 hp
        show V w 3 mX5_readRow 187 [some (vR 313), some (vI ((r : Nat) : Int)), none] [] S J3 Q
        exact v_vret dX5_readRow_187 rfl K
  · have K := K2 c1
    show V w 3 mX5_readRow 84 [some (vR 313), some (vI ((r : Nat) : Int)), none] [vI 0] S J Q
    refine v_if_eq 181 dX5_readRow_84 (by decide) (fun _ => ?_) (fun cQ => absurd cQ (by decide))
    refine v_aload_n dX5_readRow_181 rfl ?_
    refine v_bipush dX5_readRow_182 (by decide) (in_lit (by decide)) ?_
    refine v_callV (d' := 2) (rest := []) [vI 46] dX5_readRow_184 vrX5_240_5 (L_313 hL).1 rfl rfl (one_I one_nil) (Nat.le_of_ble_eq_true rfl) (Nat.le_of_ble_eq_true rfl) (Nat.le_of_ble_eq_true rfl) ?_
    obtain ⟨o19, K⟩ := K
    obtain ⟨o20, K⟩ := K
    refine s_wantSign hL 46 o19 o20 (fun J4 hp => ?_)
    have K := K J4 hp
    show V w 3 mX5_readRow 187 [some (vR 313), some (vI ((r : Nat) : Int)), none] [] S J4 Q
    exact v_vret dX5_readRow_187 rfl K

theorem seeT_mp {J J' : Jm} (h : Mp J J') : seeT J' = seeT J := by
  funext k
  unfold seeT
  rw [h 313 16 rfl, h 325 k rfl]
theorem tP_mp {J J' : Jm} (h : Mp J J') : tP J' = tP J := by
  funext a
  unfold tP
  rw [seeT_mp h]
theorem tE_mp {J J' : Jm} (h : Mp J J') : tE J' = tE J := by
  funext a
  unfold tE
  rw [seeT_mp h, tP_mp h, h 313 16 rfl]
theorem tK_mp {J J' : Jm} (h : Mp J J') : tK J' = tK J := by
  funext a
  unfold tK
  rw [seeT_mp h, tP_mp h, h 313 16 rfl]
theorem tV_mp {J J' : Jm} (h : Mp J J') : tV J' = tV J := by
  funext a
  unfold tV
  rw [seeT_mp h, tP_mp h]
theorem tok_in {J : Jm} (hT : MTape J) {c : Nat} (hc : c ≤ 300) : c ≤ tP J c ∧ tP J c ≤ 300 ∧ tP J c ≤ tE J c ∧ tE J c ≤ 300 ∧ (tK J c ≠ 0 → tP J c < tE J c) := by
  have hs0 := seeT_0 hT
  have h1 := rE_in (P := wsB) (s := seeT J) (by decide) hs0 c
  have hT1 := hT.1
  unfold tE tK
  have hp : c ≤ tP J c ∧ tP J c ≤ 300 := ⟨h1.1, h1.2 hc⟩
  generalize tP J c = p at hp
  have h2 := rE_in (P := smB) (s := seeT J) (by decide) hs0 p
  have h3 := rE_in (P := dgB) (s := seeT J) (by decide) hs0 p
  have h4 := rE_in (P := smB) (s := seeT J) (by decide) hs0 (p + 1)
  have h5 := rE_in (P := dgB) (s := seeT J) (by decide) hs0 (p + 1)
  have e2 := rE_eq (P := smB) (s := seeT J) (by decide) hs0 p
  have e3 := rE_eq (P := dgB) (s := seeT J) (by decide) hs0 p
  unfold tkE tkK
  by_cases q1 : J 313 16 ≤ (p : Int)
  · rw [if_pos q1, if_pos q1]
    exact ⟨hp.1, hp.2, by omega, by omega, fun q => absurd rfl q⟩
  · rw [if_neg q1, if_neg q1]
    by_cases q2 : smB (seeT J p) = true
    · rw [if_pos q2] at e2
      rw [if_pos q2, if_pos q2]
      omega
    · rw [if_neg q2, if_neg q2]
      by_cases q3 : dgB (seeT J p) = true
      · rw [if_pos q3] at e3
        rw [if_pos q3, if_pos q3]
        omega
      · rw [if_neg q3, if_neg q3]
        omega
theorem tV_in {J : Jm} (hT : MTape J) (c : Nat) : -128 ≤ tV J c ∧ tV J c ≤ 127 ∧ (tK J c = 2 → 0 ≤ tV J c ∧ tV J c ≤ 99) := by
  unfold tV tK tkV tkK
  generalize tP J c = p
  have h1 := seeT_in hT p
  have h2 := seeT_in hT (p + 1)
  by_cases q3 : dgB (seeT J p) = true
  · have h3 := dgB_i.mp q3
    rw [if_pos q3]
    by_cases q4 : dgB (seeT J (p + 1)) = true
    · have h4 := dgB_i.mp q4
      rw [if_pos q4]
      omega
    · rw [if_neg q4]
      omega
  · rw [if_neg q3, if_neg q3]
    refine ⟨h1.1, h1.2, fun q => ?_⟩
    exfalso
    split at q
    · omega
    · split at q <;> omega
/-- the token at hand is that from a on -/
def Tk (J0 J : Jm) (a : Nat) : Prop := J 313 17 = (tE J0 a : Nat) ∧ J 313 18 = (tP J0 a : Nat) ∧ J 313 19 = tK J0 a ∧ (tK J0 a ≠ 0 → J 313 20 = tV J0 a)
theorem PNx.tk {J0 J J' : Jm} {a : Nat} (h : Mp J0 J) (hp : PNx J a J') : Tk J0 J' a := by
  obtain ⟨h1, h2, h3, h4, h5⟩ := hp
  rw [tE_mp h] at h2
  rw [tP_mp h] at h3
  rw [tK_mp h] at h4 h5
  rw [tV_mp h] at h5
  exact ⟨h2, h3, h4, h5⟩
/-- a row from the token at a on: a fault (its kind, its place), or the row and where it ends -/
def pRow (J : Jm) : Nat → Nat → List Int → (Int × Nat) ⊕ (List Int × Nat)
  | 0, a, _ => .inl (1, a)
  | f + 1, a, acc =>
    if tK J a = 2 ∨ (tK J a = 4 ∧ tV J a = 63) then
      if acc.length = 6 then .inl (3, tP J a)
      else if tK J a = 2 then (if tV J a ≤ 39 then pRow J f (tE J a) (acc ++ [tV J a]) else .inl (2, tP J a))
      else pRow J f (tE J a) (acc ++ [-1])
    else if tK J a = 4 ∧ tV J a = 46 then .inr (acc, tE J a) else .inl (1, tP J a)
def rowStep (J : Jm) (a : Nat) (n : Nat) : (Int × Nat) ⊕ (List Int × Nat) := if tK J a = 2 ∨ (tK J a = 4 ∧ tV J a = 63) then (if n = 8 then .inl (3, tP J a) else pRow J 301 a []) else .inl (1, tP J a)
/-- a row lies at r -/
def RowAt (J : Jm) (r : Nat) (l : List Int) : Prop := J 317 r = (l.length : Nat) ∧ ∀ i, i < l.length → J 318 (6 * r + i) = l.getD i 0
/-- the rows read so far -/
def RdR (J : Jm) (rs : List (List Int)) : Prop := J 316 24 = (rs.length : Nat) ∧ ∀ k, k < rs.length → RowAt J (192 + k) (rs.getD k []) ∧ (rs.getD k []).length ≤ 6
theorem getD_app_l {α : Type} {l : List α} {x d : α} {i : Nat} (h : i < l.length) : (l ++ [x]).getD i d = l.getD i d := by
  rw [List.getD_eq_getElem?_getD, List.getD_eq_getElem?_getD, List.getElem?_append_left h]
theorem getD_app_r {α : Type} {l : List α} {x d : α} : (l ++ [x]).getD l.length d = x := by
  rw [List.getD_eq_getElem?_getD, List.getElem?_append_right (Nat.le_refl _)]
  simp
theorem len_app {α : Type} {l : List α} {x : α} : (l ++ [x]).length = l.length + 1 := by simp
/-- what is written while a row is read -/
def rdF (J J' : Jm) (R : Nat) : Prop := ∀ b k, ¬ (b = 313 ∧ (k = 17 ∨ k = 18 ∨ k = 19 ∨ k = 20 ∨ k = 21 ∨ k = 22)) → ¬ (b = 316 ∧ k = 24) → ¬ (b = 317 ∧ k = 192 + R) → ¬ (b = 318 ∧ 6 * (192 + R) ≤ k ∧ k < 6 * (192 + R) + 6) → J' b k = J b k
theorem rdF.kp {J J' : Jm} {R : Nat} (h : rdF J J' R) : Kp J J' := fun b k q => by
  refine h b k (fun e => ?_) (fun e => ?_) (fun e => ?_) (fun e => ?_)
  · obtain ⟨rfl, e⟩ := e
    rcases e with rfl | rfl | rfl | rfl | rfl | rfl <;> cases q
  · obtain ⟨rfl, rfl⟩ := e
    cases q
  · obtain ⟨rfl, rfl⟩ := e
    unfold scr at q
    simp at q
  · obtain ⟨rfl, e1, e2⟩ := e
    unfold scr at q
    simp at q
    omega
theorem rdF.up {J J' : Jm} {R a k : Nat} {z : Int} (h : rdF J J' R) (hk : (a = 313 ∧ (k = 17 ∨ k = 18 ∨ k = 19 ∨ k = 20 ∨ k = 21 ∨ k = 22)) ∨ (a = 316 ∧ k = 24) ∨ (a = 317 ∧ k = 192 + R) ∨ (a = 318 ∧ 6 * (192 + R) ≤ k ∧ k < 6 * (192 + R) + 6)) : rdF J (up J' a k z) R := fun b j q1 q2 q3 q4 => by
  rw [up_ne (fun e => by rw [e.1, e.2] at q1 q2 q3 q4; rcases hk with q | q | q | q; exact q1 q; exact q2 q; exact q3 q; exact q4 q)]
  exact h b j q1 q2 q3 q4
theorem rdF.nx {J J1 J2 : Jm} {R : Nat} (h : rdF J J1 R) (h2 : nxF J1 J2) : rdF J J2 R := fun b j q1 q2 q3 q4 => (h2 b j (fun e => q1 ⟨e.1, by omega⟩)).trans (h b j q1 q2 q3 q4)
theorem s_readRow {w : Wd} {S : Sh} {J : Jm} {Q : Out → Sh → Jm → Prop} (hL : Lay S) (a : Nat) (rs : List (List Int)) (hT : MTape J) (ha : a ≤ 300) (hk : Tk J J a) (h0 : J 313 21 = 0) (hR : J 316 24 = (rs.length : Nat)) (hrs : rs.length ≤ 8)
    (K : ∀ J', rdF J J' rs.length → (∀ k p, rowStep J a rs.length = .inl (k, p) → J' 313 21 = k ∧ J' 313 22 = (p : Nat) ∧ (k = 1 ∨ k = 2 ∨ k = 3)) → (∀ r b, rowStep J a rs.length = .inr (r, b) → J' 313 21 = 0 ∧ J' 316 24 = ((rs.length + 1 : Nat) : Int) ∧ RowAt J' (192 + rs.length) r ∧ r.length ≤ 6 ∧ 1 ≤ r.length ∧ Tk J J' b ∧ a < b ∧ b ≤ 300) → Q (.inl none) S J') : V w 3 mX5_readRow 0 (ent mX5_readRow [vR 313]) [] S J Q := by
  obtain ⟨k1, k2, k3, k4⟩ := hk
  generalize hn : rs.length = R at *
  have hR8 : R ≤ 8 := hrs
  -- the places of the row
  have loop : ∀ (f c : Nat) (acc : List Int) (J1 : Jm), R < 8 → 300 < f + c → c ≤ 300 → a ≤ c → (acc = [] ∧ c = a ∨ a < c ∧ 1 ≤ acc.length) → acc.length ≤ 6 → rdF J J1 R → J1 313 21 = 0 → J1 316 24 = ((R + 1 : Nat) : Int) → RowAt J1 (192 + R) acc → Tk J J1 c → (tK J a = 2 ∨ (tK J a = 4 ∧ tV J a = 63)) → pRow J f c acc = rowStep J a R → V w 3 mX5_readRow 80 [some (vR 313), some (vI ((192 + R : Nat) : Int)), none] [] S J1 Q := by
    intro f
    induction f with
    | zero => intro c acc J1 _ h3 h4; omega
    | succ f ih =>
      intro c acc J1 hR7 hf hc hac hst hlen f1 e0 e1 hrow hk1 hfirst hres
      obtain ⟨t1, t2, t3, t4⟩ := id hk1
      have hti := tok_in hT hc
      have hvi := tV_in hT c
      have hT1 : MTape J1 := hT.mp f1.kp.mp
      obtain ⟨r1, r2⟩ := hrow
      rw [pRow] at hres
      refine gX5_readRow_80 (J := J1) hL (192 + R) (br_y e0 ?_)
      have fin0 : ∀ J3, PWs J1 46 J3 → ¬ (tK J c = 2 ∨ (tK J c = 4 ∧ tV J c = 63)) → Q (.inl none) S J3 := by
        intro J3 hp hno
        rw [if_neg hno] at hres
        rcases hp with ⟨q, -⟩ | ⟨-, ⟨q1, q2⟩, q3⟩ | ⟨-, q1, q2⟩
        · exact absurd e0 q
        · rw [t3] at q1
          rw [t4 (by omega)] at q2
          rw [if_pos ⟨q1, q2⟩] at hres
          rw [t1, Int.toNat_natCast] at q3
          have hne : 1 ≤ acc.length := by
            rcases hst with ⟨rfl, rfl⟩ | q
            · exact absurd hfirst hno
            · exact q.2
          have f3 : rdF J J3 R := f1.nx q3.1
          refine K J3 f3 (fun k p h => ?_) (fun r b h => ?_)
          · rw [← hres] at h; cases h
          · rw [← hres] at h
            cases h
            refine ⟨by rw [q3.1 _ _ (by omega)]; exact e0, by rw [q3.1 _ _ (by omega)]; exact e1, ⟨by rw [q3.1 _ _ (by omega)]; exact r1, fun i hi => by rw [q3.1 _ _ (by omega)]; exact r2 i hi⟩, hlen, hne, PNx.tk f1.kp.mp q3, by omega, by omega⟩
        · have hq1 : ¬ (tK J c = 4 ∧ tV J c = 46) := fun q => q1 ⟨by rw [t3]; exact q.1, by rw [t4 (by omega)]; exact q.2⟩
          rw [if_neg hq1] at hres
          rw [q2]
          refine K _ ((f1.up (Or.inl ⟨rfl, by omega⟩)).up (Or.inl ⟨rfl, by omega⟩)) (fun k p h => ?_) (fun r b h => ?_)
          · rw [← hres] at h
            cases h
            refine ⟨by simp [flt, up], by simp [flt, up, t2], by omega⟩
          · rw [← hres] at h; cases h
      rw [t1, t3]
      refine br_i (fun hb => ?_) (fun hb => ?_)
      · rw [if_pos (Or.inl hb)] at hres
        refine And.intro (by omega) ?_
        rw [r1]
        refine br_i (fun hc6 => ?_) (fun hc6 => ?_)
        · rw [if_pos (by omega)] at hres
          refine K _ ((f1.up (Or.inl ⟨rfl, by omega⟩)).up (Or.inl ⟨rfl, by omega⟩)) (fun k p h => ?_) (fun r b h => ?_)
          · rw [← hres] at h
            cases h
            refine ⟨by simp [up], by simp [up, t2], by omega⟩
          · rw [← hres] at h; cases h
        · rw [if_neg (by omega), if_pos hb] at hres
          have ei : (((6 * (192 + R) : Nat) : Int) + (acc.length : Nat)).toNat = 6 * (192 + R) + acc.length := by omega
          rw [ei]
          (repeat' (first | (refine And.intro ?_ ?_; omega)))
          have f2 : rdF J (up J1 317 (192 + R) ((acc.length : Nat) + 1)) R := f1.up (Or.inr (Or.inr (Or.inl ⟨rfl, rfl⟩)))
          refine And.intro (hT.mp f2.kp.mp) (And.intro (by omega) ?_)
          intro x J2 hp
          (repeat' (first | (refine And.intro ?_ ?_; omega)))
          have u1 : (up J1 317 (192 + R) ((acc.length : Nat) + 1)) 313 21 = 0 := by simp [up, e0]
          have u2 : (up J1 317 (192 + R) ((acc.length : Nat) + 1)) 313 19 = 2 := by simp [up, t3, hb]
          have u3 : (up J1 317 (192 + R) ((acc.length : Nat) + 1)) 313 20 = tV J c := by simp [up, t4 (by omega)]
          have u4 : (up J1 317 (192 + R) ((acc.length : Nat) + 1)) 313 17 = ((tE J c : Nat) : Int) := by simp [up, t1]
          have u5 : (up J1 317 (192 + R) ((acc.length : Nat) + 1)) 313 18 = ((tP J c : Nat) : Int) := by simp [up, t2]
          rcases hp with ⟨q, -⟩ | ⟨-, q, -⟩ | ⟨-, -, q1, q2, q3⟩ | ⟨-, -, q1, q2, q3⟩
          · exact absurd u1 q
          · exact absurd u2 q
          · rw [u3] at q1
            rw [if_neg (by omega)] at hres
            have f3 : rdF J (up J2 318 (6 * (192 + R) + acc.length) x) R := by
              rw [q3]
              exact ((f2.up (Or.inl ⟨rfl, by omega⟩)).up (Or.inl ⟨rfl, by omega⟩)).up (Or.inr (Or.inr (Or.inr ⟨rfl, by omega, by omega⟩)))
            have g1 : (up J2 318 (6 * (192 + R) + acc.length) x) 313 21 = 2 := by rw [q3]; simp [flt, up]
            have g2 : (up J2 318 (6 * (192 + R) + acc.length) x) 313 22 = ((tP J c : Nat) : Int) := by rw [q3]; simp [flt, up, t2]
            have g3 : (up J2 318 (6 * (192 + R) + acc.length) x) 313 17 = ((tE J c : Nat) : Int) := by rw [q3]; simp [flt, up, t1]
            refine gX5_readRow_80 (J := up J2 318 (6 * (192 + R) + acc.length) x) hL (192 + R) (br_n (by omega) ?_)
            refine ⟨hT.mp f3.kp.mp, by omega, fun J4 hp4 => ?_⟩
            rcases hp4 with ⟨-, rfl⟩ | ⟨q, -⟩ | ⟨q, -⟩
            · refine K _ f3 (fun k p h => ?_) (fun r b h => ?_)
              · rw [← hres] at h
                cases h
                exact ⟨g1, g2, by omega⟩
              · rw [← hres] at h; cases h
            · omega
            · omega
          · rw [u3] at q1 q2
            rw [if_pos (by omega)] at hres
            rw [u4, Int.toNat_natCast] at q3
            have f3 : rdF J (up J2 318 (6 * (192 + R) + acc.length) x) R := (f2.nx q3.1).up (Or.inr (Or.inr (Or.inr ⟨rfl, by omega, by omega⟩)))
            have hk2 : Tk J J2 (tE J c) := PNx.tk f2.kp.mp q3
            obtain ⟨z1, z2, z3, z4⟩ := hk2
            refine ih (tE J c) (acc ++ [tV J c]) _ hR7 (by omega) (by omega) (by omega) (Or.inr ⟨by omega, by rw [len_app]; omega⟩) (by rw [len_app]; omega) f3 ?_ ?_ ⟨?_, fun i hi => ?_⟩ ⟨by rw [up_na (by decide)]; exact z1, by rw [up_na (by decide)]; exact z2, by rw [up_na (by decide)]; exact z3, fun h => by rw [up_na (by decide)]; exact z4 h⟩ hfirst hres
            · rw [up_na (by decide), q3.1 _ _ (by omega)]; exact u1
            · rw [up_na (by decide), q3.1 _ _ (by omega), up_na (by decide)]; exact e1
            · rw [up_na (by decide), q3.1 _ _ (by omega), up_self, len_app]; push_cast; rfl
            · rw [len_app] at hi
              by_cases hil : i = acc.length
              · subst hil
                rw [up_self, getD_app_r, q2]
              · rw [up_nk (by omega), q3.1 _ _ (by omega), up_na (by decide), getD_app_l (by omega)]
                exact r2 i (by omega)
      · have e4 : tK J c ≠ 0 → J1 313 20 = tV J c := t4
        refine br_i (fun hb2 => ?_) (fun hb2 => ?_)
        · have hb3 : tK J c = 4 ∧ tV J c = 63 := ⟨hb2.1, by rw [← t4 (by omega)]; exact hb2.2⟩
          rw [if_pos (Or.inr hb3)] at hres
          refine And.intro (by omega) ?_
          rw [r1]
          refine br_i (fun hc6 => ?_) (fun hc6 => ?_)
          · rw [if_pos (by omega)] at hres
            refine K _ ((f1.up (Or.inl ⟨rfl, by omega⟩)).up (Or.inl ⟨rfl, by omega⟩)) (fun k p h => ?_) (fun r b h => ?_)
            · rw [← hres] at h
              cases h
              refine ⟨by simp [up], by simp [up, t2], by omega⟩
            · rw [← hres] at h; cases h
          · rw [if_neg (by omega), if_neg hb] at hres
            have ei : (((6 * (192 + R) : Nat) : Int) + (acc.length : Nat)).toNat = 6 * (192 + R) + acc.length := by omega
            rw [ei]
            (repeat' (first | (refine And.intro ?_ ?_; omega)))
            have f2 : rdF J (up (up J1 317 (192 + R) ((acc.length : Nat) + 1)) 318 (6 * (192 + R) + acc.length) (-1)) R := (f1.up (Or.inr (Or.inr (Or.inl ⟨rfl, rfl⟩)))).up (Or.inr (Or.inr (Or.inr ⟨rfl, by omega, by omega⟩)))
            refine And.intro (hT.mp f2.kp.mp) (And.intro (by omega) ?_)
            intro J2 q3
            have u4 : (up (up J1 317 (192 + R) ((acc.length : Nat) + 1)) 318 (6 * (192 + R) + acc.length) (-1)) 313 17 = ((tE J c : Nat) : Int) := by simp [up, t1]
            rw [u4, Int.toNat_natCast] at q3
            refine ih (tE J c) (acc ++ [-1]) _ hR7 (by omega) (by omega) (by omega) (Or.inr ⟨by omega, by rw [len_app]; omega⟩) (by rw [len_app]; omega) (f2.nx q3.1) ?_ ?_ ⟨?_, fun i hi => ?_⟩ (PNx.tk f2.kp.mp q3) hfirst hres
            · rw [q3.1 _ _ (by omega), up_na (by decide), up_na (by decide)]; exact e0
            · rw [q3.1 _ _ (by omega), up_na (by decide), up_na (by decide)]; exact e1
            · rw [q3.1 _ _ (by omega), up_na (by decide), up_self, len_app]; push_cast; rfl
            · rw [len_app] at hi
              by_cases hil : i = acc.length
              · subst hil
                rw [q3.1 _ _ (by omega), up_self, getD_app_r]
              · rw [q3.1 _ _ (by omega), up_nk (by omega), up_na (by decide), getD_app_l (by omega)]
                exact r2 i (by omega)
        · refine ⟨hT1, by omega, fun J3 hp => fin0 J3 hp (fun q => ?_)⟩
          rcases q with q | q
          · exact hb q
          · exact hb2 ⟨q.1, by rw [t4 (by omega)]; exact q.2⟩
  have start : R ≠ 8 → (tK J a = 2 ∨ (tK J a = 4 ∧ tV J a = 63)) → V w 3 mX5_readRow 80 [some (vR 313), some (vI (192 + ((R : Nat) : Int))), none] [] S (up (up J 316 24 (((R : Nat) : Int) + 1)) 317 (192 + R) 0) Q := by
    intro h8 hf
    have f2 : rdF J (up (up J 316 24 (((R : Nat) : Int) + 1)) 317 (192 + R) 0) R := (rdF.up (fun _ _ _ _ _ _ => rfl) (Or.inr (Or.inl ⟨rfl, rfl⟩))).up (Or.inr (Or.inr (Or.inl ⟨rfl, rfl⟩)))
    refine loop 301 a [] _ (by omega) (by omega) ha (Nat.le_refl _) (Or.inl ⟨rfl, rfl⟩) (Nat.zero_le _) f2 (by simp [up, h0]) (by simp [up]) ⟨up_self, fun i hi => absurd hi (Nat.not_lt_zero _)⟩ ⟨by simp [up, k1], by simp [up, k2], by simp [up, k3], fun h => by simp [up, k4 h]⟩ hf ?_
    unfold rowStep
    rw [if_pos hf, if_neg h8]
  have full : R = 8 → (tK J a = 2 ∨ (tK J a = 4 ∧ tV J a = 63)) → Q (.inl none) S (up (up J 313 21 3) 313 22 (J 313 18)) := by
    intro h8 hf
    refine K _ ((rdF.up (fun _ _ _ _ _ _ => rfl) (Or.inl ⟨rfl, by omega⟩)).up (Or.inl ⟨rfl, by omega⟩)) (fun k p h => ?_) (fun r b h => ?_)
    · unfold rowStep at h
      rw [if_pos hf, if_pos h8] at h
      cases h
      refine ⟨by simp [up], by simp [up, k2], by omega⟩
    · unfold rowStep at h
      rw [if_pos hf, if_pos h8] at h
      cases h
  have e24 : ∀ z : Int, (192 + z).toNat = (192 + z).toNat := fun _ => rfl
  refine gX5_readRow_0 (J := J) hL ?_
  rw [k3, hR, show (192 + ((R : Nat) : Int)).toNat = 192 + R by omega]
  refine br_i (fun hb => ?_) (fun hb => ?_)
  · refine br_i (fun hc => ⟨h0, full (by omega) (Or.inl hb)⟩) (fun hc => br_y h0 ?_)
    (repeat' (first | (refine And.intro ?_ ?_; omega)))
    exact start (by omega) (Or.inl hb)
  · refine br_i (fun hb2 => ?_) (fun hb2 => ⟨h0, ?_⟩)
    · have hb3 : tK J a = 4 ∧ tV J a = 63 := ⟨hb2.1, by rw [← k4 (by omega)]; exact hb2.2⟩
      refine br_i (fun hc => ⟨h0, full (by omega) (Or.inr hb3)⟩) (fun hc => br_y h0 ?_)
      (repeat' (first | (refine And.intro ?_ ?_; omega)))
      exact start (by omega) (Or.inr hb3)
    · have hno : ¬ (tK J a = 2 ∨ (tK J a = 4 ∧ tV J a = 63)) := by
        rintro (q | q)
        · exact hb q
        · exact hb2 ⟨q.1, by rw [k4 (by omega)]; exact q.2⟩
      refine K _ ((rdF.up (fun _ _ _ _ _ _ => rfl) (Or.inl ⟨rfl, by omega⟩)).up (Or.inl ⟨rfl, by omega⟩)) (fun k p h => ?_) (fun r b h => ?_)
      · unfold rowStep at h
        rw [if_neg hno] at h
        cases h
        refine ⟨by simp [up], by simp [up, k2], by omega⟩
      · unfold rowStep at h
        rw [if_neg hno] at h
        cases h
