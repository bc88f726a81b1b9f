/-! the model: spelling -/
set_option maxRecDepth 100000
theorem gX5_writes_0 {w : Wd} {S : Sh} {J : Jm} {Q : Out → Sh → Jm → Prop} (hL : Lay S) (t : Int) (l : Int)
    (K : V w 0 mX5_writes 5 [some (vR 313), some (vI t), some (vI l), some (vI l), some (vI 0)] [] S J Q) :
    V w 0 mX5_writes 0 (ent mX5_writes [vR 313, vI t, vI l]) [] S J Q := by
  show V w 0 mX5_writes 0 [some (vR 313), some (vI t), some (vI l), none, none] [] S J Q
  refine v_iload_n dX5_writes_0 rfl ?_
  refine v_istore_n dX5_writes_1 (Nat.le_of_ble_eq_true rfl) ?_
  show V w 0 mX5_writes 2 [some (vR 313), some (vI t), some (vI l), some (vI l), none] [] S J Q
  refine v_iconst dX5_writes_2 (in_lit (by decide)) ?_
  refine v_istore dX5_writes_3 (Nat.le_of_ble_eq_true rfl) ?_
  show V w 0 mX5_writes 5 [some (vR 313), some (vI t), some (vI l), some (vI l), some (vI 0)] [] S J Q
  exact K
theorem gX5_writes_5 {w : Wd} {S : Sh} {J : Jm} {Q : Out → Sh → Jm → Prop} (hL : Lay S) (t : Int) (l : Int) (v : Int) (c : Nat)
    (K : Br (t = (-1)) (Q (.inl (some (vI v))) S J) ((0 ≤ t) ∧ (t < 11) ∧ Br (J 320 t.toNat ≤ ((c : Nat) : Int)) (Q (.inl (some (vI v))) S J) ((-2147483648 ≤ 12 * t ∧ 12 * t ≤ 2147483647) ∧ (-2147483648 ≤ (12 * t) + ((c : Nat) : Int) ∧ (12 * t) + ((c : Nat) : Int) ≤ 2147483647) ∧ (0 ≤ (12 * t) + ((c : Nat) : Int)) ∧ ((12 * t) + ((c : Nat) : Int) < 132) ∧ Br (J 321 ((12 * t) + ((c : Nat) : Int)).toNat = 2) (Br (J 322 ((12 * t) + ((c : Nat) : Int)).toNat = l) ((-2147483648 ≤ ((c : Nat) : Int) + 1 ∧ ((c : Nat) : Int) + 1 ≤ 2147483647) ∧ V w 0 mX5_writes 5 [some (vR 313), some (vI t), some (vI l), some (vI (J 323 ((12 * t) + ((c : Nat) : Int)).toNat)), some (vI ((c + 1 : Nat) : Int))] [] S J Q) ((-2147483648 ≤ ((c : Nat) : Int) + 1 ∧ ((c : Nat) : Int) + 1 ≤ 2147483647) ∧ V w 0 mX5_writes 5 [some (vR 313), some (vI t), some (vI l), some (vI v), some (vI ((c + 1 : Nat) : Int))] [] S J Q)) ((-2147483648 ≤ ((c : Nat) : Int) + 1 ∧ ((c : Nat) : Int) + 1 ≤ 2147483647) ∧ V w 0 mX5_writes 5 [some (vR 313), some (vI t), some (vI l), some (vI v), some (vI ((c + 1 : Nat) : Int))] [] S J Q)))) :
    V w 0 mX5_writes 5 [some (vR 313), some (vI t), some (vI l), some (vI v), some (vI ((c : Nat) : Int))] [] S J Q := by
  refine v_iload_n dX5_writes_5 rfl ?_
  refine v_iconst dX5_writes_6 (in_lit (by decide)) ?_
  obtain ⟨K1, K2⟩ := K
  refine v_icmp_eq 72 dX5_writes_7 (by decide) (fun c1 => ?_) (fun c1 => ?_)
  · have K := K1 c1
    refine v_iload_n dX5_writes_72 rfl ?_
    exact v_iret dX5_writes_73 rfl rfl K
  · have K := K2 c1
    refine v_iload dX5_writes_10 rfl ?_
    refine v_aload_n dX5_writes_12 rfl ?_
    refine v_getR dX5_writes_13 frX5_32_5 rfl (L_313 hL).1 (LR_313_10 hL) (Or.inl rfl) ?_
    refine v_iload_n dX5_writes_16 rfl ?_
    obtain ⟨o1, K⟩ := K
    obtain ⟨o2, K⟩ := K
    refine ld_320 dX5_writes_17 hL o1 o2 ?_
    obtain ⟨K1, K2⟩ := K
    refine v_icmp_ge 72 dX5_writes_18 (by decide) (fun c2 => ?_) (fun c2 => ?_)
    · have K := K1 c2
      refine v_iload_n dX5_writes_72 rfl ?_
      exact v_iret dX5_writes_73 rfl rfl K
    · have K := K2 c2
      refine v_aload_n dX5_writes_21 rfl ?_
      refine v_getR dX5_writes_22 frX5_35_5 rfl (L_313 hL).1 (LR_313_11 hL) (Or.inl rfl) ?_
      refine v_bipush dX5_writes_25 (by decide) (in_lit (by decide)) ?_
      refine v_iload_n dX5_writes_27 rfl ?_
      obtain ⟨o3, K⟩ := K
      refine v_imul dX5_writes_28 o3 ?_
      refine v_iload dX5_writes_29 rfl ?_
      obtain ⟨o4, K⟩ := K
      refine v_iadd dX5_writes_31 o4 ?_
      obtain ⟨o5, K⟩ := K
      obtain ⟨o6, K⟩ := K
      refine ld_321 dX5_writes_32 hL o5 o6 ?_
      refine v_iconst dX5_writes_33 (in_lit (by decide)) ?_
      obtain ⟨K1, K2⟩ := K
      refine v_icmp_ne 66 dX5_writes_34 (by decide) (fun c3 => ?_) (fun c3 => ?_)
      · have K := K2 c3
        obtain ⟨o7, K⟩ := K
        refine v_iinc dX5_writes_66 rfl o7 ?_
        show V w 0 mX5_writes 69 [some (vR 313), some (vI t), some (vI l), some (vI v), some (vI ((c + 1 : Nat) : Int))] [] S J Q
        refine v_goto 5 dX5_writes_69 (by decide) ?_
        exact K
      · have K := K1 c3
        refine v_aload_n dX5_writes_37 rfl ?_
        refine v_getR dX5_writes_38 frX5_38_5 rfl (L_313 hL).1 (LR_313_12 hL) (Or.inl rfl) ?_
        refine v_bipush dX5_writes_41 (by decide) (in_lit (by decide)) ?_
        refine v_iload_n dX5_writes_43 rfl ?_
        refine v_imul dX5_writes_44 o3 ?_
        refine v_iload dX5_writes_45 rfl ?_
        refine v_iadd dX5_writes_47 o4 ?_
        refine ld_322 dX5_writes_48 hL o5 o6 ?_
        refine v_iload_n dX5_writes_49 rfl ?_
        obtain ⟨K1, K2⟩ := K
        refine v_icmp_ne 66 dX5_writes_50 (by decide) (fun c4 => ?_) (fun c4 => ?_)
        · have K := K2 c4
          obtain ⟨o8, K⟩ := K
          refine v_iinc dX5_writes_66 rfl o8 ?_
          show V w 0 mX5_writes 69 [some (vR 313), some (vI t), some (vI l), some (vI v), some (vI ((c + 1 : Nat) : Int))] [] S J Q
          refine v_goto 5 dX5_writes_69 (by decide) ?_
          exact K
        · have K := K1 c4
          refine v_aload_n dX5_writes_53 rfl ?_
          refine v_getR dX5_writes_54 frX5_41_5 rfl (L_313 hL).1 (LR_313_13 hL) (Or.inl rfl) ?_
          refine v_bipush dX5_writes_57 (by decide) (in_lit (by decide)) ?_
          refine v_iload_n dX5_writes_59 rfl ?_
          refine v_imul dX5_writes_60 o3 ?_
          refine v_iload dX5_writes_61 rfl ?_
          refine v_iadd dX5_writes_63 o4 ?_
          refine ld_323 dX5_writes_64 hL o5 o6 ?_
          refine v_istore_n dX5_writes_65 (Nat.le_of_ble_eq_true rfl) ?_
          show V w 0 mX5_writes 66 [some (vR 313), some (vI t), some (vI l), some (vI (J 323 ((12 * t) + ((c : Nat) : Int)).toNat)), some (vI ((c : Nat) : Int))] [] S J Q
          obtain ⟨o9, K⟩ := K
          refine v_iinc dX5_writes_66 rfl o9 ?_
          show V w 0 mX5_writes 69 [some (vR 313), some (vI t), some (vI l), some (vI (J 323 ((12 * t) + ((c : Nat) : Int)).toNat)), some (vI ((c + 1 : Nat) : Int))] [] S J Q
          refine v_goto 5 dX5_writes_69 (by decide) ?_
          exact K
theorem gX5_drops_0 {w : Wd} {S : Sh} {J : Jm} {Q : Out → Sh → Jm → Prop} (hL : Lay S) (t : Int) (l : Int)
    (K : V w 0 mX5_drops 5 [some (vR 313), some (vI t), some (vI l), some (vI 0), some (vI 0)] [] S J Q) :
    V w 0 mX5_drops 0 (ent mX5_drops [vR 313, vI t, vI l]) [] S J Q := by
  show V w 0 mX5_drops 0 [some (vR 313), some (vI t), some (vI l), none, none] [] S J Q
  refine v_iconst dX5_drops_0 (in_lit (by decide)) ?_
  refine v_istore_n dX5_drops_1 (Nat.le_of_ble_eq_true rfl) ?_
  show V w 0 mX5_drops 2 [some (vR 313), some (vI t), some (vI l), some (vI 0), none] [] S J Q
  refine v_iconst dX5_drops_2 (in_lit (by decide)) ?_
  refine v_istore dX5_drops_3 (Nat.le_of_ble_eq_true rfl) ?_
  show V w 0 mX5_drops 5 [some (vR 313), some (vI t), some (vI l), some (vI 0), some (vI 0)] [] S J Q
  exact K
theorem gX5_drops_5 {w : Wd} {S : Sh} {J : Jm} {Q : Out → Sh → Jm → Prop} (hL : Lay S) (t : Int) (l : Int) (is : Int) (c : Nat)
    (K : Br (t = (-1)) ((is = 0 ∨ is = 1) ∧ Q (.inl (some (vI is))) S J) ((0 ≤ t) ∧ (t < 11) ∧ Br (J 320 t.toNat ≤ ((c : Nat) : Int)) ((is = 0 ∨ is = 1) ∧ Q (.inl (some (vI is))) S J) (Br (is = 0) ((-2147483648 ≤ 12 * t ∧ 12 * t ≤ 2147483647) ∧ (-2147483648 ≤ (12 * t) + ((c : Nat) : Int) ∧ (12 * t) + ((c : Nat) : Int) ≤ 2147483647) ∧ (0 ≤ (12 * t) + ((c : Nat) : Int)) ∧ ((12 * t) + ((c : Nat) : Int) < 132) ∧ Br (J 321 ((12 * t) + ((c : Nat) : Int)).toNat = 3) (Br (J 322 ((12 * t) + ((c : Nat) : Int)).toNat = l) ((-2147483648 ≤ ((c : Nat) : Int) + 1 ∧ ((c : Nat) : Int) + 1 ≤ 2147483647) ∧ V w 0 mX5_drops 5 [some (vR 313), some (vI t), some (vI l), some (vI 1), some (vI ((c + 1 : Nat) : Int))] [] S J Q) ((-2147483648 ≤ ((c : Nat) : Int) + 1 ∧ ((c : Nat) : Int) + 1 ≤ 2147483647) ∧ V w 0 mX5_drops 5 [some (vR 313), some (vI t), some (vI l), some (vI 0), some (vI ((c + 1 : Nat) : Int))] [] S J Q)) ((-2147483648 ≤ ((c : Nat) : Int) + 1 ∧ ((c : Nat) : Int) + 1 ≤ 2147483647) ∧ V w 0 mX5_drops 5 [some (vR 313), some (vI t), some (vI l), some (vI 0), some (vI ((c + 1 : Nat) : Int))] [] S J Q)) ((-2147483648 ≤ ((c : Nat) : Int) + 1 ∧ ((c : Nat) : Int) + 1 ≤ 2147483647) ∧ V w 0 mX5_drops 5 [some (vR 313), some (vI t), some (vI l), some (vI 1), some (vI ((c + 1 : Nat) : Int))] [] S J Q)))) :
    V w 0 mX5_drops 5 [some (vR 313), some (vI t), some (vI l), some (vI is), some (vI ((c : Nat) : Int))] [] S J Q := by
  refine v_iload_n dX5_drops_5 rfl ?_
  refine v_iconst dX5_drops_6 (in_lit (by decide)) ?_
  obtain ⟨K1, K2⟩ := K
  refine v_icmp_eq 69 dX5_drops_7 (by decide) (fun c1 => ?_) (fun c1 => ?_)
  · have K := K1 c1
    refine v_iload_n dX5_drops_69 rfl ?_
    obtain ⟨o1, K⟩ := K
    exact v_iret dX5_drops_70 rfl (zfit_bool o1).1 K
  · have K := K2 c1
    refine v_iload dX5_drops_10 rfl ?_
    refine v_aload_n dX5_drops_12 rfl ?_
    refine v_getR dX5_drops_13 frX5_32_5 rfl (L_313 hL).1 (LR_313_10 hL) (Or.inl rfl) ?_
    refine v_iload_n dX5_drops_16 rfl ?_
    obtain ⟨o2, K⟩ := K
    obtain ⟨o3, K⟩ := K
    refine ld_320 dX5_drops_17 hL o2 o3 ?_
    obtain ⟨K1, K2⟩ := K
    refine v_icmp_ge 69 dX5_drops_18 (by decide) (fun c2 => ?_) (fun c2 => ?_)
    · have K := K1 c2
      refine v_iload_n dX5_drops_69 rfl ?_
      obtain ⟨o4, K⟩ := K
      exact v_iret dX5_drops_70 rfl (zfit_bool o4).1 K
    · have K := K2 c2
      refine v_iload_n dX5_drops_21 rfl ?_
      obtain ⟨K1, K2⟩ := K
      refine v_if_ne 57 dX5_drops_22 (by decide) (fun c3 => ?_) (fun c3 => ?_)
      · have K := K2 c3
        refine v_iconst dX5_drops_57 (in_lit (by decide)) ?_
        refine v_goto 62 dX5_drops_58 (by decide) ?_
        refine v_istore_n dX5_drops_62 (Nat.le_of_ble_eq_true rfl) ?_
        show V w 0 mX5_drops 63 [some (vR 313), some (vI t), some (vI l), some (vI 1), some (vI ((c : Nat) : Int))] [] S J Q
        obtain ⟨o5, K⟩ := K
        refine v_iinc dX5_drops_63 rfl o5 ?_
        show V w 0 mX5_drops 66 [some (vR 313), some (vI t), some (vI l), some (vI 1), some (vI ((c + 1 : Nat) : Int))] [] S J Q
        refine v_goto 5 dX5_drops_66 (by decide) ?_
        exact K
      · have K := K1 c3
        refine v_aload_n dX5_drops_25 rfl ?_
        refine v_getR dX5_drops_26 frX5_35_5 rfl (L_313 hL).1 (LR_313_11 hL) (Or.inl rfl) ?_
        refine v_bipush dX5_drops_29 (by decide) (in_lit (by decide)) ?_
        refine v_iload_n dX5_drops_31 rfl ?_
        obtain ⟨o6, K⟩ := K
        refine v_imul dX5_drops_32 o6 ?_
        refine v_iload dX5_drops_33 rfl ?_
        obtain ⟨o7, K⟩ := K
        refine v_iadd dX5_drops_35 o7 ?_
        obtain ⟨o8, K⟩ := K
        obtain ⟨o9, K⟩ := K
        refine ld_321 dX5_drops_36 hL o8 o9 ?_
        refine v_iconst dX5_drops_37 (in_lit (by decide)) ?_
        obtain ⟨K1, K2⟩ := K
        refine v_icmp_ne 61 dX5_drops_38 (by decide) (fun c4 => ?_) (fun c4 => ?_)
        · have K := K2 c4
          refine v_iconst dX5_drops_61 (in_lit (by decide)) ?_
          refine v_istore_n dX5_drops_62 (Nat.le_of_ble_eq_true rfl) ?_
          show V w 0 mX5_drops 63 [some (vR 313), some (vI t), some (vI l), some (vI 0), some (vI ((c : Nat) : Int))] [] S J Q
          obtain ⟨o10, K⟩ := K
          refine v_iinc dX5_drops_63 rfl o10 ?_
          show V w 0 mX5_drops 66 [some (vR 313), some (vI t), some (vI l), some (vI 0), some (vI ((c + 1 : Nat) : Int))] [] S J Q
          refine v_goto 5 dX5_drops_66 (by decide) ?_
          exact K
        · have K := K1 c4
          refine v_aload_n dX5_drops_41 rfl ?_
          refine v_getR dX5_drops_42 frX5_38_5 rfl (L_313 hL).1 (LR_313_12 hL) (Or.inl rfl) ?_
          refine v_bipush dX5_drops_45 (by decide) (in_lit (by decide)) ?_
          refine v_iload_n dX5_drops_47 rfl ?_
          refine v_imul dX5_drops_48 o6 ?_
          refine v_iload dX5_drops_49 rfl ?_
          refine v_iadd dX5_drops_51 o7 ?_
          refine ld_322 dX5_drops_52 hL o8 o9 ?_
          refine v_iload_n dX5_drops_53 rfl ?_
          obtain ⟨K1, K2⟩ := K
          refine v_icmp_ne 61 dX5_drops_54 (by decide) (fun c5 => ?_) (fun c5 => ?_)
          · have K := K2 c5
            refine v_iconst dX5_drops_61 (in_lit (by decide)) ?_
            refine v_istore_n dX5_drops_62 (Nat.le_of_ble_eq_true rfl) ?_
            show V w 0 mX5_drops 63 [some (vR 313), some (vI t), some (vI l), some (vI 0), some (vI ((c : Nat) : Int))] [] S J Q
            obtain ⟨o11, K⟩ := K
            refine v_iinc dX5_drops_63 rfl o11 ?_
            show V w 0 mX5_drops 66 [some (vR 313), some (vI t), some (vI l), some (vI 0), some (vI ((c + 1 : Nat) : Int))] [] S J Q
            refine v_goto 5 dX5_drops_66 (by decide) ?_
            exact K
          · have K := K1 c5
            refine v_iconst dX5_drops_57 (in_lit (by decide)) ?_
            refine v_goto 62 dX5_drops_58 (by decide) ?_
            refine v_istore_n dX5_drops_62 (Nat.le_of_ble_eq_true rfl) ?_
            show V w 0 mX5_drops 63 [some (vR 313), some (vI t), some (vI l), some (vI 1), some (vI ((c : Nat) : Int))] [] S J Q
            obtain ⟨o12, K⟩ := K
            refine v_iinc dX5_drops_63 rfl o12 ?_
            show V w 0 mX5_drops 66 [some (vR 313), some (vI t), some (vI l), some (vI 1), some (vI ((c + 1 : Nat) : Int))] [] S J Q
            refine v_goto 5 dX5_drops_66 (by decide) ?_
            exact K
theorem gX5_addCell_0 {w : Wd} {S : Sh} {J : Jm} {Q : Out → Sh → Jm → Prop} (hL : Lay S) (n : Nat) (c : Int) (v : Int)
    (K : (-2147483648 ≤ 8 * ((n : Nat) : Int) ∧ 8 * ((n : Nat) : Int) ≤ 2147483647) ∧ (((n : Nat) : Int) < 7) ∧ (-2147483648 ≤ ((8 * n : Nat) : Int) + (J 354 n) ∧ ((8 * n : Nat) : Int) + (J 354 n) ≤ 2147483647) ∧ Br (c = 0) ((-2147483648 ≤ 0 + v ∧ 0 + v ≤ 2147483647) ∧ (0 ≤ ((8 * n : Nat) : Int) + (J 354 n)) ∧ (((8 * n : Nat) : Int) + (J 354 n) < 56) ∧ (-2147483648 ≤ (J 354 n) + 1 ∧ (J 354 n) + 1 ≤ 2147483647) ∧ Q (.inl none) S (up (up J 353 (((8 * n : Nat) : Int) + (J 354 n)).toNat (0 + v)) 354 n ((J 354 n) + 1))) ((-2147483648 ≤ c - 97 ∧ c - 97 ≤ 2147483647) ∧ (-2147483648 ≤ (c - 97) + 1 ∧ (c - 97) + 1 ≤ 2147483647) ∧ (-2147483648 ≤ 5 * ((c - 97) + 1) ∧ 5 * ((c - 97) + 1) ≤ 2147483647) ∧ (-2147483648 ≤ (5 * ((c - 97) + 1)) + v ∧ (5 * ((c - 97) + 1)) + v ≤ 2147483647) ∧ (0 ≤ ((8 * n : Nat) : Int) + (J 354 n)) ∧ (((8 * n : Nat) : Int) + (J 354 n) < 56) ∧ (-2147483648 ≤ (J 354 n) + 1 ∧ (J 354 n) + 1 ≤ 2147483647) ∧ Q (.inl none) S (up (up J 353 (((8 * n : Nat) : Int) + (J 354 n)).toNat ((5 * ((c - 97) + 1)) + v)) 354 n ((J 354 n) + 1)))) :
    V w 0 mX5_addCell 0 (ent mX5_addCell [vR 313, vI ((n : Nat) : Int), vI c, vI v]) [] S J Q := by
  show V w 0 mX5_addCell 0 [some (vR 313), some (vI ((n : Nat) : Int)), some (vI c), some (vI v)] [] S J Q
  refine v_aload_n dX5_addCell_0 rfl ?_
  refine v_getR dX5_addCell_1 frX5_136_5 rfl (L_313 hL).1 (LR_313_61 hL) (Or.inl rfl) ?_
  refine v_bipush dX5_addCell_4 (by decide) (in_lit (by decide)) ?_
  refine v_iload_n dX5_addCell_6 rfl ?_
  obtain ⟨o1, K⟩ := K
  refine v_imul dX5_addCell_7 o1 ?_
  show V w 0 mX5_addCell 8 [some (vR 313), some (vI ((n : Nat) : Int)), some (vI c), some (vI v)] [vI ((8 * n : Nat) : Int), vR 353] S J Q
  refine v_aload_n dX5_addCell_8 rfl ?_
  refine v_getR dX5_addCell_9 frX5_139_5 rfl (L_313 hL).1 (LR_313_62 hL) (Or.inl rfl) ?_
  refine v_iload_n dX5_addCell_12 rfl ?_
  obtain ⟨o2, K⟩ := K
  refine ld_354 dX5_addCell_13 hL (by omega) o2 ?_
  show V w 0 mX5_addCell 14 [some (vR 313), some (vI ((n : Nat) : Int)), some (vI c), some (vI v)] [vI (J 354 n), vI ((8 * n : Nat) : Int), vR 353] S J Q
  obtain ⟨o3, K⟩ := K
  refine v_iadd dX5_addCell_14 o3 ?_
  refine v_iconst dX5_addCell_15 (in_lit (by decide)) ?_
  refine v_iload_n dX5_addCell_16 rfl ?_
  obtain ⟨K1, K2⟩ := K
  refine v_if_ne 24 dX5_addCell_17 (by decide) (fun c1 => ?_) (fun c1 => ?_)
  · have K := K2 c1
    refine v_iload_n dX5_addCell_24 rfl ?_
    refine v_bipush dX5_addCell_25 (by decide) (in_lit (by decide)) ?_
    obtain ⟨o4, K⟩ := K
    refine v_isub dX5_addCell_27 o4 ?_
    refine v_iconst dX5_addCell_28 (in_lit (by decide)) ?_
    obtain ⟨o5, K⟩ := K
    refine v_iadd dX5_addCell_29 o5 ?_
    obtain ⟨o6, K⟩ := K
    refine v_imul dX5_addCell_30 o6 ?_
    refine v_iload_n dX5_addCell_31 rfl ?_
    obtain ⟨o7, K⟩ := K
    refine v_iadd dX5_addCell_32 o7 ?_
    obtain ⟨o8, K⟩ := K
    obtain ⟨o9, K⟩ := K
    refine st_353 dX5_addCell_33 hL o8 o9 ?_
    show V w 0 mX5_addCell 34 [some (vR 313), some (vI ((n : Nat) : Int)), some (vI c), some (vI v)] [] S (up J 353 (((8 * n : Nat) : Int) + (J 354 n)).toNat ((5 * ((c - 97) + 1)) + v)) Q
    refine v_aload_n dX5_addCell_34 rfl ?_
    refine v_getR dX5_addCell_35 frX5_139_5 rfl (L_313 hL).1 (LR_313_62 hL) (Or.inl rfl) ?_
    refine v_iload_n dX5_addCell_38 rfl ?_
    refine v_dup2 dX5_addCell_39 trivial trivial ?_
    refine ld_354 dX5_addCell_40 hL (by omega) o2 ?_
    show V w 0 mX5_addCell 41 [some (vR 313), some (vI ((n : Nat) : Int)), some (vI c), some (vI v)] [vI (J 354 n), vI ((n : Nat) : Int), vR 354] S (up J 353 (((8 * n : Nat) : Int) + (J 354 n)).toNat ((5 * ((c - 97) + 1)) + v)) Q
    refine v_iconst dX5_addCell_41 (in_lit (by decide)) ?_
    obtain ⟨o10, K⟩ := K
    refine v_iadd dX5_addCell_42 o10 ?_
    refine st_354 dX5_addCell_43 hL (by omega) o2 ?_
    show V w 0 mX5_addCell 44 [some (vR 313), some (vI ((n : Nat) : Int)), some (vI c), some (vI v)] [] S (up (up J 353 (((8 * n : Nat) : Int) + (J 354 n)).toNat ((5 * ((c - 97) + 1)) + v)) 354 n ((J 354 n) + 1)) Q
    exact v_vret dX5_addCell_44 rfl K
  · have K := K1 c1
    refine v_iconst dX5_addCell_20 (in_lit (by decide)) ?_
    refine v_goto 30 dX5_addCell_21 (by decide) ?_
    refine v_imul dX5_addCell_30 (in_lit (by decide)) ?_
    show V w 0 mX5_addCell 31 [some (vR 313), some (vI ((n : Nat) : Int)), some (vI c), some (vI v)] [vI 0, vI (((8 * n : Nat) : Int) + (J 354 n)), vR 353] S J Q
    refine v_iload_n dX5_addCell_31 rfl ?_
    obtain ⟨o11, K⟩ := K
    refine v_iadd dX5_addCell_32 o11 ?_
    obtain ⟨o12, K⟩ := K
    obtain ⟨o13, K⟩ := K
    refine st_353 dX5_addCell_33 hL o12 o13 ?_
    show V w 0 mX5_addCell 34 [some (vR 313), some (vI ((n : Nat) : Int)), some (vI c), some (vI v)] [] S (up J 353 (((8 * n : Nat) : Int) + (J 354 n)).toNat (0 + v)) Q
    refine v_aload_n dX5_addCell_34 rfl ?_
    refine v_getR dX5_addCell_35 frX5_139_5 rfl (L_313 hL).1 (LR_313_62 hL) (Or.inl rfl) ?_
    refine v_iload_n dX5_addCell_38 rfl ?_
    refine v_dup2 dX5_addCell_39 trivial trivial ?_
    refine ld_354 dX5_addCell_40 hL (by omega) o2 ?_
    show V w 0 mX5_addCell 41 [some (vR 313), some (vI ((n : Nat) : Int)), some (vI c), some (vI v)] [vI (J 354 n), vI ((n : Nat) : Int), vR 354] S (up J 353 (((8 * n : Nat) : Int) + (J 354 n)).toNat (0 + v)) Q
    refine v_iconst dX5_addCell_41 (in_lit (by decide)) ?_
    obtain ⟨o14, K⟩ := K
    refine v_iadd dX5_addCell_42 o14 ?_
    refine st_354 dX5_addCell_43 hL (by omega) o2 ?_
    show V w 0 mX5_addCell 44 [some (vR 313), some (vI ((n : Nat) : Int)), some (vI c), some (vI v)] [] S (up (up J 353 (((8 * n : Nat) : Int) + (J 354 n)).toNat (0 + v)) 354 n ((J 354 n) + 1)) Q
    exact v_vret dX5_addCell_44 rfl K
theorem gX5_vowelFor_0 {w : Wd} {S : Sh} {J : Jm} {Q : Out → Sh → Jm → Prop} (hL : Lay S) (i : Nat) (n : Nat)
    (K : (-2147483648 ≤ ((i : Nat) : Int) + 1 ∧ ((i : Nat) : Int) + 1 ≤ 2147483647) ∧ V w 1 mX5_vowelFor 4 [some (vR 313), some (vI ((i : Nat) : Int)), some (vI ((n : Nat) : Int)), some (vI ((i + 1 : Nat) : Int))] [] S J Q) :
    V w 1 mX5_vowelFor 0 (ent mX5_vowelFor [vR 313, vI ((i : Nat) : Int), vI ((n : Nat) : Int)]) [] S J Q := by
  show V w 1 mX5_vowelFor 0 [some (vR 313), some (vI ((i : Nat) : Int)), some (vI ((n : Nat) : Int)), none] [] S J Q
  refine v_iload_n dX5_vowelFor_0 rfl ?_
  refine v_iconst dX5_vowelFor_1 (in_lit (by decide)) ?_
  obtain ⟨o1, K⟩ := K
  refine v_iadd dX5_vowelFor_2 o1 ?_
  show V w 1 mX5_vowelFor 3 [some (vR 313), some (vI ((i : Nat) : Int)), some (vI ((n : Nat) : Int)), none] [vI ((i + 1 : Nat) : Int)] S J Q
  refine v_istore_n dX5_vowelFor_3 (Nat.le_of_ble_eq_true rfl) ?_
  show V w 1 mX5_vowelFor 4 [some (vR 313), some (vI ((i : Nat) : Int)), some (vI ((n : Nat) : Int)), some (vI ((i + 1 : Nat) : Int))] [] S J Q
  exact K
theorem gX5_vowelFor_4 {w : Wd} {S : Sh} {J : Jm} {Q : Out → Sh → Jm → Prop} (hL : Lay S) (i : Nat) (n : Nat) (k : Nat)
    (K : Br (((n : Nat) : Int) ≤ ((k : Nat) : Int)) ((-2147483648 ≤ ((i : Nat) : Int) - 1 ∧ ((i : Nat) : Int) - 1 ≤ 2147483647) ∧ V w 1 mX5_vowelFor 42 [some (vR 313), none, none, some (vI (((i : Nat) : Int) - 1))] [] S J Q) ((((k : Nat) : Int) < 8) ∧ Br (vwI (J 355 k) = (-1)) ((-2147483648 ≤ ((k : Nat) : Int) + 1 ∧ ((k : Nat) : Int) + 1 ≤ 2147483647) ∧ V w 1 mX5_vowelFor 4 [some (vR 313), some (vI ((i : Nat) : Int)), some (vI ((n : Nat) : Int)), some (vI ((k + 1 : Nat) : Int))] [] S J Q) (Q (.inl (some (vI (vwI (J 355 k))))) S J))) :
    V w 1 mX5_vowelFor 4 [some (vR 313), some (vI ((i : Nat) : Int)), some (vI ((n : Nat) : Int)), some (vI ((k : Nat) : Int))] [] S J Q := by
  refine v_iload_n dX5_vowelFor_4 rfl ?_
  refine v_iload_n dX5_vowelFor_5 rfl ?_
  obtain ⟨K1, K2⟩ := K
  refine v_icmp_ge 38 dX5_vowelFor_6 (by decide) (fun c1 => ?_) (fun c1 => ?_)
  · have K := K1 c1
    refine v_iload_n dX5_vowelFor_38 rfl ?_
    refine v_iconst dX5_vowelFor_39 (in_lit (by decide)) ?_
    obtain ⟨o1, K⟩ := K
    refine v_isub dX5_vowelFor_40 o1 ?_
    refine v_istore_n dX5_vowelFor_41 (Nat.le_of_ble_eq_true rfl) ?_
    show V w 1 mX5_vowelFor 42 [some (vR 313), some (vI ((i : Nat) : Int)), some (vI ((n : Nat) : Int)), some (vI (((i : Nat) : Int) - 1))] [] S J Q
    exact v_forget (fg_some (fg_none (fg_none (fg_some fg_nil)))) K
  · have K := K2 c1
    refine v_aload_n dX5_vowelFor_9 rfl ?_
    refine v_getR dX5_vowelFor_10 frX5_142_5 rfl (L_313 hL).1 (LR_313_63 hL) (Or.inl rfl) ?_
    refine v_iload_n dX5_vowelFor_13 rfl ?_
    obtain ⟨o2, K⟩ := K
    refine ld_355 dX5_vowelFor_14 hL (by omega) o2 ?_
    show V w 1 mX5_vowelFor 15 [some (vR 313), some (vI ((i : Nat) : Int)), some (vI ((n : Nat) : Int)), some (vI ((k : Nat) : Int))] [vI (J 355 k)] S J Q
    refine v_callS (d' := 0) (rest := []) [vI (J 355 k)] dX5_vowelFor_15 srX5_278 rfl (one_I one_nil) (Nat.le_of_ble_eq_true rfl) (Nat.le_of_ble_eq_true rfl) (Nat.le_of_ble_eq_true rfl) ?_
    refine s_vowel hL (J 355 k)  ?_
    show V w 1 mX5_vowelFor 18 [some (vR 313), some (vI ((i : Nat) : Int)), some (vI ((n : Nat) : Int)), some (vI ((k : Nat) : Int))] [vI (vwI (J 355 k))] S J Q
    refine v_iconst dX5_vowelFor_18 (in_lit (by decide)) ?_
    obtain ⟨K1, K2⟩ := K
    refine v_icmp_eq 32 dX5_vowelFor_19 (by decide) (fun c2 => ?_) (fun c2 => ?_)
    · have K := K1 c2
      obtain ⟨o3, K⟩ := K
      refine v_iinc dX5_vowelFor_32 rfl o3 ?_
      show V w 1 mX5_vowelFor 35 [some (vR 313), some (vI ((i : Nat) : Int)), some (vI ((n : Nat) : Int)), some (vI ((k + 1 : Nat) : Int))] [] S J Q
      refine v_goto 4 dX5_vowelFor_35 (by decide) ?_
      exact K
    · have K := K2 c2
      refine v_aload_n dX5_vowelFor_22 rfl ?_
      refine v_getR dX5_vowelFor_23 frX5_142_5 rfl (L_313 hL).1 (LR_313_63 hL) (Or.inl rfl) ?_
      refine v_iload_n dX5_vowelFor_26 rfl ?_
      refine ld_355 dX5_vowelFor_27 hL (by omega) o2 ?_
      show V w 1 mX5_vowelFor 28 [some (vR 313), some (vI ((i : Nat) : Int)), some (vI ((n : Nat) : Int)), some (vI ((k : Nat) : Int))] [vI (J 355 k)] S J Q
      refine v_callS (d' := 0) (rest := []) [vI (J 355 k)] dX5_vowelFor_28 srX5_278 rfl (one_I one_nil) (Nat.le_of_ble_eq_true rfl) (Nat.le_of_ble_eq_true rfl) (Nat.le_of_ble_eq_true rfl) ?_
      refine s_vowel hL (J 355 k)  ?_
      show V w 1 mX5_vowelFor 31 [some (vR 313), some (vI ((i : Nat) : Int)), some (vI ((n : Nat) : Int)), some (vI ((k : Nat) : Int))] [vI (vwI (J 355 k))] S J Q
      exact v_iret dX5_vowelFor_31 rfl rfl K
theorem gX5_vowelFor_42 {w : Wd} {S : Sh} {J : Jm} {Q : Out → Sh → Jm → Prop} (hL : Lay S) (k : Int)
    (K : Br (k < 0) (Q (.inl (some (vI (-1)))) S J) ((0 ≤ k) ∧ (k < 8) ∧ Br (vwI (J 355 k.toNat) = (-1)) ((-2147483648 ≤ k + (-1) ∧ k + (-1) ≤ 2147483647) ∧ V w 1 mX5_vowelFor 42 [some (vR 313), none, none, some (vI (k + (-1)))] [] S J Q) (Q (.inl (some (vI (vwI (J 355 k.toNat))))) S J))) :
    V w 1 mX5_vowelFor 42 [some (vR 313), none, none, some (vI k)] [] S J Q := by
  refine v_iload_n dX5_vowelFor_42 rfl ?_
  obtain ⟨K1, K2⟩ := K
  refine v_if_lt 75 dX5_vowelFor_43 (by decide) (fun c1 => ?_) (fun c1 => ?_)
  · have K := K1 c1
    refine v_iconst dX5_vowelFor_75 (in_lit (by decide)) ?_
    exact v_iret dX5_vowelFor_76 rfl rfl K
  · have K := K2 c1
    refine v_aload_n dX5_vowelFor_46 rfl ?_
    refine v_getR dX5_vowelFor_47 frX5_142_5 rfl (L_313 hL).1 (LR_313_63 hL) (Or.inl rfl) ?_
    refine v_iload_n dX5_vowelFor_50 rfl ?_
    obtain ⟨o1, K⟩ := K
    obtain ⟨o2, K⟩ := K
    refine ld_355 dX5_vowelFor_51 hL o1 o2 ?_
    refine v_callS (d' := 0) (rest := []) [vI (J 355 k.toNat)] dX5_vowelFor_52 srX5_278 rfl (one_I one_nil) (Nat.le_of_ble_eq_true rfl) (Nat.le_of_ble_eq_true rfl) (Nat.le_of_ble_eq_true rfl) ?_
    refine s_vowel hL (J 355 k.toNat)  ?_
    show V w 1 mX5_vowelFor 55 [some (vR 313), none, none, some (vI k)] [vI (vwI (J 355 k.toNat))] S J Q
    refine v_iconst dX5_vowelFor_55 (in_lit (by decide)) ?_
    obtain ⟨K1, K2⟩ := K
    refine v_icmp_eq 69 dX5_vowelFor_56 (by decide) (fun c2 => ?_) (fun c2 => ?_)
    · have K := K1 c2
      obtain ⟨o3, K⟩ := K
      refine v_iinc dX5_vowelFor_69 rfl o3 ?_
      show V w 1 mX5_vowelFor 72 [some (vR 313), none, none, some (vI (k + (-1)))] [] S J Q
      refine v_goto 42 dX5_vowelFor_72 (by decide) ?_
      exact K
    · have K := K2 c2
      refine v_aload_n dX5_vowelFor_59 rfl ?_
      refine v_getR dX5_vowelFor_60 frX5_142_5 rfl (L_313 hL).1 (LR_313_63 hL) (Or.inl rfl) ?_
      refine v_iload_n dX5_vowelFor_63 rfl ?_
      refine ld_355 dX5_vowelFor_64 hL o1 o2 ?_
      refine v_callS (d' := 0) (rest := []) [vI (J 355 k.toNat)] dX5_vowelFor_65 srX5_278 rfl (one_I one_nil) (Nat.le_of_ble_eq_true rfl) (Nat.le_of_ble_eq_true rfl) (Nat.le_of_ble_eq_true rfl) ?_
      refine s_vowel hL (J 355 k.toNat)  ?_
      show V w 1 mX5_vowelFor 68 [some (vR 313), none, none, some (vI k)] [vI (vwI (J 355 k.toNat))] S J Q
      exact v_iret dX5_vowelFor_68 rfl rfl K

/-- what is written for a letter by the first c clauses of a text; by the rules -/
def wrN (J : Jm) (t : Nat) (l : Int) : Nat → Int
  | 0 => l
  | c + 1 => if J 321 (12 * t + c) = 2 ∧ J 322 (12 * t + c) = l then J 323 (12 * t + c) else wrN J t l c
def wrI (J : Jm) (t l : Int) : Int := if t = -1 then l else wrN J t.toNat l (J 320 t.toNat).toNat
def drN (J : Jm) (t : Nat) (l : Int) : Nat → Bool
  | 0 => false
  | c + 1 => drN J t l c || decide (J 321 (12 * t + c) = 3 ∧ J 322 (12 * t + c) = l)
def drI (J : Jm) (t l : Int) : Bool := if t = -1 then false else drN J t.toNat l (J 320 t.toNat).toNat
theorem s_writes {w : Wd} {S : Sh} {J : Jm} {Q : Out → Sh → Jm → Prop} (hL : Lay S) (t l : Int) (hX : MTxt J) (ht : -1 ≤ t ∧ t < J 313 8) (K : Q (.inl (some (vI (wrI J t l)))) S J) : V w 0 mX5_writes 0 (ent mX5_writes [vR 313, vI t, vI l]) [] S J Q := by
  unfold wrI at K
  refine gX5_writes_0 hL t l ?_
  by_cases h : t = -1
  · rw [if_pos h] at K
    exact gX5_writes_5 hL t l l 0 (br_y h K)
  · rw [if_neg h] at K
    have hX1 := hX.1
    obtain ⟨u, rfl⟩ : ∃ u : Nat, t = u := ⟨t.toNat, by omega⟩
    have hXu := hX.2 u ht.2
    rw [Int.toNat_natCast] at K
    have loop : ∀ (m c : Nat), ((c + m : Nat) : Int) = J 320 u → V w 0 mX5_writes 5 [some (vR 313), some (vI (u : Int)), some (vI l), some (vI (wrN J u l c)), some (vI (c : Int))] [] S J Q := by
      intro m
      induction m with
      | zero =>
        intro c hc
        have ec : (J 320 u).toNat = c := by omega
        rw [ec] at K
        refine gX5_writes_5 hL u l _ c (br_n (by omega) ?_)
        rw [Int.toNat_natCast]
        refine ⟨by omega, by omega, br_y (by omega) K⟩
      | succ m ih =>
        intro c hc
        have ih1 := ih (c + 1) (by omega)
        rw [wrN] at ih1
        refine gX5_writes_5 hL u l _ c (br_n (by omega) ?_)
        rw [Int.toNat_natCast, show (12 * (u : Int) + (c : Int)).toNat = 12 * u + c by omega]
        refine ⟨by omega, by omega, br_n (by omega) ?_⟩
        (repeat' (first | (refine And.intro ?_ ?_; omega)))
        refine br_i (fun h1 => br_i (fun h2 => ?_) (fun h2 => ?_)) (fun h1 => ?_)
        · rw [if_pos ⟨h1, h2⟩] at ih1
          (repeat' (first | (refine And.intro ?_ ?_; omega)))
          exact ih1
        · rw [if_neg (fun q => h2 q.2)] at ih1
          (repeat' (first | (refine And.intro ?_ ?_; omega)))
          exact ih1
        · rw [if_neg (fun q => h1 q.1)] at ih1
          (repeat' (first | (refine And.intro ?_ ?_; omega)))
          exact ih1
    exact loop (J 320 u).toNat 0 (by omega)
theorem s_drops {w : Wd} {S : Sh} {J : Jm} {Q : Out → Sh → Jm → Prop} (hL : Lay S) (t l : Int) (hX : MTxt J) (ht : -1 ≤ t ∧ t < J 313 8) (K1 : drI J t l = true → Q (.inl (some (vI 1))) S J) (K2 : ¬ drI J t l = true → Q (.inl (some (vI 0))) S J) : V w 0 mX5_drops 0 (ent mX5_drops [vR 313, vI t, vI l]) [] S J Q := by
  unfold drI at K1 K2
  refine gX5_drops_0 hL t l ?_
  by_cases h : t = -1
  · rw [if_pos h] at K2
    exact gX5_drops_5 hL t l 0 0 (br_y h ⟨Or.inl rfl, K2 (by decide)⟩)
  · rw [if_neg h] at K1 K2
    have hX1 := hX.1
    obtain ⟨u, rfl⟩ : ∃ u : Nat, t = u := ⟨t.toNat, by omega⟩
    have hXu := hX.2 u ht.2
    rw [Int.toNat_natCast] at K1 K2
    have loop : ∀ (m c : Nat) (z : Int), ((c + m : Nat) : Int) = J 320 u → (z = if drN J u l c = true then 1 else 0) → V w 0 mX5_drops 5 [some (vR 313), some (vI (u : Int)), some (vI l), some (vI z), some (vI (c : Int))] [] S J Q := by
      intro m
      induction m with
      | zero =>
        intro c z hc hz
        have ec : (J 320 u).toNat = c := by omega
        rw [ec] at K1 K2
        refine gX5_drops_5 hL u l _ c (br_n (by omega) ?_)
        rw [Int.toNat_natCast]
        refine ⟨by omega, by omega, br_y (by omega) ?_⟩
        by_cases hd : drN J u l c = true
        · rw [if_pos hd] at hz
          rw [hz]
          exact ⟨Or.inr rfl, K1 hd⟩
        · rw [if_neg hd] at hz
          rw [hz]
          exact ⟨Or.inl rfl, K2 hd⟩
      | succ m ih =>
        intro c z hc hz
        have e1 : drN J u l (c + 1) = (drN J u l c || decide (J 321 (12 * u + c) = 3 ∧ J 322 (12 * u + c) = l)) := rfl
        refine gX5_drops_5 hL u l _ c (br_n (by omega) ?_)
        rw [Int.toNat_natCast, show (12 * (u : Int) + (c : Int)).toNat = 12 * u + c by omega]
        refine ⟨by omega, by omega, br_n (by omega) ?_⟩
        refine br_i (fun h0 => ?_) (fun h0 => ?_)
        · have hd : drN J u l c = false := by
            cases hq : drN J u l c with
            | false => rfl
            | true => rw [hq] at hz; rw [h0] at hz; exact absurd hz (by decide)
          (repeat' (first | (refine And.intro ?_ ?_; omega)))
          refine br_i (fun h1 => br_i (fun h2 => ⟨by omega, ih (c + 1) 1 (by omega) ?_⟩) (fun h2 => ⟨by omega, ih (c + 1) 0 (by omega) ?_⟩)) (fun h1 => ⟨by omega, ih (c + 1) 0 (by omega) ?_⟩)
          · rw [e1, hd, Bool.false_or, decide_eq_true ⟨h1, h2⟩]; rfl
          · rw [e1, hd, Bool.false_or, decide_eq_false (fun q => h2 q.2)]; rfl
          · rw [e1, hd, Bool.false_or, decide_eq_false (fun q => h1 q.1)]; rfl
        · have hd : drN J u l c = true := by
            cases hq : drN J u l c with
            | false => rw [hq] at hz; exact absurd hz h0
            | true => rfl
          refine ⟨by omega, ih (c + 1) 1 (by omega) ?_⟩
          rw [e1, hd, Bool.true_or]; rfl
    exact loop (J 320 u).toNat 0 0 (by omega) rfl
/-- a cell by its consonant (a letter; 0: none) and its vowel -/
def clC (c v : Int) : Int := 5 * (if c = 0 then 0 else c - 97 + 1) + v
theorem s_addCell {w : Wd} {S : Sh} {J : Jm} {Q : Out → Sh → Jm → Prop} (hL : Lay S) (n : Nat) (c v : Int) (hn : n < 7) (hm : 0 ≤ J 354 n ∧ J 354 n < 8) (hc : c = 0 ∨ (97 ≤ c ∧ c ≤ 122)) (hv : -1 ≤ v ∧ v ≤ 4) (K : Q (.inl none) S (up (up J 353 (8 * n + (J 354 n).toNat) (clC c v)) 354 n (J 354 n + 1))) : V w 0 mX5_addCell 0 (ent mX5_addCell [vR 313, vI (n : Int), vI c, vI v]) [] S J Q := by
  unfold clC at K
  refine gX5_addCell_0 hL n c v ?_
  rw [show (((8 * n : Nat) : Int) + J 354 n).toNat = 8 * n + (J 354 n).toNat by omega]
  (repeat' (first | (refine And.intro ?_ ?_; omega)))
  refine br_i (fun h => ?_) (fun h => ?_)
  · rw [if_pos h] at K
    (repeat' (first | (refine And.intro ?_ ?_; omega)))
    exact K
  · rw [if_neg h] at K
    (repeat' (first | (refine And.intro ?_ ?_; omega)))
    exact K
/-- the vowel next from k on among m; the latest ahead of k -/
def nxV (W : Nat → Int) : Nat → Nat → Int
  | 0, _ => -1
  | m + 1, k => if vwI (W k) = -1 then nxV W m (k + 1) else vwI (W k)
def pvV (W : Nat → Int) : Nat → Int
  | 0 => -1
  | k + 1 => if vwI (W k) = -1 then pvV W k else vwI (W k)
def vfI (W : Nat → Int) (n i : Nat) : Int := if nxV W (n - (i + 1)) (i + 1) = -1 then pvV W i else nxV W (n - (i + 1)) (i + 1)
theorem s_vowelFor {w : Wd} {S : Sh} {J : Jm} {Q : Out → Sh → Jm → Prop} (hL : Lay S) (i n : Nat) (hn : n ≤ 8) (hi : i < n) (K : Q (.inl (some (vI (vfI (J 355) n i)))) S J) : V w 1 mX5_vowelFor 0 (ent mX5_vowelFor [vR 313, vI (i : Int), vI (n : Int)]) [] S J Q := by
  unfold vfI at K
  refine gX5_vowelFor_0 hL i n ⟨by omega, ?_⟩
  have down : (nxV (J 355) (n - (i + 1)) (i + 1) = -1) → ∀ k : Nat, k ≤ i → pvV (J 355) k = pvV (J 355) i → V w 1 mX5_vowelFor 42 [some (vR 313), none, none, some (vI ((k : Int) - 1))] [] S J Q := by
    intro hx k
    rw [if_pos hx] at K
    induction k with
    | zero =>
      intro _ hk
      refine gX5_vowelFor_42 hL _ (br_y (by omega) ?_)
      rw [← hk] at K
      exact K
    | succ k ih =>
      intro hki hk
      refine gX5_vowelFor_42 hL _ (br_n (by omega) ?_)
      rw [show (((k + 1 : Nat) : Int) - 1).toNat = k by omega]
      rw [pvV] at hk
      refine ⟨by omega, by omega, br_i (fun h => ⟨by omega, ?_⟩) (fun h => ?_)⟩
      · rw [if_pos h] at hk
        rw [show ((k + 1 : Nat) : Int) - 1 + (-1) = (k : Int) - 1 by omega]
        exact ih (by omega) hk
      · rw [if_neg h] at hk
        rw [← hk] at K
        exact K
  have upw : ∀ (m k : Nat), k + m = n → nxV (J 355) m k = nxV (J 355) (n - (i + 1)) (i + 1) → V w 1 mX5_vowelFor 4 [some (vR 313), some (vI (i : Int)), some (vI (n : Int)), some (vI (k : Int))] [] S J Q := by
    intro m
    induction m with
    | zero =>
      intro k hk hx
      refine gX5_vowelFor_4 hL i n k (br_y (by omega) ⟨by omega, ?_⟩)
      exact down hx.symm i (Nat.le_refl _) rfl
    | succ m ih =>
      intro k hk hx
      rw [nxV] at hx
      refine gX5_vowelFor_4 hL i n k (br_n (by omega) ⟨by omega, br_i (fun h => ⟨by omega, ?_⟩) (fun h => ?_)⟩)
      · rw [if_pos h] at hx
        exact ih (k + 1) (by omega) hx
      · rw [if_neg h] at hx
        rw [← hx, if_neg h] at K
        exact K
  exact upw (n - (i + 1)) (i + 1) (by omega) rfl
