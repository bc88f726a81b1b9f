/-! the model: small deeds; names -/
set_option maxRecDepth 100000
theorem gX5_thrown_0 {w : Wd} {S : Sh} {J : Jm} {Q : Out → Sh → Jm → Prop} (hL : Lay S) 
    (K : Q (.inl (some (vI (J 313 0)))) S J) :
    V w 0 mX5_thrown 0 (ent mX5_thrown [vR 313]) [] S J Q := by
  show V w 0 mX5_thrown 0 [some (vR 313)] [] S J Q
  refine v_aload_n dX5_thrown_0 rfl ?_
  refine v_getI dX5_thrown_1 frX5_1_5 rfl rfl (L_313 hL).1 ?_
  exact v_iret dX5_thrown_4 rfl rfl K
theorem gX5_day_0 {w : Wd} {S : Sh} {J : Jm} {Q : Out → Sh → Jm → Prop} (hL : Lay S) (n : Int)
    (K : Br (0 ≤ n ∧ n ≤ 1000) ((-2147483648 ≤ (J 313 1) + n ∧ (J 313 1) + n ≤ 2147483647) ∧ Br ((J 313 1) + n ≤ 100000) (Q (.inl (some (vI ((J 313 1) + n)))) S (up (up J 313 0 0) 313 1 ((J 313 1) + n))) (Q (.inl (some (vI (-1)))) S (up J 313 0 0))) (Q (.inl (some (vI (-1)))) S (up J 313 0 0))) :
    V w 1 mX5_day 0 (ent mX5_day [vR 313, vI n]) [] S J Q := by
  show V w 1 mX5_day 0 [some (vR 313), some (vI n)] [] S J Q
  refine v_aload_n dX5_day_0 rfl ?_
  refine v_iconst dX5_day_1 (in_lit (by decide)) ?_
  refine v_putI dX5_day_2 frX5_1_5 (fun _ _ _ h => by cases h; exact Or.inl rfl) rfl rfl zfit_int (L_313 hL).1 ?_
  show V w 1 mX5_day 5 [some (vR 313), some (vI n)] [] S (up J 313 0 0) Q
  refine v_iload_n dX5_day_5 rfl ?_
  refine v_iconst dX5_day_6 (in_lit (by decide)) ?_
  refine v_sipush dX5_day_7 (by decide) (in_lit (by decide)) ?_
  refine v_callS (d' := 0) (rest := []) [vI n, vI 0, vI 1000] dX5_day_10 srX5_169 rfl (one_I (one_I (one_I one_nil))) (Nat.le_of_ble_eq_true rfl) (Nat.le_of_ble_eq_true rfl) (Nat.le_of_ble_eq_true rfl) ?_
  obtain ⟨K1, K2⟩ := K
  refine sX5_within hL n 0 1000  (fun c1 => ?_) (fun c1 => ?_)
  · have K := K1 c1
    show V w 1 mX5_day 13 [some (vR 313), some (vI n)] [vI 1] S (up J 313 0 0) Q
    refine v_if_eq 27 dX5_day_13 (by decide) (fun cQ => absurd cQ (by decide)) (fun _ => ?_)
    refine v_aload_n dX5_day_16 rfl ?_
    refine v_getI dX5_day_17 frX5_173_5 rfl rfl (L_313 hL).1 ?_
    show V w 1 mX5_day 20 [some (vR 313), some (vI n)] [vI (J 313 1)] S (up J 313 0 0) Q
    refine v_iload_n dX5_day_20 rfl ?_
    obtain ⟨o1, K⟩ := K
    refine v_iadd dX5_day_21 o1 ?_
    refine v_ldc dX5_day_22 q1833 (z := 100000) (by decide) ?_
    obtain ⟨K1, K2⟩ := K
    refine v_icmp_le 29 dX5_day_24 (by decide) (fun c2 => ?_) (fun c2 => ?_)
    · have K := K1 c2
      refine v_aload_n dX5_day_29 rfl ?_
      refine v_dup dX5_day_30 trivial ?_
      refine v_getI dX5_day_31 frX5_173_5 rfl rfl (L_313 hL).1 ?_
      show V w 1 mX5_day 34 [some (vR 313), some (vI n)] [vI (J 313 1), vR 313] S (up J 313 0 0) Q
      refine v_iload_n dX5_day_34 rfl ?_
      refine v_iadd dX5_day_35 o1 ?_
      refine v_putI dX5_day_36 frX5_173_5 (fun _ _ _ h => by cases h; exact Or.inl rfl) rfl rfl zfit_int (L_313 hL).1 ?_
      show V w 1 mX5_day 39 [some (vR 313), some (vI n)] [] S (up (up J 313 0 0) 313 1 ((J 313 1) + n)) Q
      refine v_aload_n dX5_day_39 rfl ?_
      refine v_getI dX5_day_40 frX5_173_5 rfl rfl (L_313 hL).1 ?_
      show V w 1 mX5_day 43 [some (vR 313), some (vI n)] [vI ((J 313 1) + n)] S (up (up J 313 0 0) 313 1 ((J 313 1) + n)) Q
      exact v_iret dX5_day_43 rfl rfl K
    · have K := K2 c2
      refine v_iconst dX5_day_27 (in_lit (by decide)) ?_
      exact v_iret dX5_day_28 rfl rfl K
  · have K := K2 c1
    show V w 1 mX5_day 13 [some (vR 313), some (vI n)] [vI 0] S (up J 313 0 0) Q
    refine v_if_eq 27 dX5_day_13 (by decide) (fun _ => ?_) (fun cQ => absurd cQ (by decide))
    refine v_iconst dX5_day_27 (in_lit (by decide)) ?_
    exact v_iret dX5_day_28 rfl rfl K
theorem gX5_end_0 {w : Wd} {S : Sh} {J : Jm} {Q : Out → Sh → Jm → Prop} (hL : Lay S) (n : Int)
    (K : Br (n < 0) (Q (.inl (some (vI (-1)))) S (up J 313 0 0)) (Br (n ≤ J 313 16) (Q (.inl (some (vI n))) S (up (up J 313 0 0) 313 16 n)) (Q (.inl (some (vI (-1)))) S (up J 313 0 0)))) :
    V w 0 mX5_end 0 (ent mX5_end [vR 313, vI n]) [] S J Q := by
  show V w 0 mX5_end 0 [some (vR 313), some (vI n)] [] S J Q
  refine v_aload_n dX5_end_0 rfl ?_
  refine v_iconst dX5_end_1 (in_lit (by decide)) ?_
  refine v_putI dX5_end_2 frX5_1_5 (fun _ _ _ h => by cases h; exact Or.inl rfl) rfl rfl zfit_int (L_313 hL).1 ?_
  show V w 0 mX5_end 5 [some (vR 313), some (vI n)] [] S (up J 313 0 0) Q
  refine v_iload_n dX5_end_5 rfl ?_
  obtain ⟨K1, K2⟩ := K
  refine v_if_lt 17 dX5_end_6 (by decide) (fun c1 => ?_) (fun c1 => ?_)
  · have K := K1 c1
    refine v_iconst dX5_end_17 (in_lit (by decide)) ?_
    exact v_iret dX5_end_18 rfl rfl K
  · have K := K2 c1
    refine v_iload_n dX5_end_9 rfl ?_
    refine v_aload_n dX5_end_10 rfl ?_
    refine v_getI dX5_end_11 frX5_180_5 rfl rfl (L_313 hL).1 ?_
    show V w 0 mX5_end 14 [some (vR 313), some (vI n)] [vI (J 313 16), vI n] S (up J 313 0 0) Q
    obtain ⟨K1, K2⟩ := K
    refine v_icmp_le 19 dX5_end_14 (by decide) (fun c2 => ?_) (fun c2 => ?_)
    · have K := K1 c2
      refine v_aload_n dX5_end_19 rfl ?_
      refine v_iload_n dX5_end_20 rfl ?_
      refine v_putI dX5_end_21 frX5_180_5 (fun _ _ _ h => by cases h; exact Or.inl rfl) rfl rfl zfit_int (L_313 hL).1 ?_
      show V w 0 mX5_end 24 [some (vR 313), some (vI n)] [] S (up (up J 313 0 0) 313 16 n) Q
      refine v_iload_n dX5_end_24 rfl ?_
      exact v_iret dX5_end_25 rfl rfl K
    · have K := K2 c2
      refine v_iconst dX5_end_17 (in_lit (by decide)) ?_
      exact v_iret dX5_end_18 rfl rfl K
theorem gX5_trust_0 {w : Wd} {S : Sh} {J : Jm} {Q : Out → Sh → Jm → Prop} (hL : Lay S) (h : Int) (v : Int)
    (K : Br (0 ≤ h ∧ h ≤ 3) (Br (0 ≤ v ∧ v ≤ 99) ((h < 4) ∧ Q (.inl (some (vI 1))) S (up (up J 313 0 0) 326 h.toNat v)) (Q (.inl (some (vI 0))) S (up J 313 0 0))) (Q (.inl (some (vI 0))) S (up J 313 0 0))) :
    V w 1 mX5_trust 0 (ent mX5_trust [vR 313, vI h, vI v]) [] S J Q := by
  show V w 1 mX5_trust 0 [some (vR 313), some (vI h), some (vI v)] [] S J Q
  refine v_aload_n dX5_trust_0 rfl ?_
  refine v_iconst dX5_trust_1 (in_lit (by decide)) ?_
  refine v_putI dX5_trust_2 frX5_1_5 (fun _ _ _ h => by cases h; exact Or.inl rfl) rfl rfl zfit_int (L_313 hL).1 ?_
  show V w 1 mX5_trust 5 [some (vR 313), some (vI h), some (vI v)] [] S (up J 313 0 0) Q
  refine v_iload_n dX5_trust_5 rfl ?_
  refine v_iconst dX5_trust_6 (in_lit (by decide)) ?_
  refine v_iconst dX5_trust_7 (in_lit (by decide)) ?_
  refine v_callS (d' := 0) (rest := []) [vI h, vI 0, vI 3] dX5_trust_8 srX5_169 rfl (one_I (one_I (one_I one_nil))) (Nat.le_of_ble_eq_true rfl) (Nat.le_of_ble_eq_true rfl) (Nat.le_of_ble_eq_true rfl) ?_
  obtain ⟨K1, K2⟩ := K
  refine sX5_within hL h 0 3  (fun c1 => ?_) (fun c1 => ?_)
  · have K := K1 c1
    show V w 1 mX5_trust 11 [some (vR 313), some (vI h), some (vI v)] [vI 1] S (up J 313 0 0) Q
    refine v_if_eq 24 dX5_trust_11 (by decide) (fun cQ => absurd cQ (by decide)) (fun _ => ?_)
    refine v_iload_n dX5_trust_14 rfl ?_
    refine v_iconst dX5_trust_15 (in_lit (by decide)) ?_
    refine v_bipush dX5_trust_16 (by decide) (in_lit (by decide)) ?_
    refine v_callS (d' := 0) (rest := []) [vI v, vI 0, vI 99] dX5_trust_18 srX5_169 rfl (one_I (one_I (one_I one_nil))) (Nat.le_of_ble_eq_true rfl) (Nat.le_of_ble_eq_true rfl) (Nat.le_of_ble_eq_true rfl) ?_
    obtain ⟨K1, K2⟩ := K
    refine sX5_within hL v 0 99  (fun c2 => ?_) (fun c2 => ?_)
    · have K := K1 c2
      show V w 1 mX5_trust 21 [some (vR 313), some (vI h), some (vI v)] [vI 1] S (up J 313 0 0) Q
      refine v_if_ne 26 dX5_trust_21 (by decide) (fun _ => ?_) (fun cQ => absurd cQ (by decide))
      refine v_aload_n dX5_trust_26 rfl ?_
      refine v_getR dX5_trust_27 frX5_54_5 rfl (L_313 hL).1 (LR_313_24 hL) (Or.inl rfl) ?_
      refine v_iload_n dX5_trust_30 rfl ?_
      refine v_iload_n dX5_trust_31 rfl ?_
      obtain ⟨o1, K⟩ := K
      refine st_326 dX5_trust_32 hL c1.1 o1 ?_
      show V w 1 mX5_trust 33 [some (vR 313), some (vI h), some (vI v)] [] S (up (up J 313 0 0) 326 h.toNat v) Q
      refine v_iconst dX5_trust_33 (in_lit (by decide)) ?_
      exact v_iret dX5_trust_34 rfl (by decide) K
    · have K := K2 c2
      show V w 1 mX5_trust 21 [some (vR 313), some (vI h), some (vI v)] [vI 0] S (up J 313 0 0) Q
      refine v_if_ne 26 dX5_trust_21 (by decide) (fun cQ => absurd cQ (by decide)) (fun _ => ?_)
      refine v_iconst dX5_trust_24 (in_lit (by decide)) ?_
      exact v_iret dX5_trust_25 rfl (by decide) K
  · have K := K2 c1
    show V w 1 mX5_trust 11 [some (vR 313), some (vI h), some (vI v)] [vI 0] S (up J 313 0 0) Q
    refine v_if_eq 24 dX5_trust_11 (by decide) (fun _ => ?_) (fun cQ => absurd cQ (by decide))
    refine v_iconst dX5_trust_24 (in_lit (by decide)) ?_
    exact v_iret dX5_trust_25 rfl (by decide) K
theorem gX5_holds_0 {w : Wd} {S : Sh} {J : Jm} {Q : Out → Sh → Jm → Prop} (hL : Lay S) (h : Int) (a : Int) (b : Int) (v : Int)
    (K : Br (0 ≤ h ∧ h ≤ 3) (Br (0 ≤ a ∧ a < 40) (Br (0 ≤ b ∧ b < 40) (Br (a = b) (Q (.inl (some (vI 0))) S (up J 313 0 0)) (Br (0 ≤ v ∧ v ≤ 2) (Br (J 313 25 = 200) (Q (.inl (some (vI 0))) S (up J 313 0 0)) ((0 ≤ J 313 25) ∧ (J 313 25 < 200) ∧ Br (b ≤ a) ((-2147483648 ≤ (J 313 25) + 1 ∧ (J 313 25) + 1 ≤ 2147483647) ∧ Q (.inl (some (vI 1))) S (up (up (up (up (up (up (up J 313 0 0) 327 (J 313 25).toNat h) 328 (J 313 25).toNat b) 329 (J 313 25).toNat a) 330 (J 313 25).toNat v) 331 (J 313 25).toNat (J 313 1)) 313 25 ((J 313 25) + 1))) ((-2147483648 ≤ (J 313 25) + 1 ∧ (J 313 25) + 1 ≤ 2147483647) ∧ Q (.inl (some (vI 1))) S (up (up (up (up (up (up (up J 313 0 0) 327 (J 313 25).toNat h) 328 (J 313 25).toNat a) 329 (J 313 25).toNat b) 330 (J 313 25).toNat v) 331 (J 313 25).toNat (J 313 1)) 313 25 ((J 313 25) + 1))))) (Q (.inl (some (vI 0))) S (up J 313 0 0)))) (Q (.inl (some (vI 0))) S (up J 313 0 0))) (Q (.inl (some (vI 0))) S (up J 313 0 0))) (Q (.inl (some (vI 0))) S (up J 313 0 0))) :
    V w 1 mX5_holds 0 (ent mX5_holds [vR 313, vI h, vI a, vI b, vI v]) [] S J Q := by
  show V w 1 mX5_holds 0 [some (vR 313), some (vI h), some (vI a), some (vI b), some (vI v)] [] S J Q
  refine v_aload_n dX5_holds_0 rfl ?_
  refine v_iconst dX5_holds_1 (in_lit (by decide)) ?_
  refine v_putI dX5_holds_2 frX5_1_5 (fun _ _ _ h => by cases h; exact Or.inl rfl) rfl rfl zfit_int (L_313 hL).1 ?_
  show V w 1 mX5_holds 5 [some (vR 313), some (vI h), some (vI a), some (vI b), some (vI v)] [] S (up J 313 0 0) Q
  refine v_iload_n dX5_holds_5 rfl ?_
  refine v_iconst dX5_holds_6 (in_lit (by decide)) ?_
  refine v_iconst dX5_holds_7 (in_lit (by decide)) ?_
  refine v_callS (d' := 0) (rest := []) [vI h, vI 0, vI 3] dX5_holds_8 srX5_169 rfl (one_I (one_I (one_I one_nil))) (Nat.le_of_ble_eq_true rfl) (Nat.le_of_ble_eq_true rfl) (Nat.le_of_ble_eq_true rfl) ?_
  obtain ⟨K1, K2⟩ := K
  refine sX5_within hL h 0 3  (fun c1 => ?_) (fun c1 => ?_)
  · have K := K1 c1
    show V w 1 mX5_holds 11 [some (vR 313), some (vI h), some (vI a), some (vI b), some (vI v)] [vI 1] S (up J 313 0 0) Q
    refine v_if_eq 53 dX5_holds_11 (by decide) (fun cQ => absurd cQ (by decide)) (fun _ => ?_)
    refine v_iload_n dX5_holds_14 rfl ?_
    refine v_callS (d' := 0) (rest := []) [vI a] dX5_holds_15 srX5_288 rfl (one_I one_nil) (Nat.le_of_ble_eq_true rfl) (Nat.le_of_ble_eq_true rfl) (Nat.le_of_ble_eq_true rfl) ?_
    obtain ⟨K1, K2⟩ := K
    refine sX5_isSignNumber hL a  (fun c2 => ?_) (fun c2 => ?_)
    · have K := K1 c2
      show V w 1 mX5_holds 18 [some (vR 313), some (vI h), some (vI a), some (vI b), some (vI v)] [vI 1] S (up J 313 0 0) Q
      refine v_if_eq 53 dX5_holds_18 (by decide) (fun cQ => absurd cQ (by decide)) (fun _ => ?_)
      refine v_iload_n dX5_holds_21 rfl ?_
      refine v_callS (d' := 0) (rest := []) [vI b] dX5_holds_22 srX5_288 rfl (one_I one_nil) (Nat.le_of_ble_eq_true rfl) (Nat.le_of_ble_eq_true rfl) (Nat.le_of_ble_eq_true rfl) ?_
      obtain ⟨K1, K2⟩ := K
      refine sX5_isSignNumber hL b  (fun c3 => ?_) (fun c3 => ?_)
      · have K := K1 c3
        show V w 1 mX5_holds 25 [some (vR 313), some (vI h), some (vI a), some (vI b), some (vI v)] [vI 1] S (up J 313 0 0) Q
        refine v_if_eq 53 dX5_holds_25 (by decide) (fun cQ => absurd cQ (by decide)) (fun _ => ?_)
        refine v_iload_n dX5_holds_28 rfl ?_
        refine v_iload_n dX5_holds_29 rfl ?_
        obtain ⟨K1, K2⟩ := K
        refine v_icmp_eq 53 dX5_holds_30 (by decide) (fun c4 => ?_) (fun c4 => ?_)
        · have K := K1 c4
          refine v_iconst dX5_holds_53 (in_lit (by decide)) ?_
          exact v_iret dX5_holds_54 rfl (by decide) K
        · have K := K2 c4
          refine v_iload dX5_holds_33 rfl ?_
          refine v_iconst dX5_holds_35 (in_lit (by decide)) ?_
          refine v_iconst dX5_holds_36 (in_lit (by decide)) ?_
          refine v_callS (d' := 0) (rest := []) [vI v, vI 0, vI 2] dX5_holds_37 srX5_169 rfl (one_I (one_I (one_I one_nil))) (Nat.le_of_ble_eq_true rfl) (Nat.le_of_ble_eq_true rfl) (Nat.le_of_ble_eq_true rfl) ?_
          obtain ⟨K1, K2⟩ := K
          refine sX5_within hL v 0 2  (fun c5 => ?_) (fun c5 => ?_)
          · have K := K1 c5
            show V w 1 mX5_holds 40 [some (vR 313), some (vI h), some (vI a), some (vI b), some (vI v)] [vI 1] S (up J 313 0 0) Q
            refine v_if_eq 53 dX5_holds_40 (by decide) (fun cQ => absurd cQ (by decide)) (fun _ => ?_)
            refine v_aload_n dX5_holds_43 rfl ?_
            refine v_getI dX5_holds_44 frX5_291_5 rfl rfl (L_313 hL).1 ?_
            show V w 1 mX5_holds 47 [some (vR 313), some (vI h), some (vI a), some (vI b), some (vI v)] [vI (J 313 25)] S (up J 313 0 0) Q
            refine v_sipush dX5_holds_47 (by decide) (in_lit (by decide)) ?_
            obtain ⟨K1, K2⟩ := K
            refine v_icmp_ne 55 dX5_holds_50 (by decide) (fun c6 => ?_) (fun c6 => ?_)
            · have K := K2 c6
              refine v_aload_n dX5_holds_55 rfl ?_
              refine v_getR dX5_holds_56 frX5_57_5 rfl (L_313 hL).1 (LR_313_26 hL) (Or.inl rfl) ?_
              refine v_aload_n dX5_holds_59 rfl ?_
              refine v_getI dX5_holds_60 frX5_291_5 rfl rfl (L_313 hL).1 ?_
              show V w 1 mX5_holds 63 [some (vR 313), some (vI h), some (vI a), some (vI b), some (vI v)] [vI (J 313 25), vR 327] S (up J 313 0 0) Q
              refine v_iload_n dX5_holds_63 rfl ?_
              obtain ⟨o1, K⟩ := K
              obtain ⟨o2, K⟩ := K
              refine st_327 dX5_holds_64 hL o1 o2 ?_
              show V w 1 mX5_holds 65 [some (vR 313), some (vI h), some (vI a), some (vI b), some (vI v)] [] S (up (up J 313 0 0) 327 (J 313 25).toNat h) Q
              refine v_aload_n dX5_holds_65 rfl ?_
              refine v_getR dX5_holds_66 frX5_60_5 rfl (L_313 hL).1 (LR_313_27 hL) (Or.inl rfl) ?_
              refine v_aload_n dX5_holds_69 rfl ?_
              refine v_getI dX5_holds_70 frX5_291_5 rfl rfl (L_313 hL).1 ?_
              show V w 1 mX5_holds 73 [some (vR 313), some (vI h), some (vI a), some (vI b), some (vI v)] [vI (J 313 25), vR 328] S (up (up J 313 0 0) 327 (J 313 25).toNat h) Q
              refine v_iload_n dX5_holds_73 rfl ?_
              refine v_iload_n dX5_holds_74 rfl ?_
              obtain ⟨K1, K2⟩ := K
              refine v_icmp_ge 82 dX5_holds_75 (by decide) (fun c7 => ?_) (fun c7 => ?_)
              · have K := K1 c7
                refine v_iload_n dX5_holds_82 rfl ?_
                refine st_328 dX5_holds_83 hL o1 o2 ?_
                show V w 1 mX5_holds 84 [some (vR 313), some (vI h), some (vI a), some (vI b), some (vI v)] [] S (up (up (up J 313 0 0) 327 (J 313 25).toNat h) 328 (J 313 25).toNat b) Q
                refine v_aload_n dX5_holds_84 rfl ?_
                refine v_getR dX5_holds_85 frX5_63_5 rfl (L_313 hL).1 (LR_313_28 hL) (Or.inl rfl) ?_
                refine v_aload_n dX5_holds_88 rfl ?_
                refine v_getI dX5_holds_89 frX5_291_5 rfl rfl (L_313 hL).1 ?_
                show V w 1 mX5_holds 92 [some (vR 313), some (vI h), some (vI a), some (vI b), some (vI v)] [vI (J 313 25), vR 329] S (up (up (up J 313 0 0) 327 (J 313 25).toNat h) 328 (J 313 25).toNat b) Q
                refine v_iload_n dX5_holds_92 rfl ?_
                refine v_iload_n dX5_holds_93 rfl ?_
                refine v_icmp_ge 101 dX5_holds_94 (by decide) (fun _ => ?_) (fun cQ => absurd c7 cQ)
                refine v_iload_n dX5_holds_101 rfl ?_
                refine st_329 dX5_holds_102 hL o1 o2 ?_
                show V w 1 mX5_holds 103 [some (vR 313), some (vI h), some (vI a), some (vI b), some (vI v)] [] S (up (up (up (up J 313 0 0) 327 (J 313 25).toNat h) 328 (J 313 25).toNat b) 329 (J 313 25).toNat a) Q
                refine v_aload_n dX5_holds_103 rfl ?_
                refine v_getR dX5_holds_104 frX5_66_5 rfl (L_313 hL).1 (LR_313_29 hL) (Or.inl rfl) ?_
                refine v_aload_n dX5_holds_107 rfl ?_
                refine v_getI dX5_holds_108 frX5_291_5 rfl rfl (L_313 hL).1 ?_
                show V w 1 mX5_holds 111 [some (vR 313), some (vI h), some (vI a), some (vI b), some (vI v)] [vI (J 313 25), vR 330] S (up (up (up (up J 313 0 0) 327 (J 313 25).toNat h) 328 (J 313 25).toNat b) 329 (J 313 25).toNat a) Q
                refine v_iload dX5_holds_111 rfl ?_
                refine st_330 dX5_holds_113 hL o1 o2 ?_
                show V w 1 mX5_holds 114 [some (vR 313), some (vI h), some (vI a), some (vI b), some (vI v)] [] S (up (up (up (up (up J 313 0 0) 327 (J 313 25).toNat h) 328 (J 313 25).toNat b) 329 (J 313 25).toNat a) 330 (J 313 25).toNat v) Q
                refine v_aload_n dX5_holds_114 rfl ?_
                refine v_getR dX5_holds_115 frX5_69_5 rfl (L_313 hL).1 (LR_313_30 hL) (Or.inl rfl) ?_
                refine v_aload_n dX5_holds_118 rfl ?_
                refine v_getI dX5_holds_119 frX5_291_5 rfl rfl (L_313 hL).1 ?_
                show V w 1 mX5_holds 122 [some (vR 313), some (vI h), some (vI a), some (vI b), some (vI v)] [vI (J 313 25), vR 331] S (up (up (up (up (up J 313 0 0) 327 (J 313 25).toNat h) 328 (J 313 25).toNat b) 329 (J 313 25).toNat a) 330 (J 313 25).toNat v) Q
                refine v_aload_n dX5_holds_122 rfl ?_
                refine v_getI dX5_holds_123 frX5_173_5 rfl rfl (L_313 hL).1 ?_
                show V w 1 mX5_holds 126 [some (vR 313), some (vI h), some (vI a), some (vI b), some (vI v)] [vI (J 313 1), vI (J 313 25), vR 331] S (up (up (up (up (up J 313 0 0) 327 (J 313 25).toNat h) 328 (J 313 25).toNat b) 329 (J 313 25).toNat a) 330 (J 313 25).toNat v) Q
                refine st_331 dX5_holds_126 hL o1 o2 ?_
                show V w 1 mX5_holds 127 [some (vR 313), some (vI h), some (vI a), some (vI b), some (vI v)] [] S (up (up (up (up (up (up J 313 0 0) 327 (J 313 25).toNat h) 328 (J 313 25).toNat b) 329 (J 313 25).toNat a) 330 (J 313 25).toNat v) 331 (J 313 25).toNat (J 313 1)) Q
                refine v_aload_n dX5_holds_127 rfl ?_
                refine v_dup dX5_holds_128 trivial ?_
                refine v_getI dX5_holds_129 frX5_291_5 rfl rfl (L_313 hL).1 ?_
                show V w 1 mX5_holds 132 [some (vR 313), some (vI h), some (vI a), some (vI b), some (vI v)] [vI (J 313 25), vR 313] S (up (up (up (up (up (up J 313 0 0) 327 (J 313 25).toNat h) 328 (J 313 25).toNat b) 329 (J 313 25).toNat a) 330 (J 313 25).toNat v) 331 (J 313 25).toNat (J 313 1)) Q
                refine v_iconst dX5_holds_132 (in_lit (by decide)) ?_
                obtain ⟨o3, K⟩ := K
                refine v_iadd dX5_holds_133 o3 ?_
                refine v_putI dX5_holds_134 frX5_291_5 (fun _ _ _ h => by cases h; exact Or.inl rfl) rfl rfl zfit_int (L_313 hL).1 ?_
                show V w 1 mX5_holds 137 [some (vR 313), some (vI h), some (vI a), some (vI b), some (vI v)] [] S (up (up (up (up (up (up (up J 313 0 0) 327 (J 313 25).toNat h) 328 (J 313 25).toNat b) 329 (J 313 25).toNat a) 330 (J 313 25).toNat v) 331 (J 313 25).toNat (J 313 1)) 313 25 ((J 313 25) + 1)) Q
                refine v_iconst dX5_holds_137 (in_lit (by decide)) ?_
                exact v_iret dX5_holds_138 rfl (by decide) K
              · have K := K2 c7
                refine v_iload_n dX5_holds_78 rfl ?_
                refine v_goto 83 dX5_holds_79 (by decide) ?_
                refine st_328 dX5_holds_83 hL o1 o2 ?_
                show V w 1 mX5_holds 84 [some (vR 313), some (vI h), some (vI a), some (vI b), some (vI v)] [] S (up (up (up J 313 0 0) 327 (J 313 25).toNat h) 328 (J 313 25).toNat a) Q
                refine v_aload_n dX5_holds_84 rfl ?_
                refine v_getR dX5_holds_85 frX5_63_5 rfl (L_313 hL).1 (LR_313_28 hL) (Or.inl rfl) ?_
                refine v_aload_n dX5_holds_88 rfl ?_
                refine v_getI dX5_holds_89 frX5_291_5 rfl rfl (L_313 hL).1 ?_
                show V w 1 mX5_holds 92 [some (vR 313), some (vI h), some (vI a), some (vI b), some (vI v)] [vI (J 313 25), vR 329] S (up (up (up J 313 0 0) 327 (J 313 25).toNat h) 328 (J 313 25).toNat a) Q
                refine v_iload_n dX5_holds_92 rfl ?_
                refine v_iload_n dX5_holds_93 rfl ?_
                refine v_icmp_ge 101 dX5_holds_94 (by decide) (fun cQ => absurd cQ c7) (fun _ => ?_)
                refine v_iload_n dX5_holds_97 rfl ?_
                refine v_goto 102 dX5_holds_98 (by decide) ?_
                refine st_329 dX5_holds_102 hL o1 o2 ?_
                show V w 1 mX5_holds 103 [some (vR 313), some (vI h), some (vI a), some (vI b), some (vI v)] [] S (up (up (up (up J 313 0 0) 327 (J 313 25).toNat h) 328 (J 313 25).toNat a) 329 (J 313 25).toNat b) Q
                refine v_aload_n dX5_holds_103 rfl ?_
                refine v_getR dX5_holds_104 frX5_66_5 rfl (L_313 hL).1 (LR_313_29 hL) (Or.inl rfl) ?_
                refine v_aload_n dX5_holds_107 rfl ?_
                refine v_getI dX5_holds_108 frX5_291_5 rfl rfl (L_313 hL).1 ?_
                show V w 1 mX5_holds 111 [some (vR 313), some (vI h), some (vI a), some (vI b), some (vI v)] [vI (J 313 25), vR 330] S (up (up (up (up J 313 0 0) 327 (J 313 25).toNat h) 328 (J 313 25).toNat a) 329 (J 313 25).toNat b) Q
                refine v_iload dX5_holds_111 rfl ?_
                refine st_330 dX5_holds_113 hL o1 o2 ?_
                show V w 1 mX5_holds 114 [some (vR 313), some (vI h), some (vI a), some (vI b), some (vI v)] [] S (up (up (up (up (up J 313 0 0) 327 (J 313 25).toNat h) 328 (J 313 25).toNat a) 329 (J 313 25).toNat b) 330 (J 313 25).toNat v) Q
                refine v_aload_n dX5_holds_114 rfl ?_
                refine v_getR dX5_holds_115 frX5_69_5 rfl (L_313 hL).1 (LR_313_30 hL) (Or.inl rfl) ?_
                refine v_aload_n dX5_holds_118 rfl ?_
                refine v_getI dX5_holds_119 frX5_291_5 rfl rfl (L_313 hL).1 ?_
                show V w 1 mX5_holds 122 [some (vR 313), some (vI h), some (vI a), some (vI b), some (vI v)] [vI (J 313 25), vR 331] S (up (up (up (up (up J 313 0 0) 327 (J 313 25).toNat h) 328 (J 313 25).toNat a) 329 (J 313 25).toNat b) 330 (J 313 25).toNat v) Q
                refine v_aload_n dX5_holds_122 rfl ?_
                refine v_getI dX5_holds_123 frX5_173_5 rfl rfl (L_313 hL).1 ?_
                show V w 1 mX5_holds 126 [some (vR 313), some (vI h), some (vI a), some (vI b), some (vI v)] [vI (J 313 1), vI (J 313 25), vR 331] S (up (up (up (up (up J 313 0 0) 327 (J 313 25).toNat h) 328 (J 313 25).toNat a) 329 (J 313 25).toNat b) 330 (J 313 25).toNat v) Q
                refine st_331 dX5_holds_126 hL o1 o2 ?_
                show V w 1 mX5_holds 127 [some (vR 313), some (vI h), some (vI a), some (vI b), some (vI v)] [] S (up (up (up (up (up (up J 313 0 0) 327 (J 313 25).toNat h) 328 (J 313 25).toNat a) 329 (J 313 25).toNat b) 330 (J 313 25).toNat v) 331 (J 313 25).toNat (J 313 1)) Q
                refine v_aload_n dX5_holds_127 rfl ?_
                refine v_dup dX5_holds_128 trivial ?_
                refine v_getI dX5_holds_129 frX5_291_5 rfl rfl (L_313 hL).1 ?_
                show V w 1 mX5_holds 132 [some (vR 313), some (vI h), some (vI a), some (vI b), some (vI v)] [vI (J 313 25), vR 313] S (up (up (up (up (up (up J 313 0 0) 327 (J 313 25).toNat h) 328 (J 313 25).toNat a) 329 (J 313 25).toNat b) 330 (J 313 25).toNat v) 331 (J 313 25).toNat (J 313 1)) Q
                refine v_iconst dX5_holds_132 (in_lit (by decide)) ?_
                obtain ⟨o4, K⟩ := K
                refine v_iadd dX5_holds_133 o4 ?_
                refine v_putI dX5_holds_134 frX5_291_5 (fun _ _ _ h => by cases h; exact Or.inl rfl) rfl rfl zfit_int (L_313 hL).1 ?_
                show V w 1 mX5_holds 137 [some (vR 313), some (vI h), some (vI a), some (vI b), some (vI v)] [] S (up (up (up (up (up (up (up J 313 0 0) 327 (J 313 25).toNat h) 328 (J 313 25).toNat a) 329 (J 313 25).toNat b) 330 (J 313 25).toNat v) 331 (J 313 25).toNat (J 313 1)) 313 25 ((J 313 25) + 1)) Q
                refine v_iconst dX5_holds_137 (in_lit (by decide)) ?_
                exact v_iret dX5_holds_138 rfl (by decide) K
            · have K := K1 c6
              refine v_iconst dX5_holds_53 (in_lit (by decide)) ?_
              exact v_iret dX5_holds_54 rfl (by decide) K
          · have K := K2 c5
            show V w 1 mX5_holds 40 [some (vR 313), some (vI h), some (vI a), some (vI b), some (vI v)] [vI 0] S (up J 313 0 0) Q
            refine v_if_eq 53 dX5_holds_40 (by decide) (fun _ => ?_) (fun cQ => absurd cQ (by decide))
            refine v_iconst dX5_holds_53 (in_lit (by decide)) ?_
            exact v_iret dX5_holds_54 rfl (by decide) K
      · have K := K2 c3
        show V w 1 mX5_holds 25 [some (vR 313), some (vI h), some (vI a), some (vI b), some (vI v)] [vI 0] S (up J 313 0 0) Q
        refine v_if_eq 53 dX5_holds_25 (by decide) (fun _ => ?_) (fun cQ => absurd cQ (by decide))
        refine v_iconst dX5_holds_53 (in_lit (by decide)) ?_
        exact v_iret dX5_holds_54 rfl (by decide) K
    · have K := K2 c2
      show V w 1 mX5_holds 18 [some (vR 313), some (vI h), some (vI a), some (vI b), some (vI v)] [vI 0] S (up J 313 0 0) Q
      refine v_if_eq 53 dX5_holds_18 (by decide) (fun _ => ?_) (fun cQ => absurd cQ (by decide))
      refine v_iconst dX5_holds_53 (in_lit (by decide)) ?_
      exact v_iret dX5_holds_54 rfl (by decide) K
  · have K := K2 c1
    show V w 1 mX5_holds 11 [some (vR 313), some (vI h), some (vI a), some (vI b), some (vI v)] [vI 0] S (up J 313 0 0) Q
    refine v_if_eq 53 dX5_holds_11 (by decide) (fun _ => ?_) (fun cQ => absurd cQ (by decide))
    refine v_iconst dX5_holds_53 (in_lit (by decide)) ?_
    exact v_iret dX5_holds_54 rfl (by decide) K
theorem gX5_told_0 {w : Wd} {S : Sh} {J : Jm} {Q : Out → Sh → Jm → Prop} (hL : Lay S) (t : Int) (u : Int) (i : Int)
    (K : (-2147483648 ≤ (J 313 2) - 1 ∧ (J 313 2) - 1 ≤ 2147483647) ∧ Br (0 ≤ t ∧ t ≤ ((J 313 2) - 1)) ((t < 25) ∧ (-2147483648 ≤ (J 316 t.toNat) - 1 ∧ (J 316 t.toNat) - 1 ≤ 2147483647) ∧ Br (0 ≤ u ∧ u ≤ ((J 316 t.toNat) - 1)) ((-2147483648 ≤ 8 * t ∧ 8 * t ≤ 2147483647) ∧ (-2147483648 ≤ (8 * t) + u ∧ (8 * t) + u ≤ 2147483647) ∧ (0 ≤ (8 * t) + u) ∧ ((8 * t) + u < 200) ∧ (-2147483648 ≤ (J 317 ((8 * t) + u).toNat) - 1 ∧ (J 317 ((8 * t) + u).toNat) - 1 ≤ 2147483647) ∧ Br (0 ≤ i ∧ i ≤ ((J 317 ((8 * t) + u).toNat) - 1)) ((-2147483648 ≤ 6 * ((8 * t) + u) ∧ 6 * ((8 * t) + u) ≤ 2147483647) ∧ (-2147483648 ≤ (6 * ((8 * t) + u)) + i ∧ (6 * ((8 * t) + u)) + i ≤ 2147483647) ∧ (0 ≤ (6 * ((8 * t) + u)) + i) ∧ ((6 * ((8 * t) + u)) + i < 1200) ∧ Q (.inl (some (vI (J 318 ((6 * ((8 * t) + u)) + i).toNat)))) S (up J 313 0 0)) (Q (.inl (some (vI 0))) S (up (up J 313 0 0) 313 0 1))) (Q (.inl (some (vI 0))) S (up (up J 313 0 0) 313 0 1))) (Q (.inl (some (vI 0))) S (up (up J 313 0 0) 313 0 1))) :
    V w 1 mX5_told 0 (ent mX5_told [vR 313, vI t, vI u, vI i]) [] S J Q := by
  show V w 1 mX5_told 0 [some (vR 313), some (vI t), some (vI u), some (vI i)] [] S J Q
  refine v_aload_n dX5_told_0 rfl ?_
  refine v_iconst dX5_told_1 (in_lit (by decide)) ?_
  refine v_putI dX5_told_2 frX5_1_5 (fun _ _ _ h => by cases h; exact Or.inl rfl) rfl rfl zfit_int (L_313 hL).1 ?_
  show V w 1 mX5_told 5 [some (vR 313), some (vI t), some (vI u), some (vI i)] [] S (up J 313 0 0) Q
  refine v_iload_n dX5_told_5 rfl ?_
  refine v_iconst dX5_told_6 (in_lit (by decide)) ?_
  refine v_aload_n dX5_told_7 rfl ?_
  refine v_getI dX5_told_8 frX5_243_5 rfl rfl (L_313 hL).1 ?_
  show V w 1 mX5_told 11 [some (vR 313), some (vI t), some (vI u), some (vI i)] [vI (J 313 2), vI 0, vI t] S (up J 313 0 0) Q
  refine v_iconst dX5_told_11 (in_lit (by decide)) ?_
  obtain ⟨o1, K⟩ := K
  refine v_isub dX5_told_12 o1 ?_
  refine v_callS (d' := 0) (rest := []) [vI t, vI 0, vI ((J 313 2) - 1)] dX5_told_13 srX5_169 rfl (one_I (one_I (one_I one_nil))) (Nat.le_of_ble_eq_true rfl) (Nat.le_of_ble_eq_true rfl) (Nat.le_of_ble_eq_true rfl) ?_
  obtain ⟨K1, K2⟩ := K
  refine sX5_within hL t 0 ((J 313 2) - 1)  (fun c1 => ?_) (fun c1 => ?_)
  · have K := K1 c1
    show V w 1 mX5_told 16 [some (vR 313), some (vI t), some (vI u), some (vI i)] [vI 1] S (up J 313 0 0) Q
    refine v_if_eq 56 dX5_told_16 (by decide) (fun cQ => absurd cQ (by decide)) (fun _ => ?_)
    refine v_iload_n dX5_told_19 rfl ?_
    refine v_iconst dX5_told_20 (in_lit (by decide)) ?_
    refine v_aload_n dX5_told_21 rfl ?_
    refine v_getR dX5_told_22 frX5_20_5 rfl (L_313 hL).1 (LR_313_5 hL) (Or.inl rfl) ?_
    refine v_iload_n dX5_told_25 rfl ?_
    obtain ⟨o2, K⟩ := K
    refine ld_316 dX5_told_26 hL c1.1 o2 ?_
    show V w 1 mX5_told 27 [some (vR 313), some (vI t), some (vI u), some (vI i)] [vI (J 316 t.toNat), vI 0, vI u] S (up J 313 0 0) Q
    refine v_iconst dX5_told_27 (in_lit (by decide)) ?_
    obtain ⟨o3, K⟩ := K
    refine v_isub dX5_told_28 o3 ?_
    refine v_callS (d' := 0) (rest := []) [vI u, vI 0, vI ((J 316 t.toNat) - 1)] dX5_told_29 srX5_169 rfl (one_I (one_I (one_I one_nil))) (Nat.le_of_ble_eq_true rfl) (Nat.le_of_ble_eq_true rfl) (Nat.le_of_ble_eq_true rfl) ?_
    obtain ⟨K1, K2⟩ := K
    refine sX5_within hL u 0 ((J 316 t.toNat) - 1)  (fun c2 => ?_) (fun c2 => ?_)
    · have K := K1 c2
      show V w 1 mX5_told 32 [some (vR 313), some (vI t), some (vI u), some (vI i)] [vI 1] S (up J 313 0 0) Q
      refine v_if_eq 56 dX5_told_32 (by decide) (fun cQ => absurd cQ (by decide)) (fun _ => ?_)
      refine v_iload_n dX5_told_35 rfl ?_
      refine v_iconst dX5_told_36 (in_lit (by decide)) ?_
      refine v_aload_n dX5_told_37 rfl ?_
      refine v_getR dX5_told_38 frX5_23_5 rfl (L_313 hL).1 (LR_313_6 hL) (Or.inl rfl) ?_
      refine v_bipush dX5_told_41 (by decide) (in_lit (by decide)) ?_
      refine v_iload_n dX5_told_43 rfl ?_
      obtain ⟨o4, K⟩ := K
      refine v_imul dX5_told_44 o4 ?_
      refine v_iload_n dX5_told_45 rfl ?_
      obtain ⟨o5, K⟩ := K
      refine v_iadd dX5_told_46 o5 ?_
      obtain ⟨o6, K⟩ := K
      obtain ⟨o7, K⟩ := K
      refine ld_317 dX5_told_47 hL o6 o7 ?_
      show V w 1 mX5_told 48 [some (vR 313), some (vI t), some (vI u), some (vI i)] [vI (J 317 ((8 * t) + u).toNat), vI 0, vI i] S (up J 313 0 0) Q
      refine v_iconst dX5_told_48 (in_lit (by decide)) ?_
      obtain ⟨o8, K⟩ := K
      refine v_isub dX5_told_49 o8 ?_
      refine v_callS (d' := 0) (rest := []) [vI i, vI 0, vI ((J 317 ((8 * t) + u).toNat) - 1)] dX5_told_50 srX5_169 rfl (one_I (one_I (one_I one_nil))) (Nat.le_of_ble_eq_true rfl) (Nat.le_of_ble_eq_true rfl) (Nat.le_of_ble_eq_true rfl) ?_
      obtain ⟨K1, K2⟩ := K
      refine sX5_within hL i 0 ((J 317 ((8 * t) + u).toNat) - 1)  (fun c3 => ?_) (fun c3 => ?_)
      · have K := K1 c3
        show V w 1 mX5_told 53 [some (vR 313), some (vI t), some (vI u), some (vI i)] [vI 1] S (up J 313 0 0) Q
        refine v_if_ne 63 dX5_told_53 (by decide) (fun _ => ?_) (fun cQ => absurd cQ (by decide))
        refine v_aload_n dX5_told_63 rfl ?_
        refine v_getR dX5_told_64 frX5_26_5 rfl (L_313 hL).1 (LR_313_7 hL) (Or.inl rfl) ?_
        refine v_bipush dX5_told_67 (by decide) (in_lit (by decide)) ?_
        refine v_bipush dX5_told_69 (by decide) (in_lit (by decide)) ?_
        refine v_iload_n dX5_told_71 rfl ?_
        refine v_imul dX5_told_72 o4 ?_
        refine v_iload_n dX5_told_73 rfl ?_
        refine v_iadd dX5_told_74 o5 ?_
        obtain ⟨o9, K⟩ := K
        refine v_imul dX5_told_75 o9 ?_
        refine v_iload_n dX5_told_76 rfl ?_
        obtain ⟨o10, K⟩ := K
        refine v_iadd dX5_told_77 o10 ?_
        obtain ⟨o11, K⟩ := K
        obtain ⟨o12, K⟩ := K
        refine ld_318 dX5_told_78 hL o11 o12 ?_
        show V w 1 mX5_told 79 [some (vR 313), some (vI t), some (vI u), some (vI i)] [vI (J 318 ((6 * ((8 * t) + u)) + i).toNat)] S (up J 313 0 0) Q
        exact v_iret dX5_told_79 rfl rfl K
      · have K := K2 c3
        show V w 1 mX5_told 53 [some (vR 313), some (vI t), some (vI u), some (vI i)] [vI 0] S (up J 313 0 0) Q
        refine v_if_ne 63 dX5_told_53 (by decide) (fun cQ => absurd cQ (by decide)) (fun _ => ?_)
        refine v_aload_n dX5_told_56 rfl ?_
        refine v_iconst dX5_told_57 (in_lit (by decide)) ?_
        refine v_putI dX5_told_58 frX5_1_5 (fun _ _ _ h => by cases h; exact Or.inl rfl) rfl rfl zfit_int (L_313 hL).1 ?_
        show V w 1 mX5_told 61 [some (vR 313), some (vI t), some (vI u), some (vI i)] [] S (up (up J 313 0 0) 313 0 1) Q
        refine v_iconst dX5_told_61 (in_lit (by decide)) ?_
        exact v_iret dX5_told_62 rfl rfl K
    · have K := K2 c2
      show V w 1 mX5_told 32 [some (vR 313), some (vI t), some (vI u), some (vI i)] [vI 0] S (up J 313 0 0) Q
      refine v_if_eq 56 dX5_told_32 (by decide) (fun _ => ?_) (fun cQ => absurd cQ (by decide))
      refine v_aload_n dX5_told_56 rfl ?_
      refine v_iconst dX5_told_57 (in_lit (by decide)) ?_
      refine v_putI dX5_told_58 frX5_1_5 (fun _ _ _ h => by cases h; exact Or.inl rfl) rfl rfl zfit_int (L_313 hL).1 ?_
      show V w 1 mX5_told 61 [some (vR 313), some (vI t), some (vI u), some (vI i)] [] S (up (up J 313 0 0) 313 0 1) Q
      refine v_iconst dX5_told_61 (in_lit (by decide)) ?_
      exact v_iret dX5_told_62 rfl rfl K
  · have K := K2 c1
    show V w 1 mX5_told 16 [some (vR 313), some (vI t), some (vI u), some (vI i)] [vI 0] S (up J 313 0 0) Q
    refine v_if_eq 56 dX5_told_16 (by decide) (fun _ => ?_) (fun cQ => absurd cQ (by decide))
    refine v_aload_n dX5_told_56 rfl ?_
    refine v_iconst dX5_told_57 (in_lit (by decide)) ?_
    refine v_putI dX5_told_58 frX5_1_5 (fun _ _ _ h => by cases h; exact Or.inl rfl) rfl rfl zfit_int (L_313 hL).1 ?_
    show V w 1 mX5_told 61 [some (vR 313), some (vI t), some (vI u), some (vI i)] [] S (up (up J 313 0 0) 313 0 1) Q
    refine v_iconst dX5_told_61 (in_lit (by decide)) ?_
    exact v_iret dX5_told_62 rfl rfl K
theorem gX5_share_0 {w : Wd} {S : Sh} {J : Jm} {Q : Out → Sh → Jm → Prop} (hL : Lay S) (so : Int) (a : Int) (b : Int) (is : Int)
    (K : Br (0 ≤ so ∧ so ≤ 1) (Br (0 ≤ a ∧ a < 40) (Br (0 ≤ b ∧ b < 40) (Br (a = b) (Q (.inl (some (vI (-1)))) S (up J 313 0 0)) (Br (J 313 32 = 60) (Q (.inl (some (vI (-1)))) S (up J 313 0 0)) ((0 ≤ J 313 32) ∧ (J 313 32 < 60) ∧ (is = 0 ∨ is = 1) ∧ (-2147483648 ≤ (J 313 32) + 1 ∧ (J 313 32) + 1 ≤ 2147483647) ∧ (-2147483648 ≤ ((J 313 32) + 1) - 1 ∧ ((J 313 32) + 1) - 1 ≤ 2147483647) ∧ Q (.inl (some (vI (((J 313 32) + 1) - 1)))) S (up (up (up (up (up (up (up (up J 313 0 0) 333 (J 313 32).toNat so) 334 (J 313 32).toNat a) 335 (J 313 32).toNat b) 336 (J 313 32).toNat is) 337 (J 313 32).toNat (J 313 1)) 338 (J 313 32).toNat 1000000) 313 32 ((J 313 32) + 1))))) (Q (.inl (some (vI (-1)))) S (up J 313 0 0))) (Q (.inl (some (vI (-1)))) S (up J 313 0 0))) (Q (.inl (some (vI (-1)))) S (up J 313 0 0))) :
    V w 1 mX5_share 0 (ent mX5_share [vR 313, vI so, vI a, vI b, vI is]) [] S J Q := by
  show V w 1 mX5_share 0 [some (vR 313), some (vI so), some (vI a), some (vI b), some (vI is)] [] S J Q
  refine v_aload_n dX5_share_0 rfl ?_
  refine v_iconst dX5_share_1 (in_lit (by decide)) ?_
  refine v_putI dX5_share_2 frX5_1_5 (fun _ _ _ h => by cases h; exact Or.inl rfl) rfl rfl zfit_int (L_313 hL).1 ?_
  show V w 1 mX5_share 5 [some (vR 313), some (vI so), some (vI a), some (vI b), some (vI is)] [] S (up J 313 0 0) Q
  refine v_iload_n dX5_share_5 rfl ?_
  refine v_iconst dX5_share_6 (in_lit (by decide)) ?_
  refine v_iconst dX5_share_7 (in_lit (by decide)) ?_
  refine v_callS (d' := 0) (rest := []) [vI so, vI 0, vI 1] dX5_share_8 srX5_169 rfl (one_I (one_I (one_I one_nil))) (Nat.le_of_ble_eq_true rfl) (Nat.le_of_ble_eq_true rfl) (Nat.le_of_ble_eq_true rfl) ?_
  obtain ⟨K1, K2⟩ := K
  refine sX5_within hL so 0 1  (fun c1 => ?_) (fun c1 => ?_)
  · have K := K1 c1
    show V w 1 mX5_share 11 [some (vR 313), some (vI so), some (vI a), some (vI b), some (vI is)] [vI 1] S (up J 313 0 0) Q
    refine v_if_eq 42 dX5_share_11 (by decide) (fun cQ => absurd cQ (by decide)) (fun _ => ?_)
    refine v_iload_n dX5_share_14 rfl ?_
    refine v_callS (d' := 0) (rest := []) [vI a] dX5_share_15 srX5_288 rfl (one_I one_nil) (Nat.le_of_ble_eq_true rfl) (Nat.le_of_ble_eq_true rfl) (Nat.le_of_ble_eq_true rfl) ?_
    obtain ⟨K1, K2⟩ := K
    refine sX5_isSignNumber hL a  (fun c2 => ?_) (fun c2 => ?_)
    · have K := K1 c2
      show V w 1 mX5_share 18 [some (vR 313), some (vI so), some (vI a), some (vI b), some (vI is)] [vI 1] S (up J 313 0 0) Q
      refine v_if_eq 42 dX5_share_18 (by decide) (fun cQ => absurd cQ (by decide)) (fun _ => ?_)
      refine v_iload_n dX5_share_21 rfl ?_
      refine v_callS (d' := 0) (rest := []) [vI b] dX5_share_22 srX5_288 rfl (one_I one_nil) (Nat.le_of_ble_eq_true rfl) (Nat.le_of_ble_eq_true rfl) (Nat.le_of_ble_eq_true rfl) ?_
      obtain ⟨K1, K2⟩ := K
      refine sX5_isSignNumber hL b  (fun c3 => ?_) (fun c3 => ?_)
      · have K := K1 c3
        show V w 1 mX5_share 25 [some (vR 313), some (vI so), some (vI a), some (vI b), some (vI is)] [vI 1] S (up J 313 0 0) Q
        refine v_if_eq 42 dX5_share_25 (by decide) (fun cQ => absurd cQ (by decide)) (fun _ => ?_)
        refine v_iload_n dX5_share_28 rfl ?_
        refine v_iload_n dX5_share_29 rfl ?_
        obtain ⟨K1, K2⟩ := K
        refine v_icmp_eq 42 dX5_share_30 (by decide) (fun c4 => ?_) (fun c4 => ?_)
        · have K := K1 c4
          refine v_iconst dX5_share_42 (in_lit (by decide)) ?_
          exact v_iret dX5_share_43 rfl rfl K
        · have K := K2 c4
          refine v_aload_n dX5_share_33 rfl ?_
          refine v_getI dX5_share_34 frX5_304_5 rfl rfl (L_313 hL).1 ?_
          show V w 1 mX5_share 37 [some (vR 313), some (vI so), some (vI a), some (vI b), some (vI is)] [vI (J 313 32)] S (up J 313 0 0) Q
          refine v_bipush dX5_share_37 (by decide) (in_lit (by decide)) ?_
          obtain ⟨K1, K2⟩ := K
          refine v_icmp_ne 44 dX5_share_39 (by decide) (fun c5 => ?_) (fun c5 => ?_)
          · have K := K2 c5
            refine v_aload_n dX5_share_44 rfl ?_
            refine v_getR dX5_share_45 frX5_75_5 rfl (L_313 hL).1 (LR_313_33 hL) (Or.inl rfl) ?_
            refine v_aload_n dX5_share_48 rfl ?_
            refine v_getI dX5_share_49 frX5_304_5 rfl rfl (L_313 hL).1 ?_
            show V w 1 mX5_share 52 [some (vR 313), some (vI so), some (vI a), some (vI b), some (vI is)] [vI (J 313 32), vR 333] S (up J 313 0 0) Q
            refine v_iload_n dX5_share_52 rfl ?_
            obtain ⟨o1, K⟩ := K
            obtain ⟨o2, K⟩ := K
            refine st_333 dX5_share_53 hL o1 o2 ?_
            show V w 1 mX5_share 54 [some (vR 313), some (vI so), some (vI a), some (vI b), some (vI is)] [] S (up (up J 313 0 0) 333 (J 313 32).toNat so) Q
            refine v_aload_n dX5_share_54 rfl ?_
            refine v_getR dX5_share_55 frX5_78_5 rfl (L_313 hL).1 (LR_313_34 hL) (Or.inl rfl) ?_
            refine v_aload_n dX5_share_58 rfl ?_
            refine v_getI dX5_share_59 frX5_304_5 rfl rfl (L_313 hL).1 ?_
            show V w 1 mX5_share 62 [some (vR 313), some (vI so), some (vI a), some (vI b), some (vI is)] [vI (J 313 32), vR 334] S (up (up J 313 0 0) 333 (J 313 32).toNat so) Q
            refine v_iload_n dX5_share_62 rfl ?_
            refine st_334 dX5_share_63 hL o1 o2 ?_
            show V w 1 mX5_share 64 [some (vR 313), some (vI so), some (vI a), some (vI b), some (vI is)] [] S (up (up (up J 313 0 0) 333 (J 313 32).toNat so) 334 (J 313 32).toNat a) Q
            refine v_aload_n dX5_share_64 rfl ?_
            refine v_getR dX5_share_65 frX5_81_5 rfl (L_313 hL).1 (LR_313_35 hL) (Or.inl rfl) ?_
            refine v_aload_n dX5_share_68 rfl ?_
            refine v_getI dX5_share_69 frX5_304_5 rfl rfl (L_313 hL).1 ?_
            show V w 1 mX5_share 72 [some (vR 313), some (vI so), some (vI a), some (vI b), some (vI is)] [vI (J 313 32), vR 335] S (up (up (up J 313 0 0) 333 (J 313 32).toNat so) 334 (J 313 32).toNat a) Q
            refine v_iload_n dX5_share_72 rfl ?_
            refine st_335 dX5_share_73 hL o1 o2 ?_
            show V w 1 mX5_share 74 [some (vR 313), some (vI so), some (vI a), some (vI b), some (vI is)] [] S (up (up (up (up J 313 0 0) 333 (J 313 32).toNat so) 334 (J 313 32).toNat a) 335 (J 313 32).toNat b) Q
            refine v_aload_n dX5_share_74 rfl ?_
            refine v_getR dX5_share_75 frX5_84_5 rfl (L_313 hL).1 (LR_313_36 hL) (Or.inl rfl) ?_
            refine v_aload_n dX5_share_78 rfl ?_
            refine v_getI dX5_share_79 frX5_304_5 rfl rfl (L_313 hL).1 ?_
            show V w 1 mX5_share 82 [some (vR 313), some (vI so), some (vI a), some (vI b), some (vI is)] [vI (J 313 32), vR 336] S (up (up (up (up J 313 0 0) 333 (J 313 32).toNat so) 334 (J 313 32).toNat a) 335 (J 313 32).toNat b) Q
            refine v_iload dX5_share_82 rfl ?_
            obtain ⟨o3, K⟩ := K
            refine st_336 dX5_share_84 hL o1 o2 (zfit_bool o3) ?_
            show V w 1 mX5_share 85 [some (vR 313), some (vI so), some (vI a), some (vI b), some (vI is)] [] S (up (up (up (up (up J 313 0 0) 333 (J 313 32).toNat so) 334 (J 313 32).toNat a) 335 (J 313 32).toNat b) 336 (J 313 32).toNat is) Q
            refine v_aload_n dX5_share_85 rfl ?_
            refine v_getR dX5_share_86 frX5_88_5 rfl (L_313 hL).1 (LR_313_37 hL) (Or.inl rfl) ?_
            refine v_aload_n dX5_share_89 rfl ?_
            refine v_getI dX5_share_90 frX5_304_5 rfl rfl (L_313 hL).1 ?_
            show V w 1 mX5_share 93 [some (vR 313), some (vI so), some (vI a), some (vI b), some (vI is)] [vI (J 313 32), vR 337] S (up (up (up (up (up J 313 0 0) 333 (J 313 32).toNat so) 334 (J 313 32).toNat a) 335 (J 313 32).toNat b) 336 (J 313 32).toNat is) Q
            refine v_aload_n dX5_share_93 rfl ?_
            refine v_getI dX5_share_94 frX5_173_5 rfl rfl (L_313 hL).1 ?_
            show V w 1 mX5_share 97 [some (vR 313), some (vI so), some (vI a), some (vI b), some (vI is)] [vI (J 313 1), vI (J 313 32), vR 337] S (up (up (up (up (up J 313 0 0) 333 (J 313 32).toNat so) 334 (J 313 32).toNat a) 335 (J 313 32).toNat b) 336 (J 313 32).toNat is) Q
            refine st_337 dX5_share_97 hL o1 o2 ?_
            show V w 1 mX5_share 98 [some (vR 313), some (vI so), some (vI a), some (vI b), some (vI is)] [] S (up (up (up (up (up (up J 313 0 0) 333 (J 313 32).toNat so) 334 (J 313 32).toNat a) 335 (J 313 32).toNat b) 336 (J 313 32).toNat is) 337 (J 313 32).toNat (J 313 1)) Q
            refine v_aload_n dX5_share_98 rfl ?_
            refine v_getR dX5_share_99 frX5_91_5 rfl (L_313 hL).1 (LR_313_38 hL) (Or.inl rfl) ?_
            refine v_aload_n dX5_share_102 rfl ?_
            refine v_getI dX5_share_103 frX5_304_5 rfl rfl (L_313 hL).1 ?_
            show V w 1 mX5_share 106 [some (vR 313), some (vI so), some (vI a), some (vI b), some (vI is)] [vI (J 313 32), vR 338] S (up (up (up (up (up (up J 313 0 0) 333 (J 313 32).toNat so) 334 (J 313 32).toNat a) 335 (J 313 32).toNat b) 336 (J 313 32).toNat is) 337 (J 313 32).toNat (J 313 1)) Q
            refine v_ldc dX5_share_106 q1896 (z := 1000000) (by decide) ?_
            refine st_338 dX5_share_108 hL o1 o2 ?_
            show V w 1 mX5_share 109 [some (vR 313), some (vI so), some (vI a), some (vI b), some (vI is)] [] S (up (up (up (up (up (up (up J 313 0 0) 333 (J 313 32).toNat so) 334 (J 313 32).toNat a) 335 (J 313 32).toNat b) 336 (J 313 32).toNat is) 337 (J 313 32).toNat (J 313 1)) 338 (J 313 32).toNat 1000000) Q
            refine v_aload_n dX5_share_109 rfl ?_
            refine v_dup dX5_share_110 trivial ?_
            refine v_getI dX5_share_111 frX5_304_5 rfl rfl (L_313 hL).1 ?_
            show V w 1 mX5_share 114 [some (vR 313), some (vI so), some (vI a), some (vI b), some (vI is)] [vI (J 313 32), vR 313] S (up (up (up (up (up (up (up J 313 0 0) 333 (J 313 32).toNat so) 334 (J 313 32).toNat a) 335 (J 313 32).toNat b) 336 (J 313 32).toNat is) 337 (J 313 32).toNat (J 313 1)) 338 (J 313 32).toNat 1000000) Q
            refine v_iconst dX5_share_114 (in_lit (by decide)) ?_
            obtain ⟨o4, K⟩ := K
            refine v_iadd dX5_share_115 o4 ?_
            refine v_putI dX5_share_116 frX5_304_5 (fun _ _ _ h => by cases h; exact Or.inl rfl) rfl rfl zfit_int (L_313 hL).1 ?_
            show V w 1 mX5_share 119 [some (vR 313), some (vI so), some (vI a), some (vI b), some (vI is)] [] S (up (up (up (up (up (up (up (up J 313 0 0) 333 (J 313 32).toNat so) 334 (J 313 32).toNat a) 335 (J 313 32).toNat b) 336 (J 313 32).toNat is) 337 (J 313 32).toNat (J 313 1)) 338 (J 313 32).toNat 1000000) 313 32 ((J 313 32) + 1)) Q
            refine v_aload_n dX5_share_119 rfl ?_
            refine v_getI dX5_share_120 frX5_304_5 rfl rfl (L_313 hL).1 ?_
            show V w 1 mX5_share 123 [some (vR 313), some (vI so), some (vI a), some (vI b), some (vI is)] [vI ((J 313 32) + 1)] S (up (up (up (up (up (up (up (up J 313 0 0) 333 (J 313 32).toNat so) 334 (J 313 32).toNat a) 335 (J 313 32).toNat b) 336 (J 313 32).toNat is) 337 (J 313 32).toNat (J 313 1)) 338 (J 313 32).toNat 1000000) 313 32 ((J 313 32) + 1)) Q
            refine v_iconst dX5_share_123 (in_lit (by decide)) ?_
            obtain ⟨o5, K⟩ := K
            refine v_isub dX5_share_124 o5 ?_
            exact v_iret dX5_share_125 rfl rfl K
          · have K := K1 c5
            refine v_iconst dX5_share_42 (in_lit (by decide)) ?_
            exact v_iret dX5_share_43 rfl rfl K
      · have K := K2 c3
        show V w 1 mX5_share 25 [some (vR 313), some (vI so), some (vI a), some (vI b), some (vI is)] [vI 0] S (up J 313 0 0) Q
        refine v_if_eq 42 dX5_share_25 (by decide) (fun _ => ?_) (fun cQ => absurd cQ (by decide))
        refine v_iconst dX5_share_42 (in_lit (by decide)) ?_
        exact v_iret dX5_share_43 rfl rfl K
    · have K := K2 c2
      show V w 1 mX5_share 18 [some (vR 313), some (vI so), some (vI a), some (vI b), some (vI is)] [vI 0] S (up J 313 0 0) Q
      refine v_if_eq 42 dX5_share_18 (by decide) (fun _ => ?_) (fun cQ => absurd cQ (by decide))
      refine v_iconst dX5_share_42 (in_lit (by decide)) ?_
      exact v_iret dX5_share_43 rfl rfl K
  · have K := K2 c1
    show V w 1 mX5_share 11 [some (vR 313), some (vI so), some (vI a), some (vI b), some (vI is)] [vI 0] S (up J 313 0 0) Q
    refine v_if_eq 42 dX5_share_11 (by decide) (fun _ => ?_) (fun cQ => absurd cQ (by decide))
    refine v_iconst dX5_share_42 (in_lit (by decide)) ?_
    exact v_iret dX5_share_43 rfl rfl K
theorem gX5_letter_0 {w : Wd} {S : Sh} {J : Jm} {Q : Out → Sh → Jm → Prop} (hL : Lay S) (i : Int)
    (K : (-2147483648 ≤ (J 313 75) - 1 ∧ (J 313 75) - 1 ≤ 2147483647) ∧ Br (0 ≤ i ∧ i ≤ ((J 313 75) - 1)) ((i < 12) ∧ Q (.inl (some (vI (J 363 i.toNat)))) S (up J 313 0 0)) (Q (.inl (some (vI (-1)))) S (up J 313 0 0))) :
    V w 1 mX5_letter 0 (ent mX5_letter [vR 313, vI i]) [] S J Q := by
  show V w 1 mX5_letter 0 [some (vR 313), some (vI i)] [] S J Q
  refine v_aload_n dX5_letter_0 rfl ?_
  refine v_iconst dX5_letter_1 (in_lit (by decide)) ?_
  refine v_putI dX5_letter_2 frX5_1_5 (fun _ _ _ h => by cases h; exact Or.inl rfl) rfl rfl zfit_int (L_313 hL).1 ?_
  show V w 1 mX5_letter 5 [some (vR 313), some (vI i)] [] S (up J 313 0 0) Q
  refine v_iload_n dX5_letter_5 rfl ?_
  refine v_iconst dX5_letter_6 (in_lit (by decide)) ?_
  refine v_aload_n dX5_letter_7 rfl ?_
  refine v_getI dX5_letter_8 frX5_447_5 rfl rfl (L_313 hL).1 ?_
  show V w 1 mX5_letter 11 [some (vR 313), some (vI i)] [vI (J 313 75), vI 0, vI i] S (up J 313 0 0) Q
  refine v_iconst dX5_letter_11 (in_lit (by decide)) ?_
  obtain ⟨o1, K⟩ := K
  refine v_isub dX5_letter_12 o1 ?_
  refine v_callS (d' := 0) (rest := []) [vI i, vI 0, vI ((J 313 75) - 1)] dX5_letter_13 srX5_169 rfl (one_I (one_I (one_I one_nil))) (Nat.le_of_ble_eq_true rfl) (Nat.le_of_ble_eq_true rfl) (Nat.le_of_ble_eq_true rfl) ?_
  obtain ⟨K1, K2⟩ := K
  refine sX5_within hL i 0 ((J 313 75) - 1)  (fun c1 => ?_) (fun c1 => ?_)
  · have K := K1 c1
    show V w 1 mX5_letter 16 [some (vR 313), some (vI i)] [vI 1] S (up J 313 0 0) Q
    refine v_if_eq 28 dX5_letter_16 (by decide) (fun cQ => absurd cQ (by decide)) (fun _ => ?_)
    refine v_aload_n dX5_letter_19 rfl ?_
    refine v_getR dX5_letter_20 frX5_166_5 rfl (L_313 hL).1 (LR_313_74 hL) (Or.inl rfl) ?_
    refine v_iload_n dX5_letter_23 rfl ?_
    obtain ⟨o2, K⟩ := K
    refine ld_363 dX5_letter_24 hL c1.1 o2 ?_
    show V w 1 mX5_letter 25 [some (vR 313), some (vI i)] [vI (J 363 i.toNat)] S (up J 313 0 0) Q
    refine v_goto 29 dX5_letter_25 (by decide) ?_
    exact v_iret dX5_letter_29 rfl rfl K
  · have K := K2 c1
    show V w 1 mX5_letter 16 [some (vR 313), some (vI i)] [vI 0] S (up J 313 0 0) Q
    refine v_if_eq 28 dX5_letter_16 (by decide) (fun _ => ?_) (fun cQ => absurd cQ (by decide))
    refine v_iconst dX5_letter_28 (in_lit (by decide)) ?_
    exact v_iret dX5_letter_29 rfl rfl K
theorem gX5_away_0 {w : Wd} {S : Sh} {J : Jm} {Q : Out → Sh → Jm → Prop} (hL : Lay S) (what : Int) (k : Int)
    (K : Br (what = 0) ((-2147483648 ≤ (J 313 2) - 1 ∧ (J 313 2) - 1 ≤ 2147483647) ∧ Br (0 ≤ k ∧ k ≤ ((J 313 2) - 1)) ((k < 24) ∧ Br (J 315 k.toNat = 1000000) (Q (.inl (some (vI 1))) S (up (up J 313 0 0) 315 k.toNat (J 313 1))) (Q (.inl (some (vI 0))) S (up J 313 0 0))) (Q (.inl (some (vI 0))) S (up J 313 0 0))) (Br (what = 1) ((-2147483648 ≤ (J 313 32) - 1 ∧ (J 313 32) - 1 ≤ 2147483647) ∧ Br (0 ≤ k ∧ k ≤ ((J 313 32) - 1)) ((k < 60) ∧ Br (J 338 k.toNat = 1000000) (Q (.inl (some (vI 1))) S (up (up J 313 0 0) 338 k.toNat (J 313 1))) (Q (.inl (some (vI 0))) S (up J 313 0 0))) (Q (.inl (some (vI 0))) S (up J 313 0 0))) (Br (what = 2) ((-2147483648 ≤ (J 313 55) - 1 ∧ (J 313 55) - 1 ≤ 2147483647) ∧ Br (0 ≤ k ∧ k ≤ ((J 313 55) - 1)) ((k < 6) ∧ Br (J 352 k.toNat = 1000000) (Q (.inl (some (vI 1))) S (up (up J 313 0 0) 352 k.toNat (J 313 1))) (Q (.inl (some (vI 0))) S (up J 313 0 0))) (Q (.inl (some (vI 0))) S (up J 313 0 0))) (Br (0 ≤ k ∧ k ≤ (-1)) ((k < 6) ∧ Br (J 352 k.toNat = 1000000) (Q (.inl (some (vI 1))) S (up (up J 313 0 0) 352 k.toNat (J 313 1))) (Q (.inl (some (vI 0))) S (up J 313 0 0))) (Q (.inl (some (vI 0))) S (up J 313 0 0)))))) :
    V w 1 mX5_away 0 (ent mX5_away [vR 313, vI what, vI k]) [] S J Q := by
  show V w 1 mX5_away 0 [some (vR 313), some (vI what), some (vI k), none, none] [] S J Q
  refine v_aload_n dX5_away_0 rfl ?_
  refine v_iconst dX5_away_1 (in_lit (by decide)) ?_
  refine v_putI dX5_away_2 frX5_1_5 (fun _ _ _ h => by cases h; exact Or.inl rfl) rfl rfl zfit_int (L_313 hL).1 ?_
  show V w 1 mX5_away 5 [some (vR 313), some (vI what), some (vI k), none, none] [] S (up J 313 0 0) Q
  refine v_iload_n dX5_away_5 rfl ?_
  obtain ⟨K1, K2⟩ := K
  refine v_if_ne 16 dX5_away_6 (by decide) (fun c1 => ?_) (fun c1 => ?_)
  · have K := K2 c1
    refine v_iload_n dX5_away_16 rfl ?_
    refine v_iconst dX5_away_17 (in_lit (by decide)) ?_
    obtain ⟨K1, K2⟩ := K
    refine v_icmp_ne 28 dX5_away_18 (by decide) (fun c2 => ?_) (fun c2 => ?_)
    · have K := K2 c2
      refine v_iload_n dX5_away_28 rfl ?_
      refine v_iconst dX5_away_29 (in_lit (by decide)) ?_
      obtain ⟨K1, K2⟩ := K
      refine v_icmp_ne 40 dX5_away_30 (by decide) (fun c3 => ?_) (fun c3 => ?_)
      · have K := K2 c3
        refine v_iconst dX5_away_40 (in_lit (by decide)) ?_
        refine v_istore_n dX5_away_41 (Nat.le_of_ble_eq_true rfl) ?_
        show V w 1 mX5_away 42 [some (vR 313), some (vI what), some (vI k), some (vI 0), none] [] S (up J 313 0 0) Q
        refine v_iload_n dX5_away_42 rfl ?_
        refine v_iconst dX5_away_43 (in_lit (by decide)) ?_
        refine v_iload_n dX5_away_44 rfl ?_
        refine v_iconst dX5_away_45 (in_lit (by decide)) ?_
        refine v_isub dX5_away_46 (in_lit (by decide)) ?_
        show V w 1 mX5_away 47 [some (vR 313), some (vI what), some (vI k), some (vI 0), none] [vI (-1), vI 0, vI k] S (up J 313 0 0) Q
        refine v_callS (d' := 0) (rest := []) [vI k, vI 0, vI (-1)] dX5_away_47 srX5_169 rfl (one_I (one_I (one_I one_nil))) (Nat.le_of_ble_eq_true rfl) (Nat.le_of_ble_eq_true rfl) (Nat.le_of_ble_eq_true rfl) ?_
        obtain ⟨K1, K2⟩ := K
        refine sX5_within hL k 0 (-1)  (fun c4 => ?_) (fun c4 => ?_)
        · have K := K1 c4
          show V w 1 mX5_away 50 [some (vR 313), some (vI what), some (vI k), some (vI 0), none] [vI 1] S (up J 313 0 0) Q
          refine v_if_ne 55 dX5_away_50 (by decide) (fun _ => ?_) (fun cQ => absurd cQ (by decide))
          refine v_iload_n dX5_away_55 rfl ?_
          refine v_if_ne 66 dX5_away_56 (by decide) (fun _ => ?_) (fun cQ => absurd cQ c1)
          refine v_iload_n dX5_away_66 rfl ?_
          refine v_iconst dX5_away_67 (in_lit (by decide)) ?_
          refine v_icmp_ne 78 dX5_away_68 (by decide) (fun _ => ?_) (fun cQ => absurd cQ c2)
          refine v_aload_n dX5_away_78 rfl ?_
          refine v_getR dX5_away_79 frX5_133_5 rfl (L_313 hL).1 (LR_313_60 hL) (Or.inl rfl) ?_
          refine v_astore dX5_away_82 (Nat.le_of_ble_eq_true rfl) ?_
          show V w 1 mX5_away 84 [some (vR 313), some (vI what), some (vI k), some (vI 0), some (vR 352)] [] S (up J 313 0 0) Q
          refine v_aload dX5_away_84 rfl ?_
          refine v_iload_n dX5_away_86 rfl ?_
          obtain ⟨o1, K⟩ := K
          refine ld_352 dX5_away_87 hL c4.1 o1 ?_
          show V w 1 mX5_away 88 [some (vR 313), some (vI what), some (vI k), some (vI 0), some (vR 352)] [vI (J 352 k.toNat)] S (up J 313 0 0) Q
          refine v_ldc dX5_away_88 q1896 (z := 1000000) (by decide) ?_
          obtain ⟨K1, K2⟩ := K
          refine v_icmp_eq 95 dX5_away_90 (by decide) (fun c5 => ?_) (fun c5 => ?_)
          · have K := K1 c5
            refine v_aload dX5_away_95 rfl ?_
            refine v_iload_n dX5_away_97 rfl ?_
            refine v_aload_n dX5_away_98 rfl ?_
            refine v_getI dX5_away_99 frX5_173_5 rfl rfl (L_313 hL).1 ?_
            show V w 1 mX5_away 102 [some (vR 313), some (vI what), some (vI k), some (vI 0), some (vR 352)] [vI (J 313 1), vI k, vR 352] S (up J 313 0 0) Q
            refine st_352 dX5_away_102 hL c4.1 o1 ?_
            show V w 1 mX5_away 103 [some (vR 313), some (vI what), some (vI k), some (vI 0), some (vR 352)] [] S (up (up J 313 0 0) 352 k.toNat (J 313 1)) Q
            refine v_iconst dX5_away_103 (in_lit (by decide)) ?_
            exact v_iret dX5_away_104 rfl (by decide) K
          · have K := K2 c5
            refine v_iconst dX5_away_93 (in_lit (by decide)) ?_
            exact v_iret dX5_away_94 rfl (by decide) K
        · have K := K2 c4
          show V w 1 mX5_away 50 [some (vR 313), some (vI what), some (vI k), some (vI 0), none] [vI 0] S (up J 313 0 0) Q
          refine v_if_ne 55 dX5_away_50 (by decide) (fun cQ => absurd cQ (by decide)) (fun _ => ?_)
          refine v_iconst dX5_away_53 (in_lit (by decide)) ?_
          exact v_iret dX5_away_54 rfl (by decide) K
      · have K := K1 c3
        refine v_aload_n dX5_away_33 rfl ?_
        refine v_getI dX5_away_34 frX5_383_5 rfl rfl (L_313 hL).1 ?_
        show V w 1 mX5_away 37 [some (vR 313), some (vI what), some (vI k), none, none] [vI (J 313 55)] S (up J 313 0 0) Q
        refine v_goto 41 dX5_away_37 (by decide) ?_
        refine v_istore_n dX5_away_41 (Nat.le_of_ble_eq_true rfl) ?_
        show V w 1 mX5_away 42 [some (vR 313), some (vI what), some (vI k), some (vI (J 313 55)), none] [] S (up J 313 0 0) Q
        refine v_iload_n dX5_away_42 rfl ?_
        refine v_iconst dX5_away_43 (in_lit (by decide)) ?_
        refine v_iload_n dX5_away_44 rfl ?_
        refine v_iconst dX5_away_45 (in_lit (by decide)) ?_
        obtain ⟨o2, K⟩ := K
        refine v_isub dX5_away_46 o2 ?_
        refine v_callS (d' := 0) (rest := []) [vI k, vI 0, vI ((J 313 55) - 1)] dX5_away_47 srX5_169 rfl (one_I (one_I (one_I one_nil))) (Nat.le_of_ble_eq_true rfl) (Nat.le_of_ble_eq_true rfl) (Nat.le_of_ble_eq_true rfl) ?_
        obtain ⟨K1, K2⟩ := K
        refine sX5_within hL k 0 ((J 313 55) - 1)  (fun c6 => ?_) (fun c6 => ?_)
        · have K := K1 c6
          show V w 1 mX5_away 50 [some (vR 313), some (vI what), some (vI k), some (vI (J 313 55)), none] [vI 1] S (up J 313 0 0) Q
          refine v_if_ne 55 dX5_away_50 (by decide) (fun _ => ?_) (fun cQ => absurd cQ (by decide))
          refine v_iload_n dX5_away_55 rfl ?_
          refine v_if_ne 66 dX5_away_56 (by decide) (fun _ => ?_) (fun cQ => absurd cQ c1)
          refine v_iload_n dX5_away_66 rfl ?_
          refine v_iconst dX5_away_67 (in_lit (by decide)) ?_
          refine v_icmp_ne 78 dX5_away_68 (by decide) (fun _ => ?_) (fun cQ => absurd cQ c2)
          refine v_aload_n dX5_away_78 rfl ?_
          refine v_getR dX5_away_79 frX5_133_5 rfl (L_313 hL).1 (LR_313_60 hL) (Or.inl rfl) ?_
          refine v_astore dX5_away_82 (Nat.le_of_ble_eq_true rfl) ?_
          show V w 1 mX5_away 84 [some (vR 313), some (vI what), some (vI k), some (vI (J 313 55)), some (vR 352)] [] S (up J 313 0 0) Q
          refine v_aload dX5_away_84 rfl ?_
          refine v_iload_n dX5_away_86 rfl ?_
          obtain ⟨o3, K⟩ := K
          refine ld_352 dX5_away_87 hL c6.1 o3 ?_
          show V w 1 mX5_away 88 [some (vR 313), some (vI what), some (vI k), some (vI (J 313 55)), some (vR 352)] [vI (J 352 k.toNat)] S (up J 313 0 0) Q
          refine v_ldc dX5_away_88 q1896 (z := 1000000) (by decide) ?_
          obtain ⟨K1, K2⟩ := K
          refine v_icmp_eq 95 dX5_away_90 (by decide) (fun c7 => ?_) (fun c7 => ?_)
          · have K := K1 c7
            refine v_aload dX5_away_95 rfl ?_
            refine v_iload_n dX5_away_97 rfl ?_
            refine v_aload_n dX5_away_98 rfl ?_
            refine v_getI dX5_away_99 frX5_173_5 rfl rfl (L_313 hL).1 ?_
            show V w 1 mX5_away 102 [some (vR 313), some (vI what), some (vI k), some (vI (J 313 55)), some (vR 352)] [vI (J 313 1), vI k, vR 352] S (up J 313 0 0) Q
            refine st_352 dX5_away_102 hL c6.1 o3 ?_
            show V w 1 mX5_away 103 [some (vR 313), some (vI what), some (vI k), some (vI (J 313 55)), some (vR 352)] [] S (up (up J 313 0 0) 352 k.toNat (J 313 1)) Q
            refine v_iconst dX5_away_103 (in_lit (by decide)) ?_
            exact v_iret dX5_away_104 rfl (by decide) K
          · have K := K2 c7
            refine v_iconst dX5_away_93 (in_lit (by decide)) ?_
            exact v_iret dX5_away_94 rfl (by decide) K
        · have K := K2 c6
          show V w 1 mX5_away 50 [some (vR 313), some (vI what), some (vI k), some (vI (J 313 55)), none] [vI 0] S (up J 313 0 0) Q
          refine v_if_ne 55 dX5_away_50 (by decide) (fun cQ => absurd cQ (by decide)) (fun _ => ?_)
          refine v_iconst dX5_away_53 (in_lit (by decide)) ?_
          exact v_iret dX5_away_54 rfl (by decide) K
    · have K := K1 c2
      refine v_aload_n dX5_away_21 rfl ?_
      refine v_getI dX5_away_22 frX5_304_5 rfl rfl (L_313 hL).1 ?_
      show V w 1 mX5_away 25 [some (vR 313), some (vI what), some (vI k), none, none] [vI (J 313 32)] S (up J 313 0 0) Q
      refine v_goto 41 dX5_away_25 (by decide) ?_
      refine v_istore_n dX5_away_41 (Nat.le_of_ble_eq_true rfl) ?_
      show V w 1 mX5_away 42 [some (vR 313), some (vI what), some (vI k), some (vI (J 313 32)), none] [] S (up J 313 0 0) Q
      refine v_iload_n dX5_away_42 rfl ?_
      refine v_iconst dX5_away_43 (in_lit (by decide)) ?_
      refine v_iload_n dX5_away_44 rfl ?_
      refine v_iconst dX5_away_45 (in_lit (by decide)) ?_
      obtain ⟨o4, K⟩ := K
      refine v_isub dX5_away_46 o4 ?_
      refine v_callS (d' := 0) (rest := []) [vI k, vI 0, vI ((J 313 32) - 1)] dX5_away_47 srX5_169 rfl (one_I (one_I (one_I one_nil))) (Nat.le_of_ble_eq_true rfl) (Nat.le_of_ble_eq_true rfl) (Nat.le_of_ble_eq_true rfl) ?_
      obtain ⟨K1, K2⟩ := K
      refine sX5_within hL k 0 ((J 313 32) - 1)  (fun c8 => ?_) (fun c8 => ?_)
      · have K := K1 c8
        show V w 1 mX5_away 50 [some (vR 313), some (vI what), some (vI k), some (vI (J 313 32)), none] [vI 1] S (up J 313 0 0) Q
        refine v_if_ne 55 dX5_away_50 (by decide) (fun _ => ?_) (fun cQ => absurd cQ (by decide))
        refine v_iload_n dX5_away_55 rfl ?_
        refine v_if_ne 66 dX5_away_56 (by decide) (fun _ => ?_) (fun cQ => absurd cQ c1)
        refine v_iload_n dX5_away_66 rfl ?_
        refine v_iconst dX5_away_67 (in_lit (by decide)) ?_
        refine v_icmp_ne 78 dX5_away_68 (by decide) (fun cQ => absurd c2 cQ) (fun _ => ?_)
        refine v_aload_n dX5_away_71 rfl ?_
        refine v_getR dX5_away_72 frX5_91_5 rfl (L_313 hL).1 (LR_313_38 hL) (Or.inl rfl) ?_
        refine v_goto 82 dX5_away_75 (by decide) ?_
        refine v_astore dX5_away_82 (Nat.le_of_ble_eq_true rfl) ?_
        show V w 1 mX5_away 84 [some (vR 313), some (vI what), some (vI k), some (vI (J 313 32)), some (vR 338)] [] S (up J 313 0 0) Q
        refine v_aload dX5_away_84 rfl ?_
        refine v_iload_n dX5_away_86 rfl ?_
        obtain ⟨o5, K⟩ := K
        refine ld_338 dX5_away_87 hL c8.1 o5 ?_
        show V w 1 mX5_away 88 [some (vR 313), some (vI what), some (vI k), some (vI (J 313 32)), some (vR 338)] [vI (J 338 k.toNat)] S (up J 313 0 0) Q
        refine v_ldc dX5_away_88 q1896 (z := 1000000) (by decide) ?_
        obtain ⟨K1, K2⟩ := K
        refine v_icmp_eq 95 dX5_away_90 (by decide) (fun c9 => ?_) (fun c9 => ?_)
        · have K := K1 c9
          refine v_aload dX5_away_95 rfl ?_
          refine v_iload_n dX5_away_97 rfl ?_
          refine v_aload_n dX5_away_98 rfl ?_
          refine v_getI dX5_away_99 frX5_173_5 rfl rfl (L_313 hL).1 ?_
          show V w 1 mX5_away 102 [some (vR 313), some (vI what), some (vI k), some (vI (J 313 32)), some (vR 338)] [vI (J 313 1), vI k, vR 338] S (up J 313 0 0) Q
          refine st_338 dX5_away_102 hL c8.1 o5 ?_
          show V w 1 mX5_away 103 [some (vR 313), some (vI what), some (vI k), some (vI (J 313 32)), some (vR 338)] [] S (up (up J 313 0 0) 338 k.toNat (J 313 1)) Q
          refine v_iconst dX5_away_103 (in_lit (by decide)) ?_
          exact v_iret dX5_away_104 rfl (by decide) K
        · have K := K2 c9
          refine v_iconst dX5_away_93 (in_lit (by decide)) ?_
          exact v_iret dX5_away_94 rfl (by decide) K
      · have K := K2 c8
        show V w 1 mX5_away 50 [some (vR 313), some (vI what), some (vI k), some (vI (J 313 32)), none] [vI 0] S (up J 313 0 0) Q
        refine v_if_ne 55 dX5_away_50 (by decide) (fun cQ => absurd cQ (by decide)) (fun _ => ?_)
        refine v_iconst dX5_away_53 (in_lit (by decide)) ?_
        exact v_iret dX5_away_54 rfl (by decide) K
  · have K := K1 c1
    refine v_aload_n dX5_away_9 rfl ?_
    refine v_getI dX5_away_10 frX5_243_5 rfl rfl (L_313 hL).1 ?_
    show V w 1 mX5_away 13 [some (vR 313), some (vI what), some (vI k), none, none] [vI (J 313 2)] S (up J 313 0 0) Q
    refine v_goto 41 dX5_away_13 (by decide) ?_
    refine v_istore_n dX5_away_41 (Nat.le_of_ble_eq_true rfl) ?_
    show V w 1 mX5_away 42 [some (vR 313), some (vI what), some (vI k), some (vI (J 313 2)), none] [] S (up J 313 0 0) Q
    refine v_iload_n dX5_away_42 rfl ?_
    refine v_iconst dX5_away_43 (in_lit (by decide)) ?_
    refine v_iload_n dX5_away_44 rfl ?_
    refine v_iconst dX5_away_45 (in_lit (by decide)) ?_
    obtain ⟨o6, K⟩ := K
    refine v_isub dX5_away_46 o6 ?_
    refine v_callS (d' := 0) (rest := []) [vI k, vI 0, vI ((J 313 2) - 1)] dX5_away_47 srX5_169 rfl (one_I (one_I (one_I one_nil))) (Nat.le_of_ble_eq_true rfl) (Nat.le_of_ble_eq_true rfl) (Nat.le_of_ble_eq_true rfl) ?_
    obtain ⟨K1, K2⟩ := K
    refine sX5_within hL k 0 ((J 313 2) - 1)  (fun c10 => ?_) (fun c10 => ?_)
    · have K := K1 c10
      show V w 1 mX5_away 50 [some (vR 313), some (vI what), some (vI k), some (vI (J 313 2)), none] [vI 1] S (up J 313 0 0) Q
      refine v_if_ne 55 dX5_away_50 (by decide) (fun _ => ?_) (fun cQ => absurd cQ (by decide))
      refine v_iload_n dX5_away_55 rfl ?_
      refine v_if_ne 66 dX5_away_56 (by decide) (fun cQ => absurd c1 cQ) (fun _ => ?_)
      refine v_aload_n dX5_away_59 rfl ?_
      refine v_getR dX5_away_60 frX5_17_5 rfl (L_313 hL).1 (LR_313_4 hL) (Or.inl rfl) ?_
      refine v_goto 82 dX5_away_63 (by decide) ?_
      refine v_astore dX5_away_82 (Nat.le_of_ble_eq_true rfl) ?_
      show V w 1 mX5_away 84 [some (vR 313), some (vI what), some (vI k), some (vI (J 313 2)), some (vR 315)] [] S (up J 313 0 0) Q
      refine v_aload dX5_away_84 rfl ?_
      refine v_iload_n dX5_away_86 rfl ?_
      obtain ⟨o7, K⟩ := K
      refine ld_315 dX5_away_87 hL c10.1 o7 ?_
      show V w 1 mX5_away 88 [some (vR 313), some (vI what), some (vI k), some (vI (J 313 2)), some (vR 315)] [vI (J 315 k.toNat)] S (up J 313 0 0) Q
      refine v_ldc dX5_away_88 q1896 (z := 1000000) (by decide) ?_
      obtain ⟨K1, K2⟩ := K
      refine v_icmp_eq 95 dX5_away_90 (by decide) (fun c11 => ?_) (fun c11 => ?_)
      · have K := K1 c11
        refine v_aload dX5_away_95 rfl ?_
        refine v_iload_n dX5_away_97 rfl ?_
        refine v_aload_n dX5_away_98 rfl ?_
        refine v_getI dX5_away_99 frX5_173_5 rfl rfl (L_313 hL).1 ?_
        show V w 1 mX5_away 102 [some (vR 313), some (vI what), some (vI k), some (vI (J 313 2)), some (vR 315)] [vI (J 313 1), vI k, vR 315] S (up J 313 0 0) Q
        refine st_315 dX5_away_102 hL c10.1 o7 ?_
        show V w 1 mX5_away 103 [some (vR 313), some (vI what), some (vI k), some (vI (J 313 2)), some (vR 315)] [] S (up (up J 313 0 0) 315 k.toNat (J 313 1)) Q
        refine v_iconst dX5_away_103 (in_lit (by decide)) ?_
        exact v_iret dX5_away_104 rfl (by decide) K
      · have K := K2 c11
        refine v_iconst dX5_away_93 (in_lit (by decide)) ?_
        exact v_iret dX5_away_94 rfl (by decide) K
    · have K := K2 c10
      show V w 1 mX5_away 50 [some (vR 313), some (vI what), some (vI k), some (vI (J 313 2)), none] [vI 0] S (up J 313 0 0) Q
      refine v_if_ne 55 dX5_away_50 (by decide) (fun cQ => absurd cQ (by decide)) (fun _ => ?_)
      refine v_iconst dX5_away_53 (in_lit (by decide)) ?_
      exact v_iret dX5_away_54 rfl (by decide) K
theorem gX5_feed_0 {w : Wd} {S : Sh} {J : Jm} {Q : Out → Sh → Jm → Prop} (hL : Lay S) (a : Int) (b : Int) (c : Int) (d9 : Int) (e9 : Int)
    (K : (-2147483648 ≤ (J 313 16) + 20 ∧ (J 313 16) + 20 ≤ 2147483647) ∧ Br ((J 313 16) + 20 ≤ 300) (V w 0 mX5_feed 23 [some (vR 313), some (vI a), some (vI b), some (vI c), some (vI d9), some (vI e9), some (vI 0), none] [] S (up J 313 0 0) Q) (Q (.inl (some (vI (-1)))) S (up J 313 0 0))) :
    V w 0 mX5_feed 0 (ent mX5_feed [vR 313, vI a, vI b, vI c, vI d9, vI e9]) [] S J Q := by
  show V w 0 mX5_feed 0 [some (vR 313), some (vI a), some (vI b), some (vI c), some (vI d9), some (vI e9), none, none] [] S J Q
  refine v_aload_n dX5_feed_0 rfl ?_
  refine v_iconst dX5_feed_1 (in_lit (by decide)) ?_
  refine v_putI dX5_feed_2 frX5_1_5 (fun _ _ _ h => by cases h; exact Or.inl rfl) rfl rfl zfit_int (L_313 hL).1 ?_
  show V w 0 mX5_feed 5 [some (vR 313), some (vI a), some (vI b), some (vI c), some (vI d9), some (vI e9), none, none] [] S (up J 313 0 0) Q
  refine v_aload_n dX5_feed_5 rfl ?_
  refine v_getI dX5_feed_6 frX5_180_5 rfl rfl (L_313 hL).1 ?_
  show V w 0 mX5_feed 9 [some (vR 313), some (vI a), some (vI b), some (vI c), some (vI d9), some (vI e9), none, none] [vI (J 313 16)] S (up J 313 0 0) Q
  refine v_bipush dX5_feed_9 (by decide) (in_lit (by decide)) ?_
  obtain ⟨o1, K⟩ := K
  refine v_iadd dX5_feed_11 o1 ?_
  refine v_sipush dX5_feed_12 (by decide) (in_lit (by decide)) ?_
  obtain ⟨K1, K2⟩ := K
  refine v_icmp_le 20 dX5_feed_15 (by decide) (fun c1 => ?_) (fun c1 => ?_)
  · have K := K1 c1
    refine v_iconst dX5_feed_20 (in_lit (by decide)) ?_
    refine v_istore dX5_feed_21 (Nat.le_of_ble_eq_true rfl) ?_
    show V w 0 mX5_feed 23 [some (vR 313), some (vI a), some (vI b), some (vI c), some (vI d9), some (vI e9), some (vI 0), none] [] S (up J 313 0 0) Q
    exact K
  · have K := K2 c1
    refine v_iconst dX5_feed_18 (in_lit (by decide)) ?_
    exact v_iret dX5_feed_19 rfl rfl K
theorem gX5_feed_23 {w : Wd} {S : Sh} {J : Jm} {Q : Out → Sh → Jm → Prop} (hL : Lay S) (a : Int) (b : Int) (c : Int) (d9 : Int) (e9 : Int) (k : Nat)
    (K : Br (20 ≤ ((k : Nat) : Int)) (Q (.inl (some (vI (J 313 16)))) S J) (Br (4 ≤ ((k : Nat) : Int)) (Br (8 ≤ ((k : Nat) : Int)) (Br (12 ≤ ((k : Nat) : Int)) (Br (16 ≤ ((k : Nat) : Int)) ((-2147483648 ≤ 8 * ((k % 4 : Nat) : Int) ∧ 8 * ((k % 4 : Nat) : Int) ≤ 2147483647) ∧ (-2147483648 ≤ 24 - ((8 * (k % 4) : Nat) : Int) ∧ 24 - ((8 * (k % 4) : Nat) : Int) ≤ 2147483647) ∧ (0 ≤ J 313 16) ∧ (J 313 16 < 300) ∧ (-2147483648 ≤ (J 313 16) + 1 ∧ (J 313 16) + 1 ≤ 2147483647) ∧ (-2147483648 ≤ ((k : Nat) : Int) + 1 ∧ ((k : Nat) : Int) + 1 ≤ 2147483647) ∧ V w 0 mX5_feed 23 [some (vR 313), some (vI a), some (vI b), some (vI c), some (vI d9), some (vI e9), some (vI ((k + 1 : Nat) : Int)), none] [] S (up (up J 325 (J 313 16).toNat (zb8 (zshr e9 (24 - ((8 * (k % 4) : Nat) : Int))))) 313 16 ((J 313 16) + 1)) Q) ((-2147483648 ≤ 8 * ((k % 4 : Nat) : Int) ∧ 8 * ((k % 4 : Nat) : Int) ≤ 2147483647) ∧ (-2147483648 ≤ 24 - ((8 * (k % 4) : Nat) : Int) ∧ 24 - ((8 * (k % 4) : Nat) : Int) ≤ 2147483647) ∧ (0 ≤ J 313 16) ∧ (J 313 16 < 300) ∧ (-2147483648 ≤ (J 313 16) + 1 ∧ (J 313 16) + 1 ≤ 2147483647) ∧ (-2147483648 ≤ ((k : Nat) : Int) + 1 ∧ ((k : Nat) : Int) + 1 ≤ 2147483647) ∧ V w 0 mX5_feed 23 [some (vR 313), some (vI a), some (vI b), some (vI c), some (vI d9), some (vI e9), some (vI ((k + 1 : Nat) : Int)), none] [] S (up (up J 325 (J 313 16).toNat (zb8 (zshr d9 (24 - ((8 * (k % 4) : Nat) : Int))))) 313 16 ((J 313 16) + 1)) Q)) ((-2147483648 ≤ 8 * ((k % 4 : Nat) : Int) ∧ 8 * ((k % 4 : Nat) : Int) ≤ 2147483647) ∧ (-2147483648 ≤ 24 - ((8 * (k % 4) : Nat) : Int) ∧ 24 - ((8 * (k % 4) : Nat) : Int) ≤ 2147483647) ∧ (0 ≤ J 313 16) ∧ (J 313 16 < 300) ∧ (-2147483648 ≤ (J 313 16) + 1 ∧ (J 313 16) + 1 ≤ 2147483647) ∧ (-2147483648 ≤ ((k : Nat) : Int) + 1 ∧ ((k : Nat) : Int) + 1 ≤ 2147483647) ∧ V w 0 mX5_feed 23 [some (vR 313), some (vI a), some (vI b), some (vI c), some (vI d9), some (vI e9), some (vI ((k + 1 : Nat) : Int)), none] [] S (up (up J 325 (J 313 16).toNat (zb8 (zshr c (24 - ((8 * (k % 4) : Nat) : Int))))) 313 16 ((J 313 16) + 1)) Q)) ((-2147483648 ≤ 8 * ((k % 4 : Nat) : Int) ∧ 8 * ((k % 4 : Nat) : Int) ≤ 2147483647) ∧ (-2147483648 ≤ 24 - ((8 * (k % 4) : Nat) : Int) ∧ 24 - ((8 * (k % 4) : Nat) : Int) ≤ 2147483647) ∧ (0 ≤ J 313 16) ∧ (J 313 16 < 300) ∧ (-2147483648 ≤ (J 313 16) + 1 ∧ (J 313 16) + 1 ≤ 2147483647) ∧ (-2147483648 ≤ ((k : Nat) : Int) + 1 ∧ ((k : Nat) : Int) + 1 ≤ 2147483647) ∧ V w 0 mX5_feed 23 [some (vR 313), some (vI a), some (vI b), some (vI c), some (vI d9), some (vI e9), some (vI ((k + 1 : Nat) : Int)), none] [] S (up (up J 325 (J 313 16).toNat (zb8 (zshr b (24 - ((8 * (k % 4) : Nat) : Int))))) 313 16 ((J 313 16) + 1)) Q)) ((-2147483648 ≤ 8 * ((k % 4 : Nat) : Int) ∧ 8 * ((k % 4 : Nat) : Int) ≤ 2147483647) ∧ (-2147483648 ≤ 24 - ((8 * (k % 4) : Nat) : Int) ∧ 24 - ((8 * (k % 4) : Nat) : Int) ≤ 2147483647) ∧ (0 ≤ J 313 16) ∧ (J 313 16 < 300) ∧ (-2147483648 ≤ (J 313 16) + 1 ∧ (J 313 16) + 1 ≤ 2147483647) ∧ (-2147483648 ≤ ((k : Nat) : Int) + 1 ∧ ((k : Nat) : Int) + 1 ≤ 2147483647) ∧ V w 0 mX5_feed 23 [some (vR 313), some (vI a), some (vI b), some (vI c), some (vI d9), some (vI e9), some (vI ((k + 1 : Nat) : Int)), none] [] S (up (up J 325 (J 313 16).toNat (zb8 (zshr a (24 - ((8 * (k % 4) : Nat) : Int))))) 313 16 ((J 313 16) + 1)) Q))) :
    V w 0 mX5_feed 23 [some (vR 313), some (vI a), some (vI b), some (vI c), some (vI d9), some (vI e9), some (vI ((k : Nat) : Int)), none] [] S J Q := by
  refine v_iload dX5_feed_23 rfl ?_
  refine v_bipush dX5_feed_25 (by decide) (in_lit (by decide)) ?_
  obtain ⟨K1, K2⟩ := K
  refine v_icmp_ge 117 dX5_feed_27 (by decide) (fun c1 => ?_) (fun c1 => ?_)
  · have K := K1 c1
    refine v_aload_n dX5_feed_117 rfl ?_
    refine v_getI dX5_feed_118 frX5_180_5 rfl rfl (L_313 hL).1 ?_
    exact v_iret dX5_feed_121 rfl rfl K
  · have K := K2 c1
    refine v_iload dX5_feed_30 rfl ?_
    refine v_iconst dX5_feed_32 (in_lit (by decide)) ?_
    obtain ⟨K1, K2⟩ := K
    refine v_icmp_ge 40 dX5_feed_33 (by decide) (fun c2 => ?_) (fun c2 => ?_)
    · have K := K1 c2
      refine v_iload dX5_feed_40 rfl ?_
      refine v_bipush dX5_feed_42 (by decide) (in_lit (by decide)) ?_
      obtain ⟨K1, K2⟩ := K
      refine v_icmp_ge 51 dX5_feed_44 (by decide) (fun c3 => ?_) (fun c3 => ?_)
      · have K := K1 c3
        refine v_iload dX5_feed_51 rfl ?_
        refine v_bipush dX5_feed_53 (by decide) (in_lit (by decide)) ?_
        obtain ⟨K1, K2⟩ := K
        refine v_icmp_ge 62 dX5_feed_55 (by decide) (fun c4 => ?_) (fun c4 => ?_)
        · have K := K1 c4
          refine v_iload dX5_feed_62 rfl ?_
          refine v_bipush dX5_feed_64 (by decide) (in_lit (by decide)) ?_
          obtain ⟨K1, K2⟩ := K
          refine v_icmp_ge 74 dX5_feed_66 (by decide) (fun c5 => ?_) (fun c5 => ?_)
          · have K := K1 c5
            refine v_iload dX5_feed_74 rfl ?_
            refine v_istore dX5_feed_76 (Nat.le_of_ble_eq_true rfl) ?_
            show V w 0 mX5_feed 78 [some (vR 313), some (vI a), some (vI b), some (vI c), some (vI d9), some (vI e9), some (vI ((k : Nat) : Int)), some (vI e9)] [] S J Q
            refine v_aload_n dX5_feed_78 rfl ?_
            refine v_getR dX5_feed_79 frX5_47_5 rfl (L_313 hL).1 (LR_313_15 hL) (Or.inl rfl) ?_
            refine v_aload_n dX5_feed_82 rfl ?_
            refine v_getI dX5_feed_83 frX5_180_5 rfl rfl (L_313 hL).1 ?_
            refine v_iload dX5_feed_86 rfl ?_
            refine v_bipush dX5_feed_88 (by decide) (in_lit (by decide)) ?_
            refine v_bipush dX5_feed_90 (by decide) (in_lit (by decide)) ?_
            refine v_iload dX5_feed_92 rfl ?_
            refine v_iconst dX5_feed_94 (in_lit (by decide)) ?_
            refine v_irem dX5_feed_95 (by omega) (by decide) ?_
            show V w 0 mX5_feed 96 [some (vR 313), some (vI a), some (vI b), some (vI c), some (vI d9), some (vI e9), some (vI ((k : Nat) : Int)), some (vI e9)] [vI ((k % 4 : Nat) : Int), vI 8, vI 24, vI e9, vI (J 313 16), vR 325] S J Q
            obtain ⟨o1, K⟩ := K
            refine v_imul dX5_feed_96 o1 ?_
            show V w 0 mX5_feed 97 [some (vR 313), some (vI a), some (vI b), some (vI c), some (vI d9), some (vI e9), some (vI ((k : Nat) : Int)), some (vI e9)] [vI ((8 * (k % 4) : Nat) : Int), vI 24, vI e9, vI (J 313 16), vR 325] S J Q
            obtain ⟨o2, K⟩ := K
            refine v_isub dX5_feed_97 o2 ?_
            refine v_ishr dX5_feed_98 ?_
            refine v_i2b dX5_feed_99 ?_
            obtain ⟨o3, K⟩ := K
            obtain ⟨o4, K⟩ := K
            refine st_325 dX5_feed_100 hL o3 o4 (zfit_b8 _) ?_
            show V w 0 mX5_feed 101 [some (vR 313), some (vI a), some (vI b), some (vI c), some (vI d9), some (vI e9), some (vI ((k : Nat) : Int)), some (vI e9)] [] S (up J 325 (J 313 16).toNat (zb8 (zshr e9 (24 - ((8 * (k % 4) : Nat) : Int))))) Q
            refine v_aload_n dX5_feed_101 rfl ?_
            refine v_dup dX5_feed_102 trivial ?_
            refine v_getI dX5_feed_103 frX5_180_5 rfl rfl (L_313 hL).1 ?_
            show V w 0 mX5_feed 106 [some (vR 313), some (vI a), some (vI b), some (vI c), some (vI d9), some (vI e9), some (vI ((k : Nat) : Int)), some (vI e9)] [vI (J 313 16), vR 313] S (up J 325 (J 313 16).toNat (zb8 (zshr e9 (24 - ((8 * (k % 4) : Nat) : Int))))) Q
            refine v_iconst dX5_feed_106 (in_lit (by decide)) ?_
            obtain ⟨o5, K⟩ := K
            refine v_iadd dX5_feed_107 o5 ?_
            refine v_putI dX5_feed_108 frX5_180_5 (fun _ _ _ h => by cases h; exact Or.inl rfl) rfl rfl zfit_int (L_313 hL).1 ?_
            show V w 0 mX5_feed 111 [some (vR 313), some (vI a), some (vI b), some (vI c), some (vI d9), some (vI e9), some (vI ((k : Nat) : Int)), some (vI e9)] [] S (up (up J 325 (J 313 16).toNat (zb8 (zshr e9 (24 - ((8 * (k % 4) : Nat) : Int))))) 313 16 ((J 313 16) + 1)) Q
            obtain ⟨o6, K⟩ := K
            refine v_iinc dX5_feed_111 rfl o6 ?_
            show V w 0 mX5_feed 114 [some (vR 313), some (vI a), some (vI b), some (vI c), some (vI d9), some (vI e9), some (vI ((k + 1 : Nat) : Int)), some (vI e9)] [] S (up (up J 325 (J 313 16).toNat (zb8 (zshr e9 (24 - ((8 * (k % 4) : Nat) : Int))))) 313 16 ((J 313 16) + 1)) Q
            refine v_goto 23 dX5_feed_114 (by decide) ?_
            exact v_forget (fg_some (fg_some (fg_some (fg_some (fg_some (fg_some (fg_some (fg_none fg_nil)))))))) K
          · have K := K2 c5
            refine v_iload dX5_feed_69 rfl ?_
            refine v_goto 76 dX5_feed_71 (by decide) ?_
            refine v_istore dX5_feed_76 (Nat.le_of_ble_eq_true rfl) ?_
            show V w 0 mX5_feed 78 [some (vR 313), some (vI a), some (vI b), some (vI c), some (vI d9), some (vI e9), some (vI ((k : Nat) : Int)), some (vI d9)] [] S J Q
            refine v_aload_n dX5_feed_78 rfl ?_
            refine v_getR dX5_feed_79 frX5_47_5 rfl (L_313 hL).1 (LR_313_15 hL) (Or.inl rfl) ?_
            refine v_aload_n dX5_feed_82 rfl ?_
            refine v_getI dX5_feed_83 frX5_180_5 rfl rfl (L_313 hL).1 ?_
            refine v_iload dX5_feed_86 rfl ?_
            refine v_bipush dX5_feed_88 (by decide) (in_lit (by decide)) ?_
            refine v_bipush dX5_feed_90 (by decide) (in_lit (by decide)) ?_
            refine v_iload dX5_feed_92 rfl ?_
            refine v_iconst dX5_feed_94 (in_lit (by decide)) ?_
            refine v_irem dX5_feed_95 (by omega) (by decide) ?_
            show V w 0 mX5_feed 96 [some (vR 313), some (vI a), some (vI b), some (vI c), some (vI d9), some (vI e9), some (vI ((k : Nat) : Int)), some (vI d9)] [vI ((k % 4 : Nat) : Int), vI 8, vI 24, vI d9, vI (J 313 16), vR 325] S J Q
            obtain ⟨o7, K⟩ := K
            refine v_imul dX5_feed_96 o7 ?_
            show V w 0 mX5_feed 97 [some (vR 313), some (vI a), some (vI b), some (vI c), some (vI d9), some (vI e9), some (vI ((k : Nat) : Int)), some (vI d9)] [vI ((8 * (k % 4) : Nat) : Int), vI 24, vI d9, vI (J 313 16), vR 325] S J Q
            obtain ⟨o8, K⟩ := K
            refine v_isub dX5_feed_97 o8 ?_
            refine v_ishr dX5_feed_98 ?_
            refine v_i2b dX5_feed_99 ?_
            obtain ⟨o9, K⟩ := K
            obtain ⟨o10, K⟩ := K
            refine st_325 dX5_feed_100 hL o9 o10 (zfit_b8 _) ?_
            show V w 0 mX5_feed 101 [some (vR 313), some (vI a), some (vI b), some (vI c), some (vI d9), some (vI e9), some (vI ((k : Nat) : Int)), some (vI d9)] [] S (up J 325 (J 313 16).toNat (zb8 (zshr d9 (24 - ((8 * (k % 4) : Nat) : Int))))) Q
            refine v_aload_n dX5_feed_101 rfl ?_
            refine v_dup dX5_feed_102 trivial ?_
            refine v_getI dX5_feed_103 frX5_180_5 rfl rfl (L_313 hL).1 ?_
            show V w 0 mX5_feed 106 [some (vR 313), some (vI a), some (vI b), some (vI c), some (vI d9), some (vI e9), some (vI ((k : Nat) : Int)), some (vI d9)] [vI (J 313 16), vR 313] S (up J 325 (J 313 16).toNat (zb8 (zshr d9 (24 - ((8 * (k % 4) : Nat) : Int))))) Q
            refine v_iconst dX5_feed_106 (in_lit (by decide)) ?_
            obtain ⟨o11, K⟩ := K
            refine v_iadd dX5_feed_107 o11 ?_
            refine v_putI dX5_feed_108 frX5_180_5 (fun _ _ _ h => by cases h; exact Or.inl rfl) rfl rfl zfit_int (L_313 hL).1 ?_
            show V w 0 mX5_feed 111 [some (vR 313), some (vI a), some (vI b), some (vI c), some (vI d9), some (vI e9), some (vI ((k : Nat) : Int)), some (vI d9)] [] S (up (up J 325 (J 313 16).toNat (zb8 (zshr d9 (24 - ((8 * (k % 4) : Nat) : Int))))) 313 16 ((J 313 16) + 1)) Q
            obtain ⟨o12, K⟩ := K
            refine v_iinc dX5_feed_111 rfl o12 ?_
            show V w 0 mX5_feed 114 [some (vR 313), some (vI a), some (vI b), some (vI c), some (vI d9), some (vI e9), some (vI ((k + 1 : Nat) : Int)), some (vI d9)] [] S (up (up J 325 (J 313 16).toNat (zb8 (zshr d9 (24 - ((8 * (k % 4) : Nat) : Int))))) 313 16 ((J 313 16) + 1)) Q
            refine v_goto 23 dX5_feed_114 (by decide) ?_
            exact v_forget (fg_some (fg_some (fg_some (fg_some (fg_some (fg_some (fg_some (fg_none fg_nil)))))))) K
        · have K := K2 c4
          refine v_iload_n dX5_feed_58 rfl ?_
          refine v_goto 76 dX5_feed_59 (by decide) ?_
          refine v_istore dX5_feed_76 (Nat.le_of_ble_eq_true rfl) ?_
          show V w 0 mX5_feed 78 [some (vR 313), some (vI a), some (vI b), some (vI c), some (vI d9), some (vI e9), some (vI ((k : Nat) : Int)), some (vI c)] [] S J Q
          refine v_aload_n dX5_feed_78 rfl ?_
          refine v_getR dX5_feed_79 frX5_47_5 rfl (L_313 hL).1 (LR_313_15 hL) (Or.inl rfl) ?_
          refine v_aload_n dX5_feed_82 rfl ?_
          refine v_getI dX5_feed_83 frX5_180_5 rfl rfl (L_313 hL).1 ?_
          refine v_iload dX5_feed_86 rfl ?_
          refine v_bipush dX5_feed_88 (by decide) (in_lit (by decide)) ?_
          refine v_bipush dX5_feed_90 (by decide) (in_lit (by decide)) ?_
          refine v_iload dX5_feed_92 rfl ?_
          refine v_iconst dX5_feed_94 (in_lit (by decide)) ?_
          refine v_irem dX5_feed_95 (by omega) (by decide) ?_
          show V w 0 mX5_feed 96 [some (vR 313), some (vI a), some (vI b), some (vI c), some (vI d9), some (vI e9), some (vI ((k : Nat) : Int)), some (vI c)] [vI ((k % 4 : Nat) : Int), vI 8, vI 24, vI c, vI (J 313 16), vR 325] S J Q
          obtain ⟨o13, K⟩ := K
          refine v_imul dX5_feed_96 o13 ?_
          show V w 0 mX5_feed 97 [some (vR 313), some (vI a), some (vI b), some (vI c), some (vI d9), some (vI e9), some (vI ((k : Nat) : Int)), some (vI c)] [vI ((8 * (k % 4) : Nat) : Int), vI 24, vI c, vI (J 313 16), vR 325] S J Q
          obtain ⟨o14, K⟩ := K
          refine v_isub dX5_feed_97 o14 ?_
          refine v_ishr dX5_feed_98 ?_
          refine v_i2b dX5_feed_99 ?_
          obtain ⟨o15, K⟩ := K
          obtain ⟨o16, K⟩ := K
          refine st_325 dX5_feed_100 hL o15 o16 (zfit_b8 _) ?_
          show V w 0 mX5_feed 101 [some (vR 313), some (vI a), some (vI b), some (vI c), some (vI d9), some (vI e9), some (vI ((k : Nat) : Int)), some (vI c)] [] S (up J 325 (J 313 16).toNat (zb8 (zshr c (24 - ((8 * (k % 4) : Nat) : Int))))) Q
          refine v_aload_n dX5_feed_101 rfl ?_
          refine v_dup dX5_feed_102 trivial ?_
          refine v_getI dX5_feed_103 frX5_180_5 rfl rfl (L_313 hL).1 ?_
          show V w 0 mX5_feed 106 [some (vR 313), some (vI a), some (vI b), some (vI c), some (vI d9), some (vI e9), some (vI ((k : Nat) : Int)), some (vI c)] [vI (J 313 16), vR 313] S (up J 325 (J 313 16).toNat (zb8 (zshr c (24 - ((8 * (k % 4) : Nat) : Int))))) Q
          refine v_iconst dX5_feed_106 (in_lit (by decide)) ?_
          obtain ⟨o17, K⟩ := K
          refine v_iadd dX5_feed_107 o17 ?_
          refine v_putI dX5_feed_108 frX5_180_5 (fun _ _ _ h => by cases h; exact Or.inl rfl) rfl rfl zfit_int (L_313 hL).1 ?_
          show V w 0 mX5_feed 111 [some (vR 313), some (vI a), some (vI b), some (vI c), some (vI d9), some (vI e9), some (vI ((k : Nat) : Int)), some (vI c)] [] S (up (up J 325 (J 313 16).toNat (zb8 (zshr c (24 - ((8 * (k % 4) : Nat) : Int))))) 313 16 ((J 313 16) + 1)) Q
          obtain ⟨o18, K⟩ := K
          refine v_iinc dX5_feed_111 rfl o18 ?_
          show V w 0 mX5_feed 114 [some (vR 313), some (vI a), some (vI b), some (vI c), some (vI d9), some (vI e9), some (vI ((k + 1 : Nat) : Int)), some (vI c)] [] S (up (up J 325 (J 313 16).toNat (zb8 (zshr c (24 - ((8 * (k % 4) : Nat) : Int))))) 313 16 ((J 313 16) + 1)) Q
          refine v_goto 23 dX5_feed_114 (by decide) ?_
          exact v_forget (fg_some (fg_some (fg_some (fg_some (fg_some (fg_some (fg_some (fg_none fg_nil)))))))) K
      · have K := K2 c3
        refine v_iload_n dX5_feed_47 rfl ?_
        refine v_goto 76 dX5_feed_48 (by decide) ?_
        refine v_istore dX5_feed_76 (Nat.le_of_ble_eq_true rfl) ?_
        show V w 0 mX5_feed 78 [some (vR 313), some (vI a), some (vI b), some (vI c), some (vI d9), some (vI e9), some (vI ((k : Nat) : Int)), some (vI b)] [] S J Q
        refine v_aload_n dX5_feed_78 rfl ?_
        refine v_getR dX5_feed_79 frX5_47_5 rfl (L_313 hL).1 (LR_313_15 hL) (Or.inl rfl) ?_
        refine v_aload_n dX5_feed_82 rfl ?_
        refine v_getI dX5_feed_83 frX5_180_5 rfl rfl (L_313 hL).1 ?_
        refine v_iload dX5_feed_86 rfl ?_
        refine v_bipush dX5_feed_88 (by decide) (in_lit (by decide)) ?_
        refine v_bipush dX5_feed_90 (by decide) (in_lit (by decide)) ?_
        refine v_iload dX5_feed_92 rfl ?_
        refine v_iconst dX5_feed_94 (in_lit (by decide)) ?_
        refine v_irem dX5_feed_95 (by omega) (by decide) ?_
        show V w 0 mX5_feed 96 [some (vR 313), some (vI a), some (vI b), some (vI c), some (vI d9), some (vI e9), some (vI ((k : Nat) : Int)), some (vI b)] [vI ((k % 4 : Nat) : Int), vI 8, vI 24, vI b, vI (J 313 16), vR 325] S J Q
        obtain ⟨o19, K⟩ := K
        refine v_imul dX5_feed_96 o19 ?_
        show V w 0 mX5_feed 97 [some (vR 313), some (vI a), some (vI b), some (vI c), some (vI d9), some (vI e9), some (vI ((k : Nat) : Int)), some (vI b)] [vI ((8 * (k % 4) : Nat) : Int), vI 24, vI b, vI (J 313 16), vR 325] S J Q
        obtain ⟨o20, K⟩ := K
        refine v_isub dX5_feed_97 o20 ?_
        refine v_ishr dX5_feed_98 ?_
        refine v_i2b dX5_feed_99 ?_
        obtain ⟨o21, K⟩ := K
        obtain ⟨o22, K⟩ := K
        refine st_325 dX5_feed_100 hL o21 o22 (zfit_b8 _) ?_
        show V w 0 mX5_feed 101 [some (vR 313), some (vI a), some (vI b), some (vI c), some (vI d9), some (vI e9), some (vI ((k : Nat) : Int)), some (vI b)] [] S (up J 325 (J 313 16).toNat (zb8 (zshr b (24 - ((8 * (k % 4) : Nat) : Int))))) Q
        refine v_aload_n dX5_feed_101 rfl ?_
        refine v_dup dX5_feed_102 trivial ?_
        refine v_getI dX5_feed_103 frX5_180_5 rfl rfl (L_313 hL).1 ?_
        show V w 0 mX5_feed 106 [some (vR 313), some (vI a), some (vI b), some (vI c), some (vI d9), some (vI e9), some (vI ((k : Nat) : Int)), some (vI b)] [vI (J 313 16), vR 313] S (up J 325 (J 313 16).toNat (zb8 (zshr b (24 - ((8 * (k % 4) : Nat) : Int))))) Q
        refine v_iconst dX5_feed_106 (in_lit (by decide)) ?_
        obtain ⟨o23, K⟩ := K
        refine v_iadd dX5_feed_107 o23 ?_
        refine v_putI dX5_feed_108 frX5_180_5 (fun _ _ _ h => by cases h; exact Or.inl rfl) rfl rfl zfit_int (L_313 hL).1 ?_
        show V w 0 mX5_feed 111 [some (vR 313), some (vI a), some (vI b), some (vI c), some (vI d9), some (vI e9), some (vI ((k : Nat) : Int)), some (vI b)] [] S (up (up J 325 (J 313 16).toNat (zb8 (zshr b (24 - ((8 * (k % 4) : Nat) : Int))))) 313 16 ((J 313 16) + 1)) Q
        obtain ⟨o24, K⟩ := K
        refine v_iinc dX5_feed_111 rfl o24 ?_
        show V w 0 mX5_feed 114 [some (vR 313), some (vI a), some (vI b), some (vI c), some (vI d9), some (vI e9), some (vI ((k + 1 : Nat) : Int)), some (vI b)] [] S (up (up J 325 (J 313 16).toNat (zb8 (zshr b (24 - ((8 * (k % 4) : Nat) : Int))))) 313 16 ((J 313 16) + 1)) Q
        refine v_goto 23 dX5_feed_114 (by decide) ?_
        exact v_forget (fg_some (fg_some (fg_some (fg_some (fg_some (fg_some (fg_some (fg_none fg_nil)))))))) K
    · have K := K2 c2
      refine v_iload_n dX5_feed_36 rfl ?_
      refine v_goto 76 dX5_feed_37 (by decide) ?_
      refine v_istore dX5_feed_76 (Nat.le_of_ble_eq_true rfl) ?_
      show V w 0 mX5_feed 78 [some (vR 313), some (vI a), some (vI b), some (vI c), some (vI d9), some (vI e9), some (vI ((k : Nat) : Int)), some (vI a)] [] S J Q
      refine v_aload_n dX5_feed_78 rfl ?_
      refine v_getR dX5_feed_79 frX5_47_5 rfl (L_313 hL).1 (LR_313_15 hL) (Or.inl rfl) ?_
      refine v_aload_n dX5_feed_82 rfl ?_
      refine v_getI dX5_feed_83 frX5_180_5 rfl rfl (L_313 hL).1 ?_
      refine v_iload dX5_feed_86 rfl ?_
      refine v_bipush dX5_feed_88 (by decide) (in_lit (by decide)) ?_
      refine v_bipush dX5_feed_90 (by decide) (in_lit (by decide)) ?_
      refine v_iload dX5_feed_92 rfl ?_
      refine v_iconst dX5_feed_94 (in_lit (by decide)) ?_
      refine v_irem dX5_feed_95 (by omega) (by decide) ?_
      show V w 0 mX5_feed 96 [some (vR 313), some (vI a), some (vI b), some (vI c), some (vI d9), some (vI e9), some (vI ((k : Nat) : Int)), some (vI a)] [vI ((k % 4 : Nat) : Int), vI 8, vI 24, vI a, vI (J 313 16), vR 325] S J Q
      obtain ⟨o25, K⟩ := K
      refine v_imul dX5_feed_96 o25 ?_
      show V w 0 mX5_feed 97 [some (vR 313), some (vI a), some (vI b), some (vI c), some (vI d9), some (vI e9), some (vI ((k : Nat) : Int)), some (vI a)] [vI ((8 * (k % 4) : Nat) : Int), vI 24, vI a, vI (J 313 16), vR 325] S J Q
      obtain ⟨o26, K⟩ := K
      refine v_isub dX5_feed_97 o26 ?_
      refine v_ishr dX5_feed_98 ?_
      refine v_i2b dX5_feed_99 ?_
      obtain ⟨o27, K⟩ := K
      obtain ⟨o28, K⟩ := K
      refine st_325 dX5_feed_100 hL o27 o28 (zfit_b8 _) ?_
      show V w 0 mX5_feed 101 [some (vR 313), some (vI a), some (vI b), some (vI c), some (vI d9), some (vI e9), some (vI ((k : Nat) : Int)), some (vI a)] [] S (up J 325 (J 313 16).toNat (zb8 (zshr a (24 - ((8 * (k % 4) : Nat) : Int))))) Q
      refine v_aload_n dX5_feed_101 rfl ?_
      refine v_dup dX5_feed_102 trivial ?_
      refine v_getI dX5_feed_103 frX5_180_5 rfl rfl (L_313 hL).1 ?_
      show V w 0 mX5_feed 106 [some (vR 313), some (vI a), some (vI b), some (vI c), some (vI d9), some (vI e9), some (vI ((k : Nat) : Int)), some (vI a)] [vI (J 313 16), vR 313] S (up J 325 (J 313 16).toNat (zb8 (zshr a (24 - ((8 * (k % 4) : Nat) : Int))))) Q
      refine v_iconst dX5_feed_106 (in_lit (by decide)) ?_
      obtain ⟨o29, K⟩ := K
      refine v_iadd dX5_feed_107 o29 ?_
      refine v_putI dX5_feed_108 frX5_180_5 (fun _ _ _ h => by cases h; exact Or.inl rfl) rfl rfl zfit_int (L_313 hL).1 ?_
      show V w 0 mX5_feed 111 [some (vR 313), some (vI a), some (vI b), some (vI c), some (vI d9), some (vI e9), some (vI ((k : Nat) : Int)), some (vI a)] [] S (up (up J 325 (J 313 16).toNat (zb8 (zshr a (24 - ((8 * (k % 4) : Nat) : Int))))) 313 16 ((J 313 16) + 1)) Q
      obtain ⟨o30, K⟩ := K
      refine v_iinc dX5_feed_111 rfl o30 ?_
      show V w 0 mX5_feed 114 [some (vR 313), some (vI a), some (vI b), some (vI c), some (vI d9), some (vI e9), some (vI ((k + 1 : Nat) : Int)), some (vI a)] [] S (up (up J 325 (J 313 16).toNat (zb8 (zshr a (24 - ((8 * (k % 4) : Nat) : Int))))) 313 16 ((J 313 16) + 1)) Q
      refine v_goto 23 dX5_feed_114 (by decide) ?_
      exact v_forget (fg_some (fg_some (fg_some (fg_some (fg_some (fg_some (fg_some (fg_none fg_nil)))))))) K
theorem gX5_isName_0 {w : Wd} {S : Sh} {J : Jm} {Q : Out → Sh → Jm → Prop} (hL : Lay S) 
    (K : Br (J 313 16 < 1) (V w 1 mX5_isName 25 [some (vR 313), some (vI 0), some (vI 0)] [] S J Q) (Br (8 < J 313 16) (V w 1 mX5_isName 25 [some (vR 313), some (vI 0), some (vI 0)] [] S J Q) (V w 1 mX5_isName 25 [some (vR 313), some (vI 1), some (vI 0)] [] S J Q))) :
    V w 1 mX5_isName 0 (ent mX5_isName [vR 313]) [] S J Q := by
  show V w 1 mX5_isName 0 [some (vR 313), none, none] [] S J Q
  refine v_aload_n dX5_isName_0 rfl ?_
  refine v_getI dX5_isName_1 frX5_180_5 rfl rfl (L_313 hL).1 ?_
  refine v_iconst dX5_isName_4 (in_lit (by decide)) ?_
  obtain ⟨K1, K2⟩ := K
  refine v_icmp_lt 21 dX5_isName_5 (by decide) (fun c1 => ?_) (fun c1 => ?_)
  · have K := K1 c1
    refine v_iconst dX5_isName_21 (in_lit (by decide)) ?_
    refine v_istore_n dX5_isName_22 (Nat.le_of_ble_eq_true rfl) ?_
    show V w 1 mX5_isName 23 [some (vR 313), some (vI 0), none] [] S J Q
    refine v_iconst dX5_isName_23 (in_lit (by decide)) ?_
    refine v_istore_n dX5_isName_24 (Nat.le_of_ble_eq_true rfl) ?_
    show V w 1 mX5_isName 25 [some (vR 313), some (vI 0), some (vI 0)] [] S J Q
    exact K
  · have K := K2 c1
    refine v_aload_n dX5_isName_8 rfl ?_
    refine v_getI dX5_isName_9 frX5_180_5 rfl rfl (L_313 hL).1 ?_
    refine v_bipush dX5_isName_12 (by decide) (in_lit (by decide)) ?_
    obtain ⟨K1, K2⟩ := K
    refine v_icmp_gt 21 dX5_isName_14 (by decide) (fun c2 => ?_) (fun c2 => ?_)
    · have K := K1 c2
      refine v_iconst dX5_isName_21 (in_lit (by decide)) ?_
      refine v_istore_n dX5_isName_22 (Nat.le_of_ble_eq_true rfl) ?_
      show V w 1 mX5_isName 23 [some (vR 313), some (vI 0), none] [] S J Q
      refine v_iconst dX5_isName_23 (in_lit (by decide)) ?_
      refine v_istore_n dX5_isName_24 (Nat.le_of_ble_eq_true rfl) ?_
      show V w 1 mX5_isName 25 [some (vR 313), some (vI 0), some (vI 0)] [] S J Q
      exact K
    · have K := K2 c2
      refine v_iconst dX5_isName_17 (in_lit (by decide)) ?_
      refine v_goto 22 dX5_isName_18 (by decide) ?_
      refine v_istore_n dX5_isName_22 (Nat.le_of_ble_eq_true rfl) ?_
      show V w 1 mX5_isName 23 [some (vR 313), some (vI 1), none] [] S J Q
      refine v_iconst dX5_isName_23 (in_lit (by decide)) ?_
      refine v_istore_n dX5_isName_24 (Nat.le_of_ble_eq_true rfl) ?_
      show V w 1 mX5_isName 25 [some (vR 313), some (vI 1), some (vI 0)] [] S J Q
      exact K
theorem gX5_isName_25 {w : Wd} {S : Sh} {J : Jm} {Q : Out → Sh → Jm → Prop} (hL : Lay S) (is : Int) (k : Nat)
    (K : Br (J 313 16 ≤ ((k : Nat) : Int)) ((is = 0 ∨ is = 1) ∧ Q (.inl (some (vI is))) S J) (Br (is = 0) ((is = 0 ∨ is = 1) ∧ Q (.inl (some (vI is))) S J) ((((k : Nat) : Int) < 300) ∧ Br (97 ≤ (J 325 k) ∧ (J 325 k) ≤ 122) ((-2147483648 ≤ ((k : Nat) : Int) + 1 ∧ ((k : Nat) : Int) + 1 ≤ 2147483647) ∧ V w 1 mX5_isName 25 [some (vR 313), some (vI 1), some (vI ((k + 1 : Nat) : Int))] [] S J Q) ((-2147483648 ≤ ((k : Nat) : Int) + 1 ∧ ((k : Nat) : Int) + 1 ≤ 2147483647) ∧ V w 1 mX5_isName 25 [some (vR 313), some (vI 0), some (vI ((k + 1 : Nat) : Int))] [] S J Q)))) :
    V w 1 mX5_isName 25 [some (vR 313), some (vI is), some (vI ((k : Nat) : Int))] [] S J Q := by
  refine v_iload_n dX5_isName_25 rfl ?_
  refine v_aload_n dX5_isName_26 rfl ?_
  refine v_getI dX5_isName_27 frX5_180_5 rfl rfl (L_313 hL).1 ?_
  obtain ⟨K1, K2⟩ := K
  refine v_icmp_ge 53 dX5_isName_30 (by decide) (fun c1 => ?_) (fun c1 => ?_)
  · have K := K1 c1
    refine v_iload_n dX5_isName_53 rfl ?_
    obtain ⟨o1, K⟩ := K
    exact v_iret dX5_isName_54 rfl (zfit_bool o1).1 K
  · have K := K2 c1
    refine v_iload_n dX5_isName_33 rfl ?_
    obtain ⟨K1, K2⟩ := K
    refine v_if_eq 53 dX5_isName_34 (by decide) (fun c2 => ?_) (fun c2 => ?_)
    · have K := K1 c2
      refine v_iload_n dX5_isName_53 rfl ?_
      obtain ⟨o2, K⟩ := K
      exact v_iret dX5_isName_54 rfl (zfit_bool o2).1 K
    · have K := K2 c2
      refine v_aload_n dX5_isName_37 rfl ?_
      refine v_getR dX5_isName_38 frX5_47_5 rfl (L_313 hL).1 (LR_313_15 hL) (Or.inl rfl) ?_
      refine v_iload_n dX5_isName_41 rfl ?_
      obtain ⟨o3, K⟩ := K
      refine ld_325 dX5_isName_42 hL (by omega) o3 ?_
      show V w 1 mX5_isName 43 [some (vR 313), some (vI is), some (vI ((k : Nat) : Int))] [vI (J 325 k)] S J Q
      refine v_callS (d' := 0) (rest := []) [vI (J 325 k)] dX5_isName_43 srX5_195 rfl (one_I one_nil) (Nat.le_of_ble_eq_true rfl) (Nat.le_of_ble_eq_true rfl) (Nat.le_of_ble_eq_true rfl) ?_
      obtain ⟨K1, K2⟩ := K
      refine sX5_isSmall hL (J 325 k)  (fun c3 => ?_) (fun c3 => ?_)
      · have K := K1 c3
        show V w 1 mX5_isName 46 [some (vR 313), some (vI is), some (vI ((k : Nat) : Int))] [vI 1] S J Q
        refine v_istore_n dX5_isName_46 (Nat.le_of_ble_eq_true rfl) ?_
        show V w 1 mX5_isName 47 [some (vR 313), some (vI 1), some (vI ((k : Nat) : Int))] [] S J Q
        obtain ⟨o4, K⟩ := K
        refine v_iinc dX5_isName_47 rfl o4 ?_
        show V w 1 mX5_isName 50 [some (vR 313), some (vI 1), some (vI ((k + 1 : Nat) : Int))] [] S J Q
        refine v_goto 25 dX5_isName_50 (by decide) ?_
        exact K
      · have K := K2 c3
        show V w 1 mX5_isName 46 [some (vR 313), some (vI is), some (vI ((k : Nat) : Int))] [vI 0] S J Q
        refine v_istore_n dX5_isName_46 (Nat.le_of_ble_eq_true rfl) ?_
        show V w 1 mX5_isName 47 [some (vR 313), some (vI 0), some (vI ((k : Nat) : Int))] [] S J Q
        obtain ⟨o5, K⟩ := K
        refine v_iinc dX5_isName_47 rfl o5 ?_
        show V w 1 mX5_isName 50 [some (vR 313), some (vI 0), some (vI ((k + 1 : Nat) : Int))] [] S J Q
        refine v_goto 25 dX5_isName_50 (by decide) ?_
        exact K
theorem gX5_takesName_0 {w : Wd} {S : Sh} {J : Jm} {Q : Out → Sh → Jm → Prop} (hL : Lay S) (n : Nat) (t : Int)
    (K : (((n : Nat) : Int) < 7) ∧ V w 0 mX5_takesName 12 [some (vR 313), some (vI ((n : Nat) : Int)), some (vI t), some (vI 0)] [] S (up J 348 n (J 313 16)) Q) :
    V w 0 mX5_takesName 0 (ent mX5_takesName [vR 313, vI ((n : Nat) : Int), vI t]) [] S J Q := by
  show V w 0 mX5_takesName 0 [some (vR 313), some (vI ((n : Nat) : Int)), some (vI t), none] [] S J Q
  refine v_aload_n dX5_takesName_0 rfl ?_
  refine v_getR dX5_takesName_1 frX5_121_5 rfl (L_313 hL).1 (LR_313_56 hL) (Or.inl rfl) ?_
  refine v_iload_n dX5_takesName_4 rfl ?_
  refine v_aload_n dX5_takesName_5 rfl ?_
  refine v_getI dX5_takesName_6 frX5_180_5 rfl rfl (L_313 hL).1 ?_
  obtain ⟨o1, K⟩ := K
  refine st_348 dX5_takesName_9 hL (by omega) o1 ?_
  show V w 0 mX5_takesName 10 [some (vR 313), some (vI ((n : Nat) : Int)), some (vI t), none] [] S (up J 348 n (J 313 16)) Q
  refine v_iconst dX5_takesName_10 (in_lit (by decide)) ?_
  refine v_istore_n dX5_takesName_11 (Nat.le_of_ble_eq_true rfl) ?_
  show V w 0 mX5_takesName 12 [some (vR 313), some (vI ((n : Nat) : Int)), some (vI t), some (vI 0)] [] S (up J 348 n (J 313 16)) Q
  exact K
theorem gX5_takesName_12 {w : Wd} {S : Sh} {J : Jm} {Q : Out → Sh → Jm → Prop} (hL : Lay S) (n : Nat) (t : Int) (k : Nat)
    (K : Br (J 313 16 ≤ ((k : Nat) : Int)) ((((n : Nat) : Int) < 7) ∧ Q (.inl none) S (up (up J 350 n t) 313 16 0)) ((-2147483648 ≤ 8 * ((n : Nat) : Int) ∧ 8 * ((n : Nat) : Int) ≤ 2147483647) ∧ (-2147483648 ≤ ((8 * n : Nat) : Int) + ((k : Nat) : Int) ∧ ((8 * n : Nat) : Int) + ((k : Nat) : Int) ≤ 2147483647) ∧ (((k : Nat) : Int) < 300) ∧ ((((8 * n) + k : Nat) : Int) < 56) ∧ (-2147483648 ≤ ((k : Nat) : Int) + 1 ∧ ((k : Nat) : Int) + 1 ≤ 2147483647) ∧ V w 0 mX5_takesName 12 [some (vR 313), some (vI ((n : Nat) : Int)), some (vI t), some (vI ((k + 1 : Nat) : Int))] [] S (up J 349 ((8 * n) + k) (J 325 k)) Q)) :
    V w 0 mX5_takesName 12 [some (vR 313), some (vI ((n : Nat) : Int)), some (vI t), some (vI ((k : Nat) : Int))] [] S J Q := by
  refine v_iload_n dX5_takesName_12 rfl ?_
  refine v_aload_n dX5_takesName_13 rfl ?_
  refine v_getI dX5_takesName_14 frX5_180_5 rfl rfl (L_313 hL).1 ?_
  obtain ⟨K1, K2⟩ := K
  refine v_icmp_ge 43 dX5_takesName_17 (by decide) (fun c1 => ?_) (fun c1 => ?_)
  · have K := K1 c1
    refine v_aload_n dX5_takesName_43 rfl ?_
    refine v_getR dX5_takesName_44 frX5_127_5 rfl (L_313 hL).1 (LR_313_58 hL) (Or.inl rfl) ?_
    refine v_iload_n dX5_takesName_47 rfl ?_
    refine v_iload_n dX5_takesName_48 rfl ?_
    obtain ⟨o1, K⟩ := K
    refine st_350 dX5_takesName_49 hL (by omega) o1 ?_
    show V w 0 mX5_takesName 50 [some (vR 313), some (vI ((n : Nat) : Int)), some (vI t), some (vI ((k : Nat) : Int))] [] S (up J 350 n t) Q
    refine v_aload_n dX5_takesName_50 rfl ?_
    refine v_iconst dX5_takesName_51 (in_lit (by decide)) ?_
    refine v_putI dX5_takesName_52 frX5_180_5 (fun _ _ _ h => by cases h; exact Or.inl rfl) rfl rfl zfit_int (L_313 hL).1 ?_
    show V w 0 mX5_takesName 55 [some (vR 313), some (vI ((n : Nat) : Int)), some (vI t), some (vI ((k : Nat) : Int))] [] S (up (up J 350 n t) 313 16 0) Q
    exact v_vret dX5_takesName_55 rfl K
  · have K := K2 c1
    refine v_aload_n dX5_takesName_20 rfl ?_
    refine v_getR dX5_takesName_21 frX5_124_5 rfl (L_313 hL).1 (LR_313_57 hL) (Or.inl rfl) ?_
    refine v_bipush dX5_takesName_24 (by decide) (in_lit (by decide)) ?_
    refine v_iload_n dX5_takesName_26 rfl ?_
    obtain ⟨o2, K⟩ := K
    refine v_imul dX5_takesName_27 o2 ?_
    show V w 0 mX5_takesName 28 [some (vR 313), some (vI ((n : Nat) : Int)), some (vI t), some (vI ((k : Nat) : Int))] [vI ((8 * n : Nat) : Int), vR 349] S J Q
    refine v_iload_n dX5_takesName_28 rfl ?_
    obtain ⟨o3, K⟩ := K
    refine v_iadd dX5_takesName_29 o3 ?_
    show V w 0 mX5_takesName 30 [some (vR 313), some (vI ((n : Nat) : Int)), some (vI t), some (vI ((k : Nat) : Int))] [vI (((8 * n) + k : Nat) : Int), vR 349] S J Q
    refine v_aload_n dX5_takesName_30 rfl ?_
    refine v_getR dX5_takesName_31 frX5_47_5 rfl (L_313 hL).1 (LR_313_15 hL) (Or.inl rfl) ?_
    refine v_iload_n dX5_takesName_34 rfl ?_
    obtain ⟨o4, K⟩ := K
    refine ld_325 dX5_takesName_35 hL (by omega) o4 ?_
    show V w 0 mX5_takesName 36 [some (vR 313), some (vI ((n : Nat) : Int)), some (vI t), some (vI ((k : Nat) : Int))] [vI (J 325 k), vI (((8 * n) + k : Nat) : Int), vR 349] S J Q
    obtain ⟨o5, K⟩ := K
    refine st_349 dX5_takesName_36 hL (by omega) o5 ?_
    show V w 0 mX5_takesName 37 [some (vR 313), some (vI ((n : Nat) : Int)), some (vI t), some (vI ((k : Nat) : Int))] [] S (up J 349 ((8 * n) + k) (J 325 k)) Q
    obtain ⟨o6, K⟩ := K
    refine v_iinc dX5_takesName_37 rfl o6 ?_
    show V w 0 mX5_takesName 40 [some (vR 313), some (vI ((n : Nat) : Int)), some (vI t), some (vI ((k + 1 : Nat) : Int))] [] S (up J 349 ((8 * n) + k) (J 325 k)) Q
    refine v_goto 12 dX5_takesName_40 (by decide) ?_
    exact K

/-- the byte that is fed k-th -/
def fdB (a b c d e : Int) (k : Nat) : Int := zb8 (zshr (if k < 4 then a else if k < 8 then b else if k < 12 then c else if k < 16 then d else e) (24 - 8 * ((k : Int) % 4)))
def PFd (J : Jm) (a b c d e : Int) (J' : Jm) : Prop := J' 313 16 = J 313 16 + 20 ∧ (∀ k : Nat, k < 20 → J' 325 ((J 313 16).toNat + k) = fdB a b c d e k) ∧ ∀ q j, ¬ (q = 313 ∧ (j = 0 ∨ j = 16)) → ¬ (q = 325 ∧ (J 313 16).toNat ≤ j ∧ j < (J 313 16).toNat + 20) → J' q j = J q j
theorem m_feed {w : Wd} {S : Sh} {J : Jm} {Q : Out → Sh → Jm → Prop} (hL : Lay S) (a b c d9 e9 : Int) (h0 : 0 ≤ J 313 16 ∧ J 313 16 ≤ 300) (K0 : ¬ J 313 16 + 20 ≤ 300 → ∀ J', Kp J J' → Q (.inl (some (vI (-1)))) S J') (K1 : J 313 16 + 20 ≤ 300 → ∀ J', PFd J a b c d9 e9 J' → Q (.inl (some (vI (J 313 16 + 20)))) S J') : V w 0 mX5_feed 0 (ent mX5_feed [vR 313, vI a, vI b, vI c, vI d9, vI e9]) [] S J Q := by
  obtain ⟨t, et⟩ : ∃ t : Nat, J 313 16 = t := ⟨(J 313 16).toNat, by omega⟩
  unfold PFd at K1
  rw [et, Int.toNat_natCast] at K1
  rw [et] at h0 K0
  refine gX5_feed_0 hL a b c d9 e9 ?_
  rw [et]
  refine ⟨by omega, br_i (fun h => ?_) (fun h => K0 h _ (k0 J))⟩
  show V w 0 mX5_feed 23 [some (vR 313), some (vI a), some (vI b), some (vI c), some (vI d9), some (vI e9), some (vI ((0 : Nat) : Int)), none] [] S (up J 313 0 0) Q
  refine up_loop (P := fun k J1 => J1 313 16 = ((t + k : Nat) : Int) ∧ (∀ j : Nat, j < k → J1 325 (t + j) = fdB a b c d9 e9 j) ∧ ∀ q j, ¬ (q = 313 ∧ (j = 0 ∨ j = 16)) → ¬ (q = 325 ∧ t ≤ j ∧ j < t + 20) → J1 q j = J q j) 20 (fun k J1 => V w 0 mX5_feed 23 [some (vR 313), some (vI a), some (vI b), some (vI c), some (vI d9), some (vI e9), some (vI (k : Int)), none] [] S J1 Q) ?_ ?_ 0 _ (by omega) ⟨by rw [up_nk (by decide)]; exact et, fun j hj => absurd hj (by omega), fun q j h1 _ => up_ne (fun e => h1 ⟨e.1, Or.inl e.2⟩)⟩
  · intro k J1 hk ⟨e1, e2, e3⟩ ih
    have st : ∀ z : Int, z = fdB a b c d9 e9 k → V w 0 mX5_feed 23 [some (vR 313), some (vI a), some (vI b), some (vI c), some (vI d9), some (vI e9), some (vI ((k + 1 : Nat) : Int)), none] [] S (up (up J1 325 (t + k) z) 313 16 (((t + k : Nat) : Int) + 1)) Q := by
      intro z hz
      refine ih _ ⟨by rw [up_self]; push_cast; omega, fun j hj => ?_, fun q j h1 h2 => ?_⟩
      · rw [up_na (by decide)]
        by_cases hjk : j = k
        · rw [hjk, up_self]; exact hz
        · rw [up_nk (by omega)]; exact e2 j (by omega)
      · rw [up_ne (fun e => h1 ⟨e.1, Or.inr e.2⟩), up_ne (fun e => h2 ⟨e.1, by omega, by omega⟩)]
        exact e3 q j h1 h2
    refine gX5_feed_23 (J := J1) hL a b c d9 e9 k (br_n (by omega) ?_)
    rw [e1, Int.toNat_natCast]
    have ek : (((k % 4 : Nat) : Int)) = (k : Int) % 4 := by omega
    unfold fdB at st
    refine br_i (fun c1 => br_i (fun c2 => br_i (fun c3 => br_i (fun c4 => ?_) (fun c4 => ?_)) (fun c3 => ?_)) (fun c2 => ?_)) (fun c1 => ?_)
    · rw [if_neg (by omega), if_neg (by omega), if_neg (by omega), if_neg (by omega)] at st
      (repeat' (first | (refine And.intro ?_ ?_; omega)))
      exact st _ (by first | rfl | (congr 1; congr 1; omega))
    · rw [if_neg (by omega), if_neg (by omega), if_neg (by omega), if_pos (by omega)] at st
      (repeat' (first | (refine And.intro ?_ ?_; omega)))
      exact st _ (by first | rfl | (congr 1; congr 1; omega))
    · rw [if_neg (by omega), if_neg (by omega), if_pos (by omega)] at st
      (repeat' (first | (refine And.intro ?_ ?_; omega)))
      exact st _ (by first | rfl | (congr 1; congr 1; omega))
    · rw [if_neg (by omega), if_pos (by omega)] at st
      (repeat' (first | (refine And.intro ?_ ?_; omega)))
      exact st _ (by first | rfl | (congr 1; congr 1; omega))
    · rw [if_pos (by omega)] at st
      (repeat' (first | (refine And.intro ?_ ?_; omega)))
      exact st _ (by first | rfl | (congr 1; congr 1; omega))
  · intro J1 ⟨e1, e2, e3⟩
    refine gX5_feed_23 (J := J1) hL a b c d9 e9 20 (br_y (by omega) ?_)
    have := K1 h J1 ⟨by rw [e1]; push_cast; rfl, e2, e3⟩
    rw [e1]
    exact this
/-- the tape holds a name -/
def NameB (J : Jm) : Prop := (1 ≤ J 313 16 ∧ J 313 16 ≤ 8) ∧ ∀ k : Nat, (k : Int) < J 313 16 → 97 ≤ J 325 k ∧ J 325 k ≤ 122
theorem s_isName {w : Wd} {S : Sh} {J : Jm} {Q : Out → Sh → Jm → Prop} (hL : Lay S) (K1 : NameB J → Q (.inl (some (vI 1))) S J) (K2 : ¬ NameB J → Q (.inl (some (vI 0))) S J) : V w 1 mX5_isName 0 (ent mX5_isName [vR 313]) [] S J Q := by
  have no : ¬ (1 ≤ J 313 16 ∧ J 313 16 ≤ 8) → V w 1 mX5_isName 25 [some (vR 313), some (vI 0), some (vI 0)] [] S J Q := by
    intro h
    have k2 := K2 (fun q => h q.1)
    exact gX5_isName_25 hL 0 0 (br_i (fun _ => ⟨by omega, k2⟩) (fun _ => br_y rfl ⟨by omega, k2⟩))
  refine gX5_isName_0 hL (br_i (fun h => no (by omega)) (fun h => br_i (fun h2 => no (by omega)) (fun h2 => ?_)))
  have loop : ∀ (n k : Nat), (k : Int) + n = J 313 16 → (∀ j : Nat, j < k → 97 ≤ J 325 j ∧ J 325 j ≤ 122) → V w 1 mX5_isName 25 [some (vR 313), some (vI 1), some (vI (k : Int))] [] S J Q := by
    intro n
    induction n with
    | zero =>
      intro k hk hj
      exact gX5_isName_25 hL 1 k (br_y (by omega) ⟨by omega, K1 ⟨by omega, fun j h => hj j (by omega)⟩⟩)
    | succ n ih =>
      intro k hk hj
      refine gX5_isName_25 hL 1 k (br_n (by omega) (br_n (by omega) ?_))
      (repeat' (first | (refine And.intro ?_ ?_; omega)))
      refine br_i (fun hb => ⟨by omega, ih (k + 1) (by omega) (fun j h => ?_)⟩) (fun hb => ⟨by omega, ?_⟩)
      · by_cases hjk : j = k
        · rw [hjk]; exact hb
        · exact hj j (by omega)
      · have k2 := K2 (fun q => hb (q.2 k (by omega)))
        exact gX5_isName_25 hL 0 (k + 1) (br_i (fun _ => ⟨by omega, k2⟩) (fun _ => br_y rfl ⟨by omega, k2⟩))
  exact loop (J 313 16).toNat 0 (by omega) (fun j h => absurd h (by omega))
def tnF (J J' : Jm) (n : Nat) : Prop := ∀ b k, ¬ ((b = 348 ∨ b = 350) ∧ k = n) → ¬ (b = 349 ∧ 8 * n ≤ k ∧ k < 8 * n + 8) → ¬ (b = 313 ∧ k = 16) → J' b k = J b k
def PTn (J : Jm) (n : Nat) (t : Int) (J' : Jm) : Prop := tnF J J' n ∧ J' 348 n = J 313 16 ∧ (∀ k : Nat, (k : Int) < J 313 16 → J' 349 (8 * n + k) = J 325 k) ∧ J' 350 n = t ∧ J' 313 16 = 0
theorem s_takesName {w : Wd} {S : Sh} {J : Jm} {Q : Out → Sh → Jm → Prop} (hL : Lay S) (n : Nat) (t : Int) (hn : n < 7) (h0 : 1 ≤ J 313 16 ∧ J 313 16 ≤ 8) (K : ∀ J', PTn J n t J' → Q (.inl none) S J') : V w 0 mX5_takesName 0 (ent mX5_takesName [vR 313, vI (n : Int), vI t]) [] S J Q := by
  obtain ⟨m, em⟩ : ∃ m : Nat, J 313 16 = m := ⟨(J 313 16).toNat, by omega⟩
  unfold PTn at K
  rw [em] at h0 K
  refine gX5_takesName_0 hL n t ⟨by omega, ?_⟩
  rw [em]
  show V w 0 mX5_takesName 12 [some (vR 313), some (vI (n : Int)), some (vI t), some (vI ((0 : Nat) : Int))] [] S _ Q
  refine up_loop (P := fun k J1 => (∀ b j, ¬ (b = 348 ∧ j = n) → ¬ (b = 349 ∧ 8 * n ≤ j ∧ j < 8 * n + 8) → J1 b j = J b j) ∧ J1 348 n = (m : Int) ∧ (∀ j : Nat, j < k → J1 349 (8 * n + j) = J 325 j)) m (fun k J1 => V w 0 mX5_takesName 12 [some (vR 313), some (vI (n : Int)), some (vI t), some (vI (k : Int))] [] S J1 Q) ?_ ?_ 0 _ (by omega) ⟨fun b j h1 _ => up_ne h1, up_self, fun j hj => absurd hj (by omega)⟩
  · intro k J1 hk ⟨f1, e1, e2⟩ ih
    have t1 : J1 313 16 = (m : Int) := by rw [f1 _ _ (by omega) (by omega)]; exact em
    have p1 : J1 325 k = J 325 k := f1 _ _ (by omega) (by omega)
    refine gX5_takesName_12 (J := J1) hL n t k (br_n (by omega) ?_)
    rw [p1]
    (repeat' (first | (refine And.intro ?_ ?_; omega)))
    refine ih _ ⟨fun b j h1 h2 => ?_, ?_, fun j hj => ?_⟩
    · rw [up_ne (fun e => h2 ⟨e.1, by omega, by omega⟩)]; exact f1 b j h1 h2
    · rw [up_na (by decide)]; exact e1
    · by_cases hjk : j = k
      · rw [hjk, up_self]
      · rw [up_nk (by omega)]; exact e2 j (by omega)
  · intro J1 ⟨f1, e1, e2⟩
    have t1 : J1 313 16 = (m : Int) := by rw [f1 _ _ (by omega) (by omega)]; exact em
    refine gX5_takesName_12 (J := J1) hL n t m (br_y (by omega) ?_)
    (repeat' (first | (refine And.intro ?_ ?_; omega)))
    refine K _ ⟨fun b j h1 h2 h3 => ?_, ?_, fun k hk => ?_, ?_, up_self⟩
    · rw [up_ne h3, up_ne (fun e => h1 ⟨Or.inr e.1, e.2⟩)]
      exact f1 b j (fun e => h1 ⟨Or.inl e.1, e.2⟩) h2
    · rw [up_na (by decide), up_na (by decide)]; exact e1
    · rw [up_na (by decide), up_na (by decide)]; exact e2 k (by omega)
    · rw [up_na (by decide), up_self]
theorem gX5_name_0 {w : Wd} {S : Sh} {J : Jm} {Q : Out → Sh → Jm → Prop} (hL : Lay S) (t : Int)
    (K : (-2147483648 ≤ (J 313 2) - 1 ∧ (J 313 2) - 1 ≤ 2147483647) ∧ Br (0 ≤ t ∧ t ≤ ((J 313 2) - 1)) (Br (NameB (up J 313 0 0)) (Br (J 313 55 = 6) (Q (.inl (some (vI (-1)))) S (up J 313 0 0)) (V w 0 mX5_takesName 0 (ent mX5_takesName [vR 313, vI (J 313 55), vI t]) [] S (up J 313 0 0) (CallQ w 2 mX5_name 43 [some (vR 313), some (vI t)] [] Q))) (Q (.inl (some (vI (-1)))) S (up J 313 0 0))) (Q (.inl (some (vI (-1)))) S (up J 313 0 0))) :
    V w 2 mX5_name 0 (ent mX5_name [vR 313, vI t]) [] S J Q := by
  show V w 2 mX5_name 0 [some (vR 313), some (vI t)] [] S J Q
  refine v_aload_n dX5_name_0 rfl ?_
  refine v_iconst dX5_name_1 (in_lit (by decide)) ?_
  refine v_putI dX5_name_2 frX5_1_5 (fun _ _ _ h => by cases h; exact Or.inl rfl) rfl rfl zfit_int (L_313 hL).1 ?_
  show V w 2 mX5_name 5 [some (vR 313), some (vI t)] [] S (up J 313 0 0) Q
  refine v_iload_n dX5_name_5 rfl ?_
  refine v_iconst dX5_name_6 (in_lit (by decide)) ?_
  refine v_aload_n dX5_name_7 rfl ?_
  refine v_getI dX5_name_8 frX5_243_5 rfl rfl (L_313 hL).1 ?_
  show V w 2 mX5_name 11 [some (vR 313), some (vI t)] [vI (J 313 2), vI 0, vI t] S (up J 313 0 0) Q
  refine v_iconst dX5_name_11 (in_lit (by decide)) ?_
  obtain ⟨o1, K⟩ := K
  refine v_isub dX5_name_12 o1 ?_
  refine v_callS (d' := 0) (rest := []) [vI t, vI 0, vI ((J 313 2) - 1)] dX5_name_13 srX5_169 rfl (one_I (one_I (one_I one_nil))) (Nat.le_of_ble_eq_true rfl) (Nat.le_of_ble_eq_true rfl) (Nat.le_of_ble_eq_true rfl) ?_
  obtain ⟨K1, K2⟩ := K
  refine sX5_within hL t 0 ((J 313 2) - 1)  (fun c1 => ?_) (fun c1 => ?_)
  · have K := K1 c1
    show V w 2 mX5_name 16 [some (vR 313), some (vI t)] [vI 1] S (up J 313 0 0) Q
    refine v_if_eq 35 dX5_name_16 (by decide) (fun cQ => absurd cQ (by decide)) (fun _ => ?_)
    refine v_aload_n dX5_name_19 rfl ?_
    refine v_callV (d' := 1) (rest := []) [] dX5_name_20 vrX5_380_5 (L_313 hL).1 rfl rfl one_nil (Nat.le_of_ble_eq_true rfl) (Nat.le_of_ble_eq_true rfl) (Nat.le_of_ble_eq_true rfl) ?_
    obtain ⟨K1, K2⟩ := K
    refine s_isName hL   (fun c2 => ?_) (fun c2 => ?_)
    · have K := K1 c2
      show V w 2 mX5_name 23 [some (vR 313), some (vI t)] [vI 1] S (up J 313 0 0) Q
      refine v_if_eq 35 dX5_name_23 (by decide) (fun cQ => absurd cQ (by decide)) (fun _ => ?_)
      refine v_aload_n dX5_name_26 rfl ?_
      refine v_getI dX5_name_27 frX5_383_5 rfl rfl (L_313 hL).1 ?_
      show V w 2 mX5_name 30 [some (vR 313), some (vI t)] [vI (J 313 55)] S (up J 313 0 0) Q
      refine v_bipush dX5_name_30 (by decide) (in_lit (by decide)) ?_
      obtain ⟨K1, K2⟩ := K
      refine v_icmp_ne 37 dX5_name_32 (by decide) (fun c3 => ?_) (fun c3 => ?_)
      · have K := K2 c3
        refine v_aload_n dX5_name_37 rfl ?_
        refine v_aload_n dX5_name_38 rfl ?_
        refine v_getI dX5_name_39 frX5_383_5 rfl rfl (L_313 hL).1 ?_
        show V w 2 mX5_name 42 [some (vR 313), some (vI t)] [vI (J 313 55), vR 313] S (up J 313 0 0) Q
        refine v_iload_n dX5_name_42 rfl ?_
        refine v_callV (d' := 0) (rest := []) [vI (J 313 55), vI t] dX5_name_43 vrX5_386_5 (L_313 hL).1 rfl rfl (one_I (one_I one_nil)) (Nat.le_of_ble_eq_true rfl) (Nat.le_of_ble_eq_true rfl) (Nat.le_of_ble_eq_true rfl) ?_
        exact K
      · have K := K1 c3
        refine v_iconst dX5_name_35 (in_lit (by decide)) ?_
        exact v_iret dX5_name_36 rfl rfl K
    · have K := K2 c2
      show V w 2 mX5_name 23 [some (vR 313), some (vI t)] [vI 0] S (up J 313 0 0) Q
      refine v_if_eq 35 dX5_name_23 (by decide) (fun _ => ?_) (fun cQ => absurd cQ (by decide))
      refine v_iconst dX5_name_35 (in_lit (by decide)) ?_
      exact v_iret dX5_name_36 rfl rfl K
  · have K := K2 c1
    show V w 2 mX5_name 16 [some (vR 313), some (vI t)] [vI 0] S (up J 313 0 0) Q
    refine v_if_eq 35 dX5_name_16 (by decide) (fun _ => ?_) (fun cQ => absurd cQ (by decide))
    refine v_iconst dX5_name_35 (in_lit (by decide)) ?_
    exact v_iret dX5_name_36 rfl rfl K
theorem gX5_name_46 {w : Wd} {S : Sh} {J : Jm} {Q : Out → Sh → Jm → Prop} (hL : Lay S) 
    (K : (0 ≤ J 313 55) ∧ (J 313 55 < 6) ∧ (-2147483648 ≤ (J 313 55) + 1 ∧ (J 313 55) + 1 ≤ 2147483647) ∧ (-2147483648 ≤ ((J 313 55) + 1) - 1 ∧ ((J 313 55) + 1) - 1 ≤ 2147483647) ∧ Q (.inl (some (vI (((J 313 55) + 1) - 1)))) S (up (up (up J 351 (J 313 55).toNat (J 313 1)) 352 (J 313 55).toNat 1000000) 313 55 ((J 313 55) + 1))) :
    V w 2 mX5_name 46 [some (vR 313), none] [] S J Q := by
  refine v_aload_n dX5_name_46 rfl ?_
  refine v_getR dX5_name_47 frX5_130_5 rfl (L_313 hL).1 (LR_313_59 hL) (Or.inl rfl) ?_
  refine v_aload_n dX5_name_50 rfl ?_
  refine v_getI dX5_name_51 frX5_383_5 rfl rfl (L_313 hL).1 ?_
  refine v_aload_n dX5_name_54 rfl ?_
  refine v_getI dX5_name_55 frX5_173_5 rfl rfl (L_313 hL).1 ?_
  obtain ⟨o1, K⟩ := K
  obtain ⟨o2, K⟩ := K
  refine st_351 dX5_name_58 hL o1 o2 ?_
  show V w 2 mX5_name 59 [some (vR 313), none] [] S (up J 351 (J 313 55).toNat (J 313 1)) Q
  refine v_aload_n dX5_name_59 rfl ?_
  refine v_getR dX5_name_60 frX5_133_5 rfl (L_313 hL).1 (LR_313_60 hL) (Or.inl rfl) ?_
  refine v_aload_n dX5_name_63 rfl ?_
  refine v_getI dX5_name_64 frX5_383_5 rfl rfl (L_313 hL).1 ?_
  show V w 2 mX5_name 67 [some (vR 313), none] [vI (J 313 55), vR 352] S (up J 351 (J 313 55).toNat (J 313 1)) Q
  refine v_ldc dX5_name_67 q1896 (z := 1000000) (by decide) ?_
  refine st_352 dX5_name_69 hL o1 o2 ?_
  show V w 2 mX5_name 70 [some (vR 313), none] [] S (up (up J 351 (J 313 55).toNat (J 313 1)) 352 (J 313 55).toNat 1000000) Q
  refine v_aload_n dX5_name_70 rfl ?_
  refine v_dup dX5_name_71 trivial ?_
  refine v_getI dX5_name_72 frX5_383_5 rfl rfl (L_313 hL).1 ?_
  show V w 2 mX5_name 75 [some (vR 313), none] [vI (J 313 55), vR 313] S (up (up J 351 (J 313 55).toNat (J 313 1)) 352 (J 313 55).toNat 1000000) Q
  refine v_iconst dX5_name_75 (in_lit (by decide)) ?_
  obtain ⟨o3, K⟩ := K
  refine v_iadd dX5_name_76 o3 ?_
  refine v_putI dX5_name_77 frX5_383_5 (fun _ _ _ h => by cases h; exact Or.inl rfl) rfl rfl zfit_int (L_313 hL).1 ?_
  show V w 2 mX5_name 80 [some (vR 313), none] [] S (up (up (up J 351 (J 313 55).toNat (J 313 1)) 352 (J 313 55).toNat 1000000) 313 55 ((J 313 55) + 1)) Q
  refine v_aload_n dX5_name_80 rfl ?_
  refine v_getI dX5_name_81 frX5_383_5 rfl rfl (L_313 hL).1 ?_
  show V w 2 mX5_name 84 [some (vR 313), none] [vI ((J 313 55) + 1)] S (up (up (up J 351 (J 313 55).toNat (J 313 1)) 352 (J 313 55).toNat 1000000) 313 55 ((J 313 55) + 1)) Q
  refine v_iconst dX5_name_84 (in_lit (by decide)) ?_
  obtain ⟨o4, K⟩ := K
  refine v_isub dX5_name_85 o4 ?_
  exact v_iret dX5_name_86 rfl rfl K
theorem gX5_count_0 {w : Wd} {S : Sh} {J : Jm} {Q : Out → Sh → Jm → Prop} (hL : Lay S) (what : Int)
    (K : (Im (what < 0 ∨ 9 < what) (Q (.inl (some (vI (-1)))) S (up J 313 0 0)) ∧ Im (what = 0) (Q (.inl (some (vI (J 313 1)))) S (up J 313 0 0)) ∧ Im (what = 1) (Q (.inl (some (vI (J 313 2)))) S (up J 313 0 0)) ∧ Im (what = 2) (Q (.inl (some (vI (J 313 8)))) S (up J 313 0 0)) ∧ Im (what = 3) (Q (.inl (some (vI (J 313 32)))) S (up J 313 0 0)) ∧ Im (what = 4) (Q (.inl (some (vI (J 313 55)))) S (up J 313 0 0)) ∧ Im (what = 5) (Q (.inl (some (vI (J 313 25)))) S (up J 313 0 0)) ∧ Im (what = 6) (Q (.inl (some (vI (J 313 16)))) S (up J 313 0 0)) ∧ Im (what = 7) (Q (.inl (some (vI (J 313 75)))) S (up J 313 0 0)) ∧ Im (what = 8) (V w 2 mX5_count 106 [some (vR 313), none, some (vI 0), some (vI 0)] [] S (up J 313 0 0) Q) ∧ Im (what = 9) (V w 2 mX5_count 139 [some (vR 313), none, some (vI 0), some (vI 0)] [] S (up J 313 0 0) Q))) :
    V w 2 mX5_count 0 (ent mX5_count [vR 313, vI what]) [] S J Q := by
  show V w 2 mX5_count 0 [some (vR 313), some (vI what), none, none] [] S J Q
  refine v_aload_n dX5_count_0 rfl ?_
  refine v_iconst dX5_count_1 (in_lit (by decide)) ?_
  refine v_putI dX5_count_2 frX5_1_5 (fun _ _ _ h => by cases h; exact Or.inl rfl) rfl rfl zfit_int (L_313 hL).1 ?_
  show V w 2 mX5_count 5 [some (vR 313), some (vI what), none, none] [] S (up J 313 0 0) Q
  refine v_iconst dX5_count_5 (in_lit (by decide)) ?_
  refine v_istore_n dX5_count_6 (Nat.le_of_ble_eq_true rfl) ?_
  show V w 2 mX5_count 7 [some (vR 313), some (vI what), some (vI 0), none] [] S (up J 313 0 0) Q
  refine v_iload_n dX5_count_7 rfl ?_
  obtain ⟨Kd, K⟩ := K
  by_cases cd : what < 0 ∨ 9 < what
  · have K := Kd cd
    refine v_tableOut 180 dX5_count_8 cd (by decide) ?_
    refine v_iconst dX5_count_180 (in_lit (by decide)) ?_
    exact v_iret dX5_count_181 rfl rfl K
  obtain ⟨Kv, K⟩ := K
  by_cases c0 : what = 0
  · have K := Kv c0
    refine v_tableIn (off := 56) 64 dX5_count_8 (by omega) (by omega) (by rw [c0]; rfl) (by decide) ?_
    refine v_aload_n dX5_count_64 rfl ?_
    refine v_getI dX5_count_65 frX5_173_5 rfl rfl (L_313 hL).1 ?_
    show V w 2 mX5_count 68 [some (vR 313), some (vI what), some (vI 0), none] [vI (J 313 1)] S (up J 313 0 0) Q
    exact v_iret dX5_count_68 rfl rfl K
  obtain ⟨Kv, K⟩ := K
  by_cases c1 : what = 1
  · have K := Kv c1
    refine v_tableIn (off := 61) 69 dX5_count_8 (by omega) (by omega) (by rw [c1]; rfl) (by decide) ?_
    refine v_aload_n dX5_count_69 rfl ?_
    refine v_getI dX5_count_70 frX5_243_5 rfl rfl (L_313 hL).1 ?_
    show V w 2 mX5_count 73 [some (vR 313), some (vI what), some (vI 0), none] [vI (J 313 2)] S (up J 313 0 0) Q
    exact v_iret dX5_count_73 rfl rfl K
  obtain ⟨Kv, K⟩ := K
  by_cases c2 : what = 2
  · have K := Kv c2
    refine v_tableIn (off := 66) 74 dX5_count_8 (by omega) (by omega) (by rw [c2]; rfl) (by decide) ?_
    refine v_aload_n dX5_count_74 rfl ?_
    refine v_getI dX5_count_75 frX5_282_5 rfl rfl (L_313 hL).1 ?_
    show V w 2 mX5_count 78 [some (vR 313), some (vI what), some (vI 0), none] [vI (J 313 8)] S (up J 313 0 0) Q
    exact v_iret dX5_count_78 rfl rfl K
  obtain ⟨Kv, K⟩ := K
  by_cases c3 : what = 3
  · have K := Kv c3
    refine v_tableIn (off := 71) 79 dX5_count_8 (by omega) (by omega) (by rw [c3]; rfl) (by decide) ?_
    refine v_aload_n dX5_count_79 rfl ?_
    refine v_getI dX5_count_80 frX5_304_5 rfl rfl (L_313 hL).1 ?_
    show V w 2 mX5_count 83 [some (vR 313), some (vI what), some (vI 0), none] [vI (J 313 32)] S (up J 313 0 0) Q
    exact v_iret dX5_count_83 rfl rfl K
  obtain ⟨Kv, K⟩ := K
  by_cases c4 : what = 4
  · have K := Kv c4
    refine v_tableIn (off := 76) 84 dX5_count_8 (by omega) (by omega) (by rw [c4]; rfl) (by decide) ?_
    refine v_aload_n dX5_count_84 rfl ?_
    refine v_getI dX5_count_85 frX5_383_5 rfl rfl (L_313 hL).1 ?_
    show V w 2 mX5_count 88 [some (vR 313), some (vI what), some (vI 0), none] [vI (J 313 55)] S (up J 313 0 0) Q
    exact v_iret dX5_count_88 rfl rfl K
  obtain ⟨Kv, K⟩ := K
  by_cases c5 : what = 5
  · have K := Kv c5
    refine v_tableIn (off := 81) 89 dX5_count_8 (by omega) (by omega) (by rw [c5]; rfl) (by decide) ?_
    refine v_aload_n dX5_count_89 rfl ?_
    refine v_getI dX5_count_90 frX5_291_5 rfl rfl (L_313 hL).1 ?_
    show V w 2 mX5_count 93 [some (vR 313), some (vI what), some (vI 0), none] [vI (J 313 25)] S (up J 313 0 0) Q
    exact v_iret dX5_count_93 rfl rfl K
  obtain ⟨Kv, K⟩ := K
  by_cases c6 : what = 6
  · have K := Kv c6
    refine v_tableIn (off := 86) 94 dX5_count_8 (by omega) (by omega) (by rw [c6]; rfl) (by decide) ?_
    refine v_aload_n dX5_count_94 rfl ?_
    refine v_getI dX5_count_95 frX5_180_5 rfl rfl (L_313 hL).1 ?_
    show V w 2 mX5_count 98 [some (vR 313), some (vI what), some (vI 0), none] [vI (J 313 16)] S (up J 313 0 0) Q
    exact v_iret dX5_count_98 rfl rfl K
  obtain ⟨Kv, K⟩ := K
  by_cases c7 : what = 7
  · have K := Kv c7
    refine v_tableIn (off := 91) 99 dX5_count_8 (by omega) (by omega) (by rw [c7]; rfl) (by decide) ?_
    refine v_aload_n dX5_count_99 rfl ?_
    refine v_getI dX5_count_100 frX5_447_5 rfl rfl (L_313 hL).1 ?_
    show V w 2 mX5_count 103 [some (vR 313), some (vI what), some (vI 0), none] [vI (J 313 75)] S (up J 313 0 0) Q
    exact v_iret dX5_count_103 rfl rfl K
  obtain ⟨Kv, K⟩ := K
  by_cases c8 : what = 8
  · have K := Kv c8
    refine v_tableIn (off := 96) 104 dX5_count_8 (by omega) (by omega) (by rw [c8]; rfl) (by decide) ?_
    refine v_iconst dX5_count_104 (in_lit (by decide)) ?_
    refine v_istore_n dX5_count_105 (Nat.le_of_ble_eq_true rfl) ?_
    show V w 2 mX5_count 106 [some (vR 313), some (vI what), some (vI 0), some (vI 0)] [] S (up J 313 0 0) Q
    exact v_forget (fg_some (fg_none (fg_some (fg_some fg_nil)))) K
  have Kv := K
  have c9 : what = 9 := by omega
  · have K := Kv c9
    refine v_tableIn (off := 129) 137 dX5_count_8 (by omega) (by omega) (by rw [c9]; rfl) (by decide) ?_
    refine v_iconst dX5_count_137 (in_lit (by decide)) ?_
    refine v_istore_n dX5_count_138 (Nat.le_of_ble_eq_true rfl) ?_
    show V w 2 mX5_count 139 [some (vR 313), some (vI what), some (vI 0), some (vI 0)] [] S (up J 313 0 0) Q
    exact v_forget (fg_some (fg_none (fg_some (fg_some fg_nil)))) K
theorem gX5_count_106 {w : Wd} {S : Sh} {J : Jm} {Q : Out → Sh → Jm → Prop} (hL : Lay S) (n : Int) (k : Nat)
    (K : Br (J 313 2 ≤ ((k : Nat) : Int)) (Q (.inl (some (vI n))) S J) ((0 ≤ ((k : Nat) : Int) ∧ ((k : Nat) : Int) < 24) ∧ Br (J 314 ((k : Nat) : Int).toNat ≤ (J 313 1) ∧ (J 313 1) < J 315 ((k : Nat) : Int).toNat) ((-2147483648 ≤ n + 1 ∧ n + 1 ≤ 2147483647) ∧ (-2147483648 ≤ ((k : Nat) : Int) + 1 ∧ ((k : Nat) : Int) + 1 ≤ 2147483647) ∧ V w 2 mX5_count 106 [some (vR 313), none, some (vI (n + 1)), some (vI ((k + 1 : Nat) : Int))] [] S J Q) ((-2147483648 ≤ ((k : Nat) : Int) + 1 ∧ ((k : Nat) : Int) + 1 ≤ 2147483647) ∧ V w 2 mX5_count 106 [some (vR 313), none, some (vI n), some (vI ((k + 1 : Nat) : Int))] [] S J Q))) :
    V w 2 mX5_count 106 [some (vR 313), none, some (vI n), some (vI ((k : Nat) : Int))] [] S J Q := by
  refine v_iload_n dX5_count_106 rfl ?_
  refine v_aload_n dX5_count_107 rfl ?_
  refine v_getI dX5_count_108 frX5_243_5 rfl rfl (L_313 hL).1 ?_
  obtain ⟨K1, K2⟩ := K
  refine v_icmp_ge 135 dX5_count_111 (by decide) (fun c1 => ?_) (fun c1 => ?_)
  · have K := K1 c1
    refine v_iload_n dX5_count_135 rfl ?_
    exact v_iret dX5_count_136 rfl rfl K
  · have K := K2 c1
    refine v_aload_n dX5_count_114 rfl ?_
    refine v_iload_n dX5_count_115 rfl ?_
    refine v_aload_n dX5_count_116 rfl ?_
    refine v_getI dX5_count_117 frX5_173_5 rfl rfl (L_313 hL).1 ?_
    refine v_callV (d' := 1) (rest := []) [vI ((k : Nat) : Int), vI (J 313 1)] dX5_count_120 vrX5_314_5 (L_313 hL).1 rfl rfl (one_I (one_I one_nil)) (Nat.le_of_ble_eq_true rfl) (Nat.le_of_ble_eq_true rfl) (Nat.le_of_ble_eq_true rfl) ?_
    obtain ⟨o1, K⟩ := K
    obtain ⟨K1, K2⟩ := K
    refine sX5_tabletCounts hL ((k : Nat) : Int) (J 313 1) o1 (fun c2 => ?_) (fun c2 => ?_)
    · have K := K1 c2
      show V w 2 mX5_count 123 [some (vR 313), none, some (vI n), some (vI ((k : Nat) : Int))] [vI 1] S J Q
      refine v_if_eq 129 dX5_count_123 (by decide) (fun cQ => absurd cQ (by decide)) (fun _ => ?_)
      obtain ⟨o2, K⟩ := K
      refine v_iinc dX5_count_126 rfl o2 ?_
      show V w 2 mX5_count 129 [some (vR 313), none, some (vI (n + 1)), some (vI ((k : Nat) : Int))] [] S J Q
      obtain ⟨o3, K⟩ := K
      refine v_iinc dX5_count_129 rfl o3 ?_
      show V w 2 mX5_count 132 [some (vR 313), none, some (vI (n + 1)), some (vI ((k + 1 : Nat) : Int))] [] S J Q
      refine v_goto 106 dX5_count_132 (by decide) ?_
      exact K
    · have K := K2 c2
      show V w 2 mX5_count 123 [some (vR 313), none, some (vI n), some (vI ((k : Nat) : Int))] [vI 0] S J Q
      refine v_if_eq 129 dX5_count_123 (by decide) (fun _ => ?_) (fun cQ => absurd cQ (by decide))
      obtain ⟨o4, K⟩ := K
      refine v_iinc dX5_count_129 rfl o4 ?_
      show V w 2 mX5_count 132 [some (vR 313), none, some (vI n), some (vI ((k + 1 : Nat) : Int))] [] S J Q
      refine v_goto 106 dX5_count_132 (by decide) ?_
      exact K
theorem gX5_count_139 {w : Wd} {S : Sh} {J : Jm} {Q : Out → Sh → Jm → Prop} (hL : Lay S) (n : Int) (k : Nat)
    (K : Br (J 313 55 ≤ ((k : Nat) : Int)) (Q (.inl (some (vI n))) S J) ((((k : Nat) : Int) < 6) ∧ Br ((J 351 k) ≤ (J 313 1) ∧ (J 313 1) < (J 352 k)) ((-2147483648 ≤ n + 1 ∧ n + 1 ≤ 2147483647) ∧ (-2147483648 ≤ ((k : Nat) : Int) + 1 ∧ ((k : Nat) : Int) + 1 ≤ 2147483647) ∧ V w 2 mX5_count 139 [some (vR 313), none, some (vI (n + 1)), some (vI ((k + 1 : Nat) : Int))] [] S J Q) ((-2147483648 ≤ ((k : Nat) : Int) + 1 ∧ ((k : Nat) : Int) + 1 ≤ 2147483647) ∧ V w 2 mX5_count 139 [some (vR 313), none, some (vI n), some (vI ((k + 1 : Nat) : Int))] [] S J Q))) :
    V w 2 mX5_count 139 [some (vR 313), none, some (vI n), some (vI ((k : Nat) : Int))] [] S J Q := by
  refine v_iload_n dX5_count_139 rfl ?_
  refine v_aload_n dX5_count_140 rfl ?_
  refine v_getI dX5_count_141 frX5_383_5 rfl rfl (L_313 hL).1 ?_
  obtain ⟨K1, K2⟩ := K
  refine v_icmp_ge 178 dX5_count_144 (by decide) (fun c1 => ?_) (fun c1 => ?_)
  · have K := K1 c1
    refine v_iload_n dX5_count_178 rfl ?_
    exact v_iret dX5_count_179 rfl rfl K
  · have K := K2 c1
    refine v_aload_n dX5_count_147 rfl ?_
    refine v_getR dX5_count_148 frX5_130_5 rfl (L_313 hL).1 (LR_313_59 hL) (Or.inl rfl) ?_
    refine v_iload_n dX5_count_151 rfl ?_
    obtain ⟨o1, K⟩ := K
    refine ld_351 dX5_count_152 hL (by omega) o1 ?_
    show V w 2 mX5_count 153 [some (vR 313), none, some (vI n), some (vI ((k : Nat) : Int))] [vI (J 351 k)] S J Q
    refine v_aload_n dX5_count_153 rfl ?_
    refine v_getR dX5_count_154 frX5_133_5 rfl (L_313 hL).1 (LR_313_60 hL) (Or.inl rfl) ?_
    refine v_iload_n dX5_count_157 rfl ?_
    refine ld_352 dX5_count_158 hL (by omega) o1 ?_
    show V w 2 mX5_count 159 [some (vR 313), none, some (vI n), some (vI ((k : Nat) : Int))] [vI (J 352 k), vI (J 351 k)] S J Q
    refine v_aload_n dX5_count_159 rfl ?_
    refine v_getI dX5_count_160 frX5_173_5 rfl rfl (L_313 hL).1 ?_
    refine v_callS (d' := 0) (rest := []) [vI (J 351 k), vI (J 352 k), vI (J 313 1)] dX5_count_163 srX5_177 rfl (one_I (one_I (one_I one_nil))) (Nat.le_of_ble_eq_true rfl) (Nat.le_of_ble_eq_true rfl) (Nat.le_of_ble_eq_true rfl) ?_
    obtain ⟨K1, K2⟩ := K
    refine sX5_counts hL (J 351 k) (J 352 k) (J 313 1)  (fun c2 => ?_) (fun c2 => ?_)
    · have K := K1 c2
      show V w 2 mX5_count 166 [some (vR 313), none, some (vI n), some (vI ((k : Nat) : Int))] [vI 1] S J Q
      refine v_if_eq 172 dX5_count_166 (by decide) (fun cQ => absurd cQ (by decide)) (fun _ => ?_)
      obtain ⟨o2, K⟩ := K
      refine v_iinc dX5_count_169 rfl o2 ?_
      show V w 2 mX5_count 172 [some (vR 313), none, some (vI (n + 1)), some (vI ((k : Nat) : Int))] [] S J Q
      obtain ⟨o3, K⟩ := K
      refine v_iinc dX5_count_172 rfl o3 ?_
      show V w 2 mX5_count 175 [some (vR 313), none, some (vI (n + 1)), some (vI ((k + 1 : Nat) : Int))] [] S J Q
      refine v_goto 139 dX5_count_175 (by decide) ?_
      exact K
    · have K := K2 c2
      show V w 2 mX5_count 166 [some (vR 313), none, some (vI n), some (vI ((k : Nat) : Int))] [vI 0] S J Q
      refine v_if_eq 172 dX5_count_166 (by decide) (fun _ => ?_) (fun cQ => absurd cQ (by decide))
      obtain ⟨o4, K⟩ := K
      refine v_iinc dX5_count_172 rfl o4 ?_
      show V w 2 mX5_count 175 [some (vR 313), none, some (vI n), some (vI ((k + 1 : Nat) : Int))] [] S J Q
      refine v_goto 139 dX5_count_175 (by decide) ?_
      exact K

/-- how many of the first n -/
def cntB (p : Nat → Bool) : Nat → Nat
  | 0 => 0
  | n + 1 => cntB p n + if p n = true then 1 else 0
theorem cntB_le (p : Nat → Bool) : ∀ n, cntB p n ≤ n
  | 0 => Nat.le_refl _
  | n + 1 => by
    have := cntB_le p n
    unfold cntB
    split <;> omega
def tabB (J : Jm) (known : Int) (t : Nat) : Bool := decide (J 314 t ≤ known ∧ known < J 315 t)
def namB (J : Jm) (known : Int) (k : Nat) : Bool := decide (J 351 k ≤ known ∧ known < J 352 k)
/-- what is counted -/
def rCount (J : Jm) (what : Int) : Int := if what = 0 then J 313 1 else if what = 1 then J 313 2 else if what = 2 then J 313 8 else if what = 3 then J 313 32 else if what = 4 then J 313 55 else if what = 5 then J 313 25 else if what = 6 then J 313 16 else if what = 7 then J 313 75 else if what = 8 then (cntB (tabB J (J 313 1)) (J 313 2).toNat : Nat) else if what = 9 then (cntB (namB J (J 313 1)) (J 313 55).toNat : Nat) else -1
theorem m_count {w : Wd} {S : Sh} {J : Jm} {Q : Out → Sh → Jm → Prop} (hL : Lay S) (what : Int) (hT : 0 ≤ J 313 2 ∧ J 313 2 ≤ 24) (hN : 0 ≤ J 313 55 ∧ J 313 55 ≤ 6) (K : ∀ J', Kp J J' → Q (.inl (some (vI (rCount J what)))) S J') : V w 2 mX5_count 0 (ent mX5_count [vR 313, vI what]) [] S J Q := by
  have fin := K _ (k0 J)
  unfold rCount at fin
  refine gX5_count_0 hL what ⟨im_i (fun h => ?_), im_i (fun h => ?_), im_i (fun h => ?_), im_i (fun h => ?_), im_i (fun h => ?_), im_i (fun h => ?_), im_i (fun h => ?_), im_i (fun h => ?_), im_i (fun h => ?_), im_i (fun h => ?_), im_i (fun h => ?_)⟩
  · rw [if_neg (by omega), if_neg (by omega), if_neg (by omega), if_neg (by omega), if_neg (by omega), if_neg (by omega), if_neg (by omega), if_neg (by omega), if_neg (by omega), if_neg (by omega)] at fin
    exact fin
  · subst h; exact fin
  · subst h; exact fin
  · subst h; exact fin
  · subst h; exact fin
  · subst h; exact fin
  · subst h; exact fin
  · subst h; exact fin
  · subst h; exact fin
  · subst h
    obtain ⟨N, eN⟩ : ∃ N : Nat, J 313 2 = N := ⟨(J 313 2).toNat, by omega⟩
    have fin2 : Q (.inl (some (vI (cntB (tabB J (J 313 1)) N : Nat)))) S (up J 313 0 0) := by
      have : (J 313 2).toNat = N := by omega
      rw [← this]; exact fin
    have e0 : (up J 313 0 0) 313 2 = (N : Int) := by rw [up_nk (by decide)]; exact eN
    have e1 : (up J 313 0 0) 313 1 = J 313 1 := up_nk (by decide)
    have loop : ∀ (m k : Nat), k + m = N → V w 2 mX5_count 106 [some (vR 313), none, some (vI (cntB (tabB J (J 313 1)) k : Nat)), some (vI (k : Int))] [] S (up J 313 0 0) Q := by
      intro m
      induction m with
      | zero =>
        intro k hk
        obtain rfl : k = N := by omega
        exact gX5_count_106 (J := up J 313 0 0) hL _ k (br_y (by omega) fin2)
      | succ m ih =>
        intro k hk
        have ih1 := ih (k + 1) (by omega)
        have hle := cntB_le (tabB J (J 313 1)) k
        rw [show cntB (tabB J (J 313 1)) (k + 1) = cntB (tabB J (J 313 1)) k + if tabB J (J 313 1) k = true then 1 else 0 from rfl] at ih1
        refine gX5_count_106 (J := up J 313 0 0) hL _ k (br_n (by omega) ?_)
        rw [e1, Int.toNat_natCast]
        (repeat' (first | (refine And.intro ?_ ?_; omega)))
        refine br_i (fun hb => ?_) (fun hb => ?_)
        · rw [if_pos (show tabB J (J 313 1) k = true from decide_eq_true hb)] at ih1
          (repeat' (first | (refine And.intro ?_ ?_; omega)))
          exact ih1
        · rw [if_neg (fun q : tabB J (J 313 1) k = true => hb (of_decide_eq_true q))] at ih1
          (repeat' (first | (refine And.intro ?_ ?_; omega)))
          exact ih1
    exact loop N 0 (by omega)
  · subst h
    obtain ⟨N, eN⟩ : ∃ N : Nat, J 313 55 = N := ⟨(J 313 55).toNat, by omega⟩
    have fin2 : Q (.inl (some (vI (cntB (namB J (J 313 1)) N : Nat)))) S (up J 313 0 0) := by
      have : (J 313 55).toNat = N := by omega
      rw [← this]; exact fin
    have e0 : (up J 313 0 0) 313 55 = (N : Int) := by rw [up_nk (by decide)]; exact eN
    have e1 : (up J 313 0 0) 313 1 = J 313 1 := up_nk (by decide)
    have loop : ∀ (m k : Nat), k + m = N → V w 2 mX5_count 139 [some (vR 313), none, some (vI (cntB (namB J (J 313 1)) k : Nat)), some (vI (k : Int))] [] S (up J 313 0 0) Q := by
      intro m
      induction m with
      | zero =>
        intro k hk
        obtain rfl : k = N := by omega
        exact gX5_count_139 (J := up J 313 0 0) hL _ k (br_y (by omega) fin2)
      | succ m ih =>
        intro k hk
        have ih1 := ih (k + 1) (by omega)
        have hle := cntB_le (namB J (J 313 1)) k
        rw [show cntB (namB J (J 313 1)) (k + 1) = cntB (namB J (J 313 1)) k + if namB J (J 313 1) k = true then 1 else 0 from rfl] at ih1
        refine gX5_count_139 (J := up J 313 0 0) hL _ k (br_n (by omega) ?_)
        rw [e1]
        (repeat' (first | (refine And.intro ?_ ?_; omega)))
        refine br_i (fun hb => ?_) (fun hb => ?_)
        · rw [if_pos (show namB J (J 313 1) k = true from decide_eq_true hb)] at ih1
          (repeat' (first | (refine And.intro ?_ ?_; omega)))
          exact ih1
        · rw [if_neg (fun q : namB J (J 313 1) k = true => hb (of_decide_eq_true q))] at ih1
          (repeat' (first | (refine And.intro ?_ ?_; omega)))
          exact ih1
    exact loop N 0 (by omega)
def NamNew (J : Jm) (t : Int) (J' : Jm) : Prop := ∃ J1, PTn (up J 313 0 0) (J 313 55).toNat t J1 ∧ J' = up (up (up J1 351 (J 313 55).toNat (J 313 1)) 352 (J 313 55).toNat 1000000) 313 55 (J 313 55 + 1)
theorem m_name {w : Wd} {S : Sh} {J : Jm} {Q : Out → Sh → Jm → Prop} (hL : Lay S) (t : Int) (hT : 0 ≤ J 313 2 ∧ J 313 2 ≤ 24) (hN : 0 ≤ J 313 55 ∧ J 313 55 ≤ 6) (K0 : ¬ ((0 ≤ t ∧ t ≤ J 313 2 - 1) ∧ NameB J ∧ J 313 55 ≠ 6) → ∀ J', Kp J J' → Q (.inl (some (vI (-1)))) S J') (K1 : ((0 ≤ t ∧ t ≤ J 313 2 - 1) ∧ NameB J ∧ J 313 55 ≠ 6) → ∀ J', NamNew J t J' → Q (.inl (some (vI (J 313 55)))) S J') : V w 2 mX5_name 0 (ent mX5_name [vR 313, vI t]) [] S J Q := by
  have eB : NameB (up J 313 0 0) ↔ NameB J := by
    unfold NameB
    simp only [up_nk (show (16 : Nat) ≠ 0 by decide), up_na (show 325 ≠ 313 by decide)]
  obtain ⟨n, en⟩ : ∃ n : Nat, J 313 55 = n := ⟨(J 313 55).toNat, by omega⟩
  unfold NamNew at K1
  rw [en, Int.toNat_natCast] at K1
  rw [en] at K0
  refine gX5_name_0 hL t ?_
  rw [en]
  refine ⟨by omega, br_i (fun h1 => br_i (fun h2 => br_i (fun h3 => K0 (fun q => q.2.2 h3) _ (k0 J)) (fun h3 => ?_)) (fun h2 => K0 (fun q => h2 (eB.mpr q.2.1)) _ (k0 J))) (fun h1 => K0 (fun q => h1 q.1) _ (k0 J))⟩
  refine s_takesName hL n t (by omega) h2.1 (fun J1 hp => ?_)
  have hf := hp.1
  have e1 : J1 313 55 = (n : Int) := by rw [hf _ _ (by omega) (by omega) (by omega), up_nk (by decide)]; exact en
  have e2 : J1 313 1 = J 313 1 := by rw [hf _ _ (by omega) (by omega) (by omega), up_nk (by decide)]
  refine v_forget (fg_some (fg_none fg_nil)) (gX5_name_46 hL ?_)
  rw [e1, e2, Int.toNat_natCast]
  (repeat' (first | (refine And.intro ?_ ?_; omega)))
  have := K1 ⟨h1, eB.mp h2, h3⟩ _ ⟨J1, hp, rfl⟩
  rw [show (n : Int) + 1 - 1 = (n : Int) by omega]
  exact this
