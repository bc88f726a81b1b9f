/-! the model: small steps of reading -/
set_option maxRecDepth 100000
theorem gX5_fails_0 {w : Wd} {S : Sh} {J : Jm} {Q : Out → Sh → Jm → Prop} (hL : Lay S) (its : Int)
    (K : Br (J 313 21 = 0) (Q (.inl none) S (up (up J 313 21 its) 313 22 (J 313 18))) (Q (.inl none) S J)) :
    V w 0 mX5_fails 0 (ent mX5_fails [vR 313, vI its]) [] S J Q := by
  show V w 0 mX5_fails 0 [some (vR 313), some (vI its)] [] S J Q
  refine v_aload_n dX5_fails_0 rfl ?_
  refine v_getI dX5_fails_1 frX5_216_5 rfl rfl (L_313 hL).1 ?_
  obtain ⟨K1, K2⟩ := K
  refine v_if_eq 8 dX5_fails_4 (by decide) (fun c1 => ?_) (fun c1 => ?_)
  · have K := K1 c1
    refine v_aload_n dX5_fails_8 rfl ?_
    refine v_iload_n dX5_fails_9 rfl ?_
    refine v_putI dX5_fails_10 frX5_216_5 (fun _ _ _ h => by cases h; exact Or.inl rfl) rfl rfl zfit_int (L_313 hL).1 ?_
    show V w 0 mX5_fails 13 [some (vR 313), some (vI its)] [] S (up J 313 21 its) Q
    refine v_aload_n dX5_fails_13 rfl ?_
    refine v_aload_n dX5_fails_14 rfl ?_
    refine v_getI dX5_fails_15 frX5_186_5 rfl rfl (L_313 hL).1 ?_
    show V w 0 mX5_fails 18 [some (vR 313), some (vI its)] [vI (J 313 18), vR 313] S (up J 313 21 its) Q
    refine v_putI dX5_fails_18 frX5_219_5 (fun _ _ _ h => by cases h; exact Or.inl rfl) rfl rfl zfit_int (L_313 hL).1 ?_
    show V w 0 mX5_fails 21 [some (vR 313), some (vI its)] [] S (up (up J 313 21 its) 313 22 (J 313 18)) Q
    exact v_vret dX5_fails_21 rfl K
  · have K := K2 c1
    exact v_vret dX5_fails_7 rfl K

theorem s_fails {w : Wd} {S : Sh} {J : Jm} {Q : Out → Sh → Jm → Prop} (hL : Lay S) (its : Int) (h : J 313 21 = 0) (K : Q (.inl none) S (up (up J 313 21 its) 313 22 (J 313 18))) : V w 0 mX5_fails 0 (ent mX5_fails [vR 313, vI its]) [] S J Q := gX5_fails_0 hL its (br_y h K)
theorem gX5_wantSign_0 {w : Wd} {S : Sh} {J : Jm} {Q : Out → Sh → Jm → Prop} (hL : Lay S) (c : Int)
    (K : Br (J 313 21 = 0) (Br (J 313 19 = 4 ∧ J 313 20 = c) ((MTape J) ∧ (0 ≤ J 313 17 ∧ J 313 17 ≤ 300) ∧ (∀ (J1 : Jm), PNx J (J 313 17).toNat J1 → Q (.inl none) S J1)) (Q (.inl none) S (up (up J 313 21 1) 313 22 (J 313 18)))) (Q (.inl none) S J)) :
    V w 2 mX5_wantSign 0 (ent mX5_wantSign [vR 313, vI c]) [] S J Q := by
  show V w 2 mX5_wantSign 0 [some (vR 313), some (vI c)] [] S J Q
  refine v_aload_n dX5_wantSign_0 rfl ?_
  refine v_callV (d' := 0) (rest := []) [] dX5_wantSign_1 vrX5_222_5 (L_313 hL).1 rfl rfl one_nil (Nat.le_of_ble_eq_true rfl) (Nat.le_of_ble_eq_true rfl) (Nat.le_of_ble_eq_true rfl) ?_
  obtain ⟨K1, K2⟩ := K
  refine sX5_isWell hL   (fun c1 => ?_) (fun c1 => ?_)
  · have K := K1 c1
    show V w 2 mX5_wantSign 4 [some (vR 313), some (vI c)] [vI 1] S J Q
    refine v_if_ne 8 dX5_wantSign_4 (by decide) (fun _ => ?_) (fun cQ => absurd cQ (by decide))
    refine v_aload_n dX5_wantSign_8 rfl ?_
    refine v_iload_n dX5_wantSign_9 rfl ?_
    refine v_callV (d' := 0) (rest := []) [vI c] dX5_wantSign_10 vrX5_226_5 (L_313 hL).1 rfl rfl (one_I one_nil) (Nat.le_of_ble_eq_true rfl) (Nat.le_of_ble_eq_true rfl) (Nat.le_of_ble_eq_true rfl) ?_
    obtain ⟨K1, K2⟩ := K
    refine sX5_isSign hL c  (fun c2 => ?_) (fun c2 => ?_)
    · have K := K1 c2
      show V w 2 mX5_wantSign 13 [some (vR 313), some (vI c)] [vI 1] S J Q
      refine v_if_eq 23 dX5_wantSign_13 (by decide) (fun cQ => absurd cQ (by decide)) (fun _ => ?_)
      refine v_aload_n dX5_wantSign_16 rfl ?_
      refine v_callV (d' := 1) (rest := []) [] dX5_wantSign_17 vrX5_229_5 (L_313 hL).1 rfl rfl one_nil (Nat.le_of_ble_eq_true rfl) (Nat.le_of_ble_eq_true rfl) (Nat.le_of_ble_eq_true rfl) ?_
      obtain ⟨o1, K⟩ := K
      obtain ⟨o2, K⟩ := K
      refine s_nextR hL  o1 o2 (fun J1 hp => ?_)
      have K := K J1 hp
      show V w 2 mX5_wantSign 20 [some (vR 313), some (vI c)] [] S J1 Q
      refine v_goto 28 dX5_wantSign_20 (by decide) ?_
      exact v_vret dX5_wantSign_28 rfl K
    · have K := K2 c2
      show V w 2 mX5_wantSign 13 [some (vR 313), some (vI c)] [vI 0] S J Q
      refine v_if_eq 23 dX5_wantSign_13 (by decide) (fun _ => ?_) (fun cQ => absurd cQ (by decide))
      refine v_aload_n dX5_wantSign_23 rfl ?_
      refine v_iconst dX5_wantSign_24 (in_lit (by decide)) ?_
      refine v_callV (d' := 0) (rest := []) [vI 1] dX5_wantSign_25 vrX5_232_5 (L_313 hL).1 rfl rfl (one_I one_nil) (Nat.le_of_ble_eq_true rfl) (Nat.le_of_ble_eq_true rfl) (Nat.le_of_ble_eq_true rfl) ?_
      refine s_fails hL 1 c1 ?_
      show V w 2 mX5_wantSign 28 [some (vR 313), some (vI c)] [] S (up (up J 313 21 1) 313 22 (J 313 18)) Q
      exact v_vret dX5_wantSign_28 rfl K
  · have K := K2 c1
    show V w 2 mX5_wantSign 4 [some (vR 313), some (vI c)] [vI 0] S J Q
    refine v_if_ne 8 dX5_wantSign_4 (by decide) (fun cQ => absurd cQ (by decide)) (fun _ => ?_)
    exact v_vret dX5_wantSign_7 rfl K
theorem gX5_number_0 {w : Wd} {S : Sh} {J : Jm} {Q : Out → Sh → Jm → Prop} (hL : Lay S) (lo : Int) (hi : Int)
    (K : Br (J 313 21 = 0) (Br (J 313 19 = 2) (Br (lo ≤ (J 313 20) ∧ (J 313 20) ≤ hi) ((MTape J) ∧ (0 ≤ J 313 17 ∧ J 313 17 ≤ 300) ∧ (∀ (J1 : Jm), PNx J (J 313 17).toNat J1 → Q (.inl (some (vI (J 313 20)))) S J1)) (Q (.inl (some (vI 0))) S (up (up J 313 21 2) 313 22 (J 313 18)))) (Q (.inl (some (vI 0))) S (up (up J 313 21 1) 313 22 (J 313 18)))) (Q (.inl (some (vI 0))) S J)) :
    V w 2 mX5_number 0 (ent mX5_number [vR 313, vI lo, vI hi]) [] S J Q := by
  show V w 2 mX5_number 0 [some (vR 313), some (vI lo), some (vI hi), none] [] S J Q
  refine v_aload_n dX5_number_0 rfl ?_
  refine v_callV (d' := 0) (rest := []) [] dX5_number_1 vrX5_222_5 (L_313 hL).1 rfl rfl one_nil (Nat.le_of_ble_eq_true rfl) (Nat.le_of_ble_eq_true rfl) (Nat.le_of_ble_eq_true rfl) ?_
  obtain ⟨K1, K2⟩ := K
  refine sX5_isWell hL   (fun c1 => ?_) (fun c1 => ?_)
  · have K := K1 c1
    show V w 2 mX5_number 4 [some (vR 313), some (vI lo), some (vI hi), none] [vI 1] S J Q
    refine v_if_eq 20 dX5_number_4 (by decide) (fun cQ => absurd cQ (by decide)) (fun _ => ?_)
    refine v_aload_n dX5_number_7 rfl ?_
    refine v_getI dX5_number_8 frX5_189_5 rfl rfl (L_313 hL).1 ?_
    refine v_iconst dX5_number_11 (in_lit (by decide)) ?_
    obtain ⟨K1, K2⟩ := K
    refine v_icmp_eq 20 dX5_number_12 (by decide) (fun c2 => ?_) (fun c2 => ?_)
    · have K := K1 c2
      refine v_aload_n dX5_number_20 rfl ?_
      refine v_callV (d' := 0) (rest := []) [] dX5_number_21 vrX5_222_5 (L_313 hL).1 rfl rfl one_nil (Nat.le_of_ble_eq_true rfl) (Nat.le_of_ble_eq_true rfl) (Nat.le_of_ble_eq_true rfl) ?_
      refine sX5_isWell hL   (fun _ => ?_) (fun cQ => absurd c1 cQ)
      show V w 2 mX5_number 24 [some (vR 313), some (vI lo), some (vI hi), none] [vI 1] S J Q
      refine v_if_eq 44 dX5_number_24 (by decide) (fun cQ => absurd cQ (by decide)) (fun _ => ?_)
      refine v_aload_n dX5_number_27 rfl ?_
      refine v_getI dX5_number_28 frX5_192_5 rfl rfl (L_313 hL).1 ?_
      refine v_iload_n dX5_number_31 rfl ?_
      refine v_iload_n dX5_number_32 rfl ?_
      refine v_callS (d' := 0) (rest := []) [vI (J 313 20), vI lo, vI hi] dX5_number_33 srX5_169 rfl (one_I (one_I (one_I one_nil))) (Nat.le_of_ble_eq_true rfl) (Nat.le_of_ble_eq_true rfl) (Nat.le_of_ble_eq_true rfl) ?_
      obtain ⟨K1, K2⟩ := K
      refine sX5_within hL (J 313 20) lo hi  (fun c3 => ?_) (fun c3 => ?_)
      · have K := K1 c3
        show V w 2 mX5_number 36 [some (vR 313), some (vI lo), some (vI hi), none] [vI 1] S J Q
        refine v_if_ne 44 dX5_number_36 (by decide) (fun _ => ?_) (fun cQ => absurd cQ (by decide))
        refine v_aload_n dX5_number_44 rfl ?_
        refine v_callV (d' := 0) (rest := []) [] dX5_number_45 vrX5_222_5 (L_313 hL).1 rfl rfl one_nil (Nat.le_of_ble_eq_true rfl) (Nat.le_of_ble_eq_true rfl) (Nat.le_of_ble_eq_true rfl) ?_
        refine sX5_isWell hL   (fun _ => ?_) (fun cQ => absurd c1 cQ)
        show V w 2 mX5_number 48 [some (vR 313), some (vI lo), some (vI hi), none] [vI 1] S J Q
        refine v_if_ne 53 dX5_number_48 (by decide) (fun _ => ?_) (fun cQ => absurd cQ (by decide))
        refine v_aload_n dX5_number_53 rfl ?_
        refine v_getI dX5_number_54 frX5_192_5 rfl rfl (L_313 hL).1 ?_
        refine v_istore_n dX5_number_57 (Nat.le_of_ble_eq_true rfl) ?_
        show V w 2 mX5_number 58 [some (vR 313), some (vI lo), some (vI hi), some (vI (J 313 20))] [] S J Q
        refine v_aload_n dX5_number_58 rfl ?_
        refine v_callV (d' := 1) (rest := []) [] dX5_number_59 vrX5_229_5 (L_313 hL).1 rfl rfl one_nil (Nat.le_of_ble_eq_true rfl) (Nat.le_of_ble_eq_true rfl) (Nat.le_of_ble_eq_true rfl) ?_
        obtain ⟨o1, K⟩ := K
        obtain ⟨o2, K⟩ := K
        refine s_nextR hL  o1 o2 (fun J1 hp => ?_)
        have K := K J1 hp
        show V w 2 mX5_number 62 [some (vR 313), some (vI lo), some (vI hi), some (vI (J 313 20))] [] S J1 Q
        refine v_iload_n dX5_number_62 rfl ?_
        exact v_iret dX5_number_63 rfl rfl K
      · have K := K2 c3
        show V w 2 mX5_number 36 [some (vR 313), some (vI lo), some (vI hi), none] [vI 0] S J Q
        refine v_if_ne 44 dX5_number_36 (by decide) (fun cQ => absurd cQ (by decide)) (fun _ => ?_)
        refine v_aload_n dX5_number_39 rfl ?_
        refine v_iconst dX5_number_40 (in_lit (by decide)) ?_
        refine v_callV (d' := 0) (rest := []) [vI 2] dX5_number_41 vrX5_232_5 (L_313 hL).1 rfl rfl (one_I one_nil) (Nat.le_of_ble_eq_true rfl) (Nat.le_of_ble_eq_true rfl) (Nat.le_of_ble_eq_true rfl) ?_
        refine s_fails hL 2 c1 ?_
        show V w 2 mX5_number 44 [some (vR 313), some (vI lo), some (vI hi), none] [] S (up (up J 313 21 2) 313 22 (J 313 18)) Q
        refine v_aload_n dX5_number_44 rfl ?_
        refine v_callV (d' := 0) (rest := []) [] dX5_number_45 vrX5_222_5 (L_313 hL).1 rfl rfl one_nil (Nat.le_of_ble_eq_true rfl) (Nat.le_of_ble_eq_true rfl) (Nat.le_of_ble_eq_true rfl) ?_
        refine sX5_isWell hL   (fun cQ => absurd (show (2 : Int) = 0 from cQ) (by decide)) (fun _ => ?_)
        show V w 2 mX5_number 48 [some (vR 313), some (vI lo), some (vI hi), none] [vI 0] S (up (up J 313 21 2) 313 22 (J 313 18)) Q
        refine v_if_ne 53 dX5_number_48 (by decide) (fun cQ => absurd cQ (by decide)) (fun _ => ?_)
        refine v_iconst dX5_number_51 (in_lit (by decide)) ?_
        exact v_iret dX5_number_52 rfl rfl K
    · have K := K2 c2
      refine v_aload_n dX5_number_15 rfl ?_
      refine v_iconst dX5_number_16 (in_lit (by decide)) ?_
      refine v_callV (d' := 0) (rest := []) [vI 1] dX5_number_17 vrX5_232_5 (L_313 hL).1 rfl rfl (one_I one_nil) (Nat.le_of_ble_eq_true rfl) (Nat.le_of_ble_eq_true rfl) (Nat.le_of_ble_eq_true rfl) ?_
      refine s_fails hL 1 c1 ?_
      show V w 2 mX5_number 20 [some (vR 313), some (vI lo), some (vI hi), none] [] S (up (up J 313 21 1) 313 22 (J 313 18)) Q
      refine v_aload_n dX5_number_20 rfl ?_
      refine v_callV (d' := 0) (rest := []) [] dX5_number_21 vrX5_222_5 (L_313 hL).1 rfl rfl one_nil (Nat.le_of_ble_eq_true rfl) (Nat.le_of_ble_eq_true rfl) (Nat.le_of_ble_eq_true rfl) ?_
      refine sX5_isWell hL   (fun cQ => absurd (show (1 : Int) = 0 from cQ) (by decide)) (fun _ => ?_)
      show V w 2 mX5_number 24 [some (vR 313), some (vI lo), some (vI hi), none] [vI 0] S (up (up J 313 21 1) 313 22 (J 313 18)) Q
      refine v_if_eq 44 dX5_number_24 (by decide) (fun _ => ?_) (fun cQ => absurd cQ (by decide))
      refine v_aload_n dX5_number_44 rfl ?_
      refine v_callV (d' := 0) (rest := []) [] dX5_number_45 vrX5_222_5 (L_313 hL).1 rfl rfl one_nil (Nat.le_of_ble_eq_true rfl) (Nat.le_of_ble_eq_true rfl) (Nat.le_of_ble_eq_true rfl) ?_
      refine sX5_isWell hL   (fun cQ => absurd (show (1 : Int) = 0 from cQ) (by decide)) (fun _ => ?_)
      show V w 2 mX5_number 48 [some (vR 313), some (vI lo), some (vI hi), none] [vI 0] S (up (up J 313 21 1) 313 22 (J 313 18)) Q
      refine v_if_ne 53 dX5_number_48 (by decide) (fun cQ => absurd cQ (by decide)) (fun _ => ?_)
      refine v_iconst dX5_number_51 (in_lit (by decide)) ?_
      exact v_iret dX5_number_52 rfl rfl K
  · have K := K2 c1
    show V w 2 mX5_number 4 [some (vR 313), some (vI lo), some (vI hi), none] [vI 0] S J Q
    refine v_if_eq 20 dX5_number_4 (by decide) (fun _ => ?_) (fun cQ => absurd cQ (by decide))
    refine v_aload_n dX5_number_20 rfl ?_
    refine v_callV (d' := 0) (rest := []) [] dX5_number_21 vrX5_222_5 (L_313 hL).1 rfl rfl one_nil (Nat.le_of_ble_eq_true rfl) (Nat.le_of_ble_eq_true rfl) (Nat.le_of_ble_eq_true rfl) ?_
    refine sX5_isWell hL   (fun cQ => absurd cQ c1) (fun _ => ?_)
    show V w 2 mX5_number 24 [some (vR 313), some (vI lo), some (vI hi), none] [vI 0] S J Q
    refine v_if_eq 44 dX5_number_24 (by decide) (fun _ => ?_) (fun cQ => absurd cQ (by decide))
    refine v_aload_n dX5_number_44 rfl ?_
    refine v_callV (d' := 0) (rest := []) [] dX5_number_45 vrX5_222_5 (L_313 hL).1 rfl rfl one_nil (Nat.le_of_ble_eq_true rfl) (Nat.le_of_ble_eq_true rfl) (Nat.le_of_ble_eq_true rfl) ?_
    refine sX5_isWell hL   (fun cQ => absurd cQ c1) (fun _ => ?_)
    show V w 2 mX5_number 48 [some (vR 313), some (vI lo), some (vI hi), none] [vI 0] S J Q
    refine v_if_ne 53 dX5_number_48 (by decide) (fun cQ => absurd cQ (by decide)) (fun _ => ?_)
    refine v_iconst dX5_number_51 (in_lit (by decide)) ?_
    exact v_iret dX5_number_52 rfl rfl K
theorem gX5_starts_0 {w : Wd} {S : Sh} {J : Jm} {Q : Out → Sh → Jm → Prop} (hL : Lay S) 
    (K : (MTape (up (up J 313 21 0) 313 17 0)) ∧ (0 ≤ (0 : Int) ∧ (0 : Int) ≤ 300) ∧ (∀ (J1 : Jm), PNx (up (up J 313 21 0) 313 17 0) ((up (up J 313 21 0) 313 17 0) 313 17).toNat J1 → Q (.inl none) S J1)) :
    V w 2 mX5_starts 0 (ent mX5_starts [vR 313]) [] S J Q := by
  show V w 2 mX5_starts 0 [some (vR 313)] [] S J Q
  refine v_aload_n dX5_starts_0 rfl ?_
  refine v_iconst dX5_starts_1 (in_lit (by decide)) ?_
  refine v_putI dX5_starts_2 frX5_216_5 (fun _ _ _ h => by cases h; exact Or.inl rfl) rfl rfl zfit_int (L_313 hL).1 ?_
  show V w 2 mX5_starts 5 [some (vR 313)] [] S (up J 313 21 0) Q
  refine v_aload_n dX5_starts_5 rfl ?_
  refine v_iconst dX5_starts_6 (in_lit (by decide)) ?_
  refine v_putI dX5_starts_7 frX5_183_5 (fun _ _ _ h => by cases h; exact Or.inl rfl) rfl rfl zfit_int (L_313 hL).1 ?_
  show V w 2 mX5_starts 10 [some (vR 313)] [] S (up (up J 313 21 0) 313 17 0) Q
  refine v_aload_n dX5_starts_10 rfl ?_
  refine v_callV (d' := 1) (rest := []) [] dX5_starts_11 vrX5_229_5 (L_313 hL).1 rfl rfl one_nil (Nat.le_of_ble_eq_true rfl) (Nat.le_of_ble_eq_true rfl) (Nat.le_of_ble_eq_true rfl) ?_
  obtain ⟨o1, K⟩ := K
  obtain ⟨o2, K⟩ := K
  refine s_nextR hL  o1 o2 (fun J1 hp => ?_)
  have K := K J1 hp
  show V w 2 mX5_starts 14 [some (vR 313)] [] S J1 Q
  exact v_vret dX5_starts_14 rfl K
theorem gX5_stops_0 {w : Wd} {S : Sh} {J : Jm} {Q : Out → Sh → Jm → Prop} (hL : Lay S) 
    (K : Br ((J 313 21) = 0) (Q (.inl (some (vI 0))) S (up (up J 313 16 0) 313 23 (-1))) ((-2147483648 ≤ (-1) - (J 313 21) ∧ (-1) - (J 313 21) ≤ 2147483647) ∧ Q (.inl (some (vI ((-1) - (J 313 21))))) S (up (up J 313 16 0) 313 23 (J 313 22)))) :
    V w 1 mX5_stops 0 (ent mX5_stops [vR 313]) [] S J Q := by
  show V w 1 mX5_stops 0 [some (vR 313)] [] S J Q
  refine v_aload_n dX5_stops_0 rfl ?_
  refine v_iconst dX5_stops_1 (in_lit (by decide)) ?_
  refine v_putI dX5_stops_2 frX5_180_5 (fun _ _ _ h => by cases h; exact Or.inl rfl) rfl rfl zfit_int (L_313 hL).1 ?_
  show V w 1 mX5_stops 5 [some (vR 313)] [] S (up J 313 16 0) Q
  refine v_aload_n dX5_stops_5 rfl ?_
  refine v_aload_n dX5_stops_6 rfl ?_
  refine v_callV (d' := 0) (rest := [vR 313]) [] dX5_stops_7 vrX5_222_5 (L_313 hL).1 rfl rfl one_nil (Nat.le_of_ble_eq_true rfl) (Nat.le_of_ble_eq_true rfl) (Nat.le_of_ble_eq_true rfl) ?_
  obtain ⟨K1, K2⟩ := K
  refine sX5_isWell hL   (fun c1 => ?_) (fun c1 => ?_)
  · have K := K1 c1
    show V w 1 mX5_stops 10 [some (vR 313)] [vI 1, vR 313] S (up J 313 16 0) Q
    refine v_if_eq 17 dX5_stops_10 (by decide) (fun cQ => absurd cQ (by decide)) (fun _ => ?_)
    refine v_iconst dX5_stops_13 (in_lit (by decide)) ?_
    refine v_goto 21 dX5_stops_14 (by decide) ?_
    refine v_putI dX5_stops_21 frX5_51_5 (fun _ _ _ h => by cases h; exact Or.inl rfl) rfl rfl zfit_int (L_313 hL).1 ?_
    show V w 1 mX5_stops 24 [some (vR 313)] [] S (up (up J 313 16 0) 313 23 (-1)) Q
    refine v_aload_n dX5_stops_24 rfl ?_
    refine v_callV (d' := 0) (rest := []) [] dX5_stops_25 vrX5_222_5 (L_313 hL).1 rfl rfl one_nil (Nat.le_of_ble_eq_true rfl) (Nat.le_of_ble_eq_true rfl) (Nat.le_of_ble_eq_true rfl) ?_
    refine sX5_isWell hL   (fun _ => ?_) (fun cQ => absurd c1 cQ)
    show V w 1 mX5_stops 28 [some (vR 313)] [vI 1] S (up (up J 313 16 0) 313 23 (-1)) Q
    refine v_if_eq 35 dX5_stops_28 (by decide) (fun cQ => absurd cQ (by decide)) (fun _ => ?_)
    refine v_iconst dX5_stops_31 (in_lit (by decide)) ?_
    refine v_goto 41 dX5_stops_32 (by decide) ?_
    exact v_iret dX5_stops_41 rfl rfl K
  · have K := K2 c1
    show V w 1 mX5_stops 10 [some (vR 313)] [vI 0, vR 313] S (up J 313 16 0) Q
    refine v_if_eq 17 dX5_stops_10 (by decide) (fun _ => ?_) (fun cQ => absurd cQ (by decide))
    refine v_aload_n dX5_stops_17 rfl ?_
    refine v_getI dX5_stops_18 frX5_219_5 rfl rfl (L_313 hL).1 ?_
    show V w 1 mX5_stops 21 [some (vR 313)] [vI (J 313 22), vR 313] S (up J 313 16 0) Q
    refine v_putI dX5_stops_21 frX5_51_5 (fun _ _ _ h => by cases h; exact Or.inl rfl) rfl rfl zfit_int (L_313 hL).1 ?_
    show V w 1 mX5_stops 24 [some (vR 313)] [] S (up (up J 313 16 0) 313 23 (J 313 22)) Q
    refine v_aload_n dX5_stops_24 rfl ?_
    refine v_callV (d' := 0) (rest := []) [] dX5_stops_25 vrX5_222_5 (L_313 hL).1 rfl rfl one_nil (Nat.le_of_ble_eq_true rfl) (Nat.le_of_ble_eq_true rfl) (Nat.le_of_ble_eq_true rfl) ?_
    refine sX5_isWell hL   (fun cQ => absurd cQ c1) (fun _ => ?_)
    show V w 1 mX5_stops 28 [some (vR 313)] [vI 0] S (up (up J 313 16 0) 313 23 (J 313 22)) Q
    refine v_if_eq 35 dX5_stops_28 (by decide) (fun _ => ?_) (fun cQ => absurd cQ (by decide))
    refine v_iconst dX5_stops_35 (in_lit (by decide)) ?_
    refine v_aload_n dX5_stops_36 rfl ?_
    refine v_getI dX5_stops_37 frX5_216_5 rfl rfl (L_313 hL).1 ?_
    show V w 1 mX5_stops 40 [some (vR 313)] [vI (J 313 21), vI (-1)] S (up (up J 313 16 0) 313 23 (J 313 22)) Q
    obtain ⟨o1, K⟩ := K
    refine v_isub dX5_stops_40 o1 ?_
    exact v_iret dX5_stops_41 rfl rfl K
theorem gX5_place_0 {w : Wd} {S : Sh} {J : Jm} {Q : Out → Sh → Jm → Prop} (hL : Lay S) 
    (K : Q (.inl (some (vI (J 313 23)))) S (up J 313 0 0)) :
    V w 0 mX5_place 0 (ent mX5_place [vR 313]) [] S J Q := by
  show V w 0 mX5_place 0 [some (vR 313)] [] S J Q
  refine v_aload_n dX5_place_0 rfl ?_
  refine v_iconst dX5_place_1 (in_lit (by decide)) ?_
  refine v_putI dX5_place_2 frX5_1_5 (fun _ _ _ h => by cases h; exact Or.inl rfl) rfl rfl zfit_int (L_313 hL).1 ?_
  show V w 0 mX5_place 5 [some (vR 313)] [] S (up J 313 0 0) Q
  refine v_aload_n dX5_place_5 rfl ?_
  refine v_getI dX5_place_6 frX5_51_5 rfl rfl (L_313 hL).1 ?_
  show V w 0 mX5_place 9 [some (vR 313)] [vI (J 313 23)] S (up J 313 0 0) Q
  exact v_iret dX5_place_9 rfl rfl K
theorem gX5_letterHere_0 {w : Wd} {S : Sh} {J : Jm} {Q : Out → Sh → Jm → Prop} (hL : Lay S) 
    (K : Br (J 313 21 = 0) (Br (J 313 19 = 3) ((-2147483648 ≤ (J 313 17) - (J 313 18) ∧ (J 313 17) - (J 313 18) ≤ 2147483647) ∧ Br ((J 313 17) - (J 313 18) = 1) (Q (.inl (some (vI (J 313 20)))) S J) (Q (.inl (some (vI 97))) S (up (up J 313 21 1) 313 22 (J 313 18)))) (Q (.inl (some (vI 97))) S (up (up J 313 21 1) 313 22 (J 313 18)))) (Q (.inl (some (vI 97))) S J)) :
    V w 1 mX5_letterHere 0 (ent mX5_letterHere [vR 313]) [] S J Q := by
  show V w 1 mX5_letterHere 0 [some (vR 313)] [] S J Q
  refine v_aload_n dX5_letterHere_0 rfl ?_
  refine v_callV (d' := 0) (rest := []) [] dX5_letterHere_1 vrX5_222_5 (L_313 hL).1 rfl rfl one_nil (Nat.le_of_ble_eq_true rfl) (Nat.le_of_ble_eq_true rfl) (Nat.le_of_ble_eq_true rfl) ?_
  obtain ⟨K1, K2⟩ := K
  refine sX5_isWell hL   (fun c1 => ?_) (fun c1 => ?_)
  · have K := K1 c1
    show V w 1 mX5_letterHere 4 [some (vR 313)] [vI 1] S J Q
    refine v_if_eq 33 dX5_letterHere_4 (by decide) (fun cQ => absurd cQ (by decide)) (fun _ => ?_)
    refine v_aload_n dX5_letterHere_7 rfl ?_
    refine v_getI dX5_letterHere_8 frX5_189_5 rfl rfl (L_313 hL).1 ?_
    refine v_iconst dX5_letterHere_11 (in_lit (by decide)) ?_
    obtain ⟨K1, K2⟩ := K
    refine v_icmp_ne 28 dX5_letterHere_12 (by decide) (fun c2 => ?_) (fun c2 => ?_)
    · have K := K2 c2
      refine v_aload_n dX5_letterHere_28 rfl ?_
      refine v_iconst dX5_letterHere_29 (in_lit (by decide)) ?_
      refine v_callV (d' := 0) (rest := []) [vI 1] dX5_letterHere_30 vrX5_232_5 (L_313 hL).1 rfl rfl (one_I one_nil) (Nat.le_of_ble_eq_true rfl) (Nat.le_of_ble_eq_true rfl) (Nat.le_of_ble_eq_true rfl) ?_
      refine s_fails hL 1 c1 ?_
      show V w 1 mX5_letterHere 33 [some (vR 313)] [] S (up (up J 313 21 1) 313 22 (J 313 18)) Q
      refine v_aload_n dX5_letterHere_33 rfl ?_
      refine v_callV (d' := 0) (rest := []) [] dX5_letterHere_34 vrX5_222_5 (L_313 hL).1 rfl rfl one_nil (Nat.le_of_ble_eq_true rfl) (Nat.le_of_ble_eq_true rfl) (Nat.le_of_ble_eq_true rfl) ?_
      refine sX5_isWell hL   (fun cQ => absurd (show (1 : Int) = 0 from cQ) (by decide)) (fun _ => ?_)
      show V w 1 mX5_letterHere 37 [some (vR 313)] [vI 0] S (up (up J 313 21 1) 313 22 (J 313 18)) Q
      refine v_if_eq 47 dX5_letterHere_37 (by decide) (fun _ => ?_) (fun cQ => absurd cQ (by decide))
      refine v_bipush dX5_letterHere_47 (by decide) (in_lit (by decide)) ?_
      exact v_iret dX5_letterHere_49 rfl rfl K
    · have K := K1 c2
      refine v_aload_n dX5_letterHere_15 rfl ?_
      refine v_getI dX5_letterHere_16 frX5_183_5 rfl rfl (L_313 hL).1 ?_
      refine v_aload_n dX5_letterHere_19 rfl ?_
      refine v_getI dX5_letterHere_20 frX5_186_5 rfl rfl (L_313 hL).1 ?_
      obtain ⟨o1, K⟩ := K
      refine v_isub dX5_letterHere_23 o1 ?_
      refine v_iconst dX5_letterHere_24 (in_lit (by decide)) ?_
      obtain ⟨K1, K2⟩ := K
      refine v_icmp_eq 33 dX5_letterHere_25 (by decide) (fun c3 => ?_) (fun c3 => ?_)
      · have K := K1 c3
        refine v_aload_n dX5_letterHere_33 rfl ?_
        refine v_callV (d' := 0) (rest := []) [] dX5_letterHere_34 vrX5_222_5 (L_313 hL).1 rfl rfl one_nil (Nat.le_of_ble_eq_true rfl) (Nat.le_of_ble_eq_true rfl) (Nat.le_of_ble_eq_true rfl) ?_
        refine sX5_isWell hL   (fun _ => ?_) (fun cQ => absurd c1 cQ)
        show V w 1 mX5_letterHere 37 [some (vR 313)] [vI 1] S J Q
        refine v_if_eq 47 dX5_letterHere_37 (by decide) (fun cQ => absurd cQ (by decide)) (fun _ => ?_)
        refine v_aload_n dX5_letterHere_40 rfl ?_
        refine v_getI dX5_letterHere_41 frX5_192_5 rfl rfl (L_313 hL).1 ?_
        refine v_goto 49 dX5_letterHere_44 (by decide) ?_
        exact v_iret dX5_letterHere_49 rfl rfl K
      · have K := K2 c3
        refine v_aload_n dX5_letterHere_28 rfl ?_
        refine v_iconst dX5_letterHere_29 (in_lit (by decide)) ?_
        refine v_callV (d' := 0) (rest := []) [vI 1] dX5_letterHere_30 vrX5_232_5 (L_313 hL).1 rfl rfl (one_I one_nil) (Nat.le_of_ble_eq_true rfl) (Nat.le_of_ble_eq_true rfl) (Nat.le_of_ble_eq_true rfl) ?_
        refine s_fails hL 1 c1 ?_
        show V w 1 mX5_letterHere 33 [some (vR 313)] [] S (up (up J 313 21 1) 313 22 (J 313 18)) Q
        refine v_aload_n dX5_letterHere_33 rfl ?_
        refine v_callV (d' := 0) (rest := []) [] dX5_letterHere_34 vrX5_222_5 (L_313 hL).1 rfl rfl one_nil (Nat.le_of_ble_eq_true rfl) (Nat.le_of_ble_eq_true rfl) (Nat.le_of_ble_eq_true rfl) ?_
        refine sX5_isWell hL   (fun cQ => absurd (show (1 : Int) = 0 from cQ) (by decide)) (fun _ => ?_)
        show V w 1 mX5_letterHere 37 [some (vR 313)] [vI 0] S (up (up J 313 21 1) 313 22 (J 313 18)) Q
        refine v_if_eq 47 dX5_letterHere_37 (by decide) (fun _ => ?_) (fun cQ => absurd cQ (by decide))
        refine v_bipush dX5_letterHere_47 (by decide) (in_lit (by decide)) ?_
        exact v_iret dX5_letterHere_49 rfl rfl K
  · have K := K2 c1
    show V w 1 mX5_letterHere 4 [some (vR 313)] [vI 0] S J Q
    refine v_if_eq 33 dX5_letterHere_4 (by decide) (fun _ => ?_) (fun cQ => absurd cQ (by decide))
    refine v_aload_n dX5_letterHere_33 rfl ?_
    refine v_callV (d' := 0) (rest := []) [] dX5_letterHere_34 vrX5_222_5 (L_313 hL).1 rfl rfl one_nil (Nat.le_of_ble_eq_true rfl) (Nat.le_of_ble_eq_true rfl) (Nat.le_of_ble_eq_true rfl) ?_
    refine sX5_isWell hL   (fun cQ => absurd cQ c1) (fun _ => ?_)
    show V w 1 mX5_letterHere 37 [some (vR 313)] [vI 0] S J Q
    refine v_if_eq 47 dX5_letterHere_37 (by decide) (fun _ => ?_) (fun cQ => absurd cQ (by decide))
    refine v_bipush dX5_letterHere_47 (by decide) (in_lit (by decide)) ?_
    exact v_iret dX5_letterHere_49 rfl rfl K

/-- a fault is noted -/
def flt (J : Jm) (k : Int) : Jm := up (up J 313 21 k) 313 22 (J 313 18)
def PWs (J : Jm) (c : Int) (J' : Jm) : Prop := (J 313 21 ≠ 0 ∧ J' = J) ∨ (J 313 21 = 0 ∧ (J 313 19 = 4 ∧ J 313 20 = c) ∧ PNx J (J 313 17).toNat J') ∨ (J 313 21 = 0 ∧ ¬ (J 313 19 = 4 ∧ J 313 20 = c) ∧ J' = flt J 1)
theorem s_wantSign {w : Wd} {S : Sh} {J : Jm} {Q : Out → Sh → Jm → Prop} (hL : Lay S) (c : Int) (hT : MTape J) (h0 : 0 ≤ J 313 17 ∧ J 313 17 ≤ 300) (K : ∀ J', PWs J c J' → Q (.inl none) S J') : V w 2 mX5_wantSign 0 (ent mX5_wantSign [vR 313, vI c]) [] S J Q :=
  gX5_wantSign_0 hL c (br_i (fun h => br_i (fun h2 => ⟨hT, h0, fun J1 hp => K J1 (Or.inr (Or.inl ⟨h, h2, hp⟩))⟩) (fun h2 => K _ (Or.inr (Or.inr ⟨h, h2, rfl⟩)))) (fun h => K _ (Or.inl ⟨h, rfl⟩)))
def PNum (J : Jm) (lo hi r : Int) (J' : Jm) : Prop := (J 313 21 ≠ 0 ∧ r = 0 ∧ J' = J) ∨ (J 313 21 = 0 ∧ J 313 19 ≠ 2 ∧ r = 0 ∧ J' = flt J 1) ∨ (J 313 21 = 0 ∧ J 313 19 = 2 ∧ ¬ (lo ≤ J 313 20 ∧ J 313 20 ≤ hi) ∧ r = 0 ∧ J' = flt J 2) ∨ (J 313 21 = 0 ∧ J 313 19 = 2 ∧ (lo ≤ J 313 20 ∧ J 313 20 ≤ hi) ∧ r = J 313 20 ∧ PNx J (J 313 17).toNat J')
theorem s_number {w : Wd} {S : Sh} {J : Jm} {Q : Out → Sh → Jm → Prop} (hL : Lay S) (lo hi : Int) (hT : MTape J) (h0 : 0 ≤ J 313 17 ∧ J 313 17 ≤ 300) (K : ∀ r J', PNum J lo hi r J' → Q (.inl (some (vI r))) S J') : V w 2 mX5_number 0 (ent mX5_number [vR 313, vI lo, vI hi]) [] S J Q :=
  gX5_number_0 hL lo hi (br_i (fun h => br_i (fun h2 => br_i (fun h3 => ⟨hT, h0, fun J1 hp => K _ J1 (Or.inr (Or.inr (Or.inr ⟨h, h2, h3, rfl, hp⟩)))⟩) (fun h3 => K _ _ (Or.inr (Or.inr (Or.inl ⟨h, h2, h3, rfl, rfl⟩))))) (fun h2 => K _ _ (Or.inr (Or.inl ⟨h, h2, rfl, rfl⟩)))) (fun h => K _ _ (Or.inl ⟨h, rfl, rfl⟩)))
theorem s_starts {w : Wd} {S : Sh} {J : Jm} {Q : Out → Sh → Jm → Prop} (hL : Lay S) (hT : MTape J) (K : ∀ J', PNx (up (up J 313 21 0) 313 17 0) 0 J' → Q (.inl none) S J') : V w 2 mX5_starts 0 (ent mX5_starts [vR 313]) [] S J Q :=
  gX5_starts_0 hL ⟨hT.mp ((Kp.rfl'.up rfl).up rfl).mp, by omega, fun J1 hp => K J1 hp⟩
def PStop (J : Jm) (r : Int) (J' : Jm) : Prop := (J 313 21 = 0 ∧ r = 0 ∧ J' = up (up J 313 16 0) 313 23 (-1)) ∨ (J 313 21 ≠ 0 ∧ r = -1 - J 313 21 ∧ J' = up (up J 313 16 0) 313 23 (J 313 22))
theorem s_stops {w : Wd} {S : Sh} {J : Jm} {Q : Out → Sh → Jm → Prop} (hL : Lay S) (h0 : 0 ≤ J 313 21 ∧ J 313 21 ≤ 3) (K : ∀ r J', PStop J r J' → Q (.inl (some (vI r))) S J') : V w 1 mX5_stops 0 (ent mX5_stops [vR 313]) [] S J Q := by
  refine gX5_stops_0 hL (br_i (fun h => K _ _ (Or.inl ⟨h, rfl, rfl⟩)) (fun h => ?_))
  (repeat' (first | (refine And.intro ?_ ?_; omega)))
  exact K _ _ (Or.inr ⟨h, rfl, rfl⟩)
theorem m_place {w : Wd} {S : Sh} {J : Jm} {Q : Out → Sh → Jm → Prop} (hL : Lay S) (K : ∀ J', Kp J J' → Q (.inl (some (vI (J 313 23)))) S J') : V w 0 mX5_place 0 (ent mX5_place [vR 313]) [] S J Q := gX5_place_0 hL (K _ (k0 J))
def PLet (J : Jm) (r : Int) (J' : Jm) : Prop := (J 313 21 ≠ 0 ∧ r = 97 ∧ J' = J) ∨ (J 313 21 = 0 ∧ (J 313 19 = 3 ∧ J 313 17 - J 313 18 = 1) ∧ r = J 313 20 ∧ J' = J) ∨ (J 313 21 = 0 ∧ ¬ (J 313 19 = 3 ∧ J 313 17 - J 313 18 = 1) ∧ r = 97 ∧ J' = flt J 1)
theorem s_letterHere {w : Wd} {S : Sh} {J : Jm} {Q : Out → Sh → Jm → Prop} (hL : Lay S) (h0 : (0 ≤ J 313 17 ∧ J 313 17 ≤ 300) ∧ 0 ≤ J 313 18 ∧ J 313 18 ≤ 300) (K : ∀ r J', PLet J r J' → Q (.inl (some (vI r))) S J') : V w 1 mX5_letterHere 0 (ent mX5_letterHere [vR 313]) [] S J Q := by
  refine gX5_letterHere_0 hL (br_i (fun h => br_i (fun h2 => ⟨by omega, br_i (fun h3 => K _ _ (Or.inr (Or.inl ⟨h, ⟨h2, h3⟩, rfl, rfl⟩))) (fun h3 => K _ _ (Or.inr (Or.inr ⟨h, fun q => h3 q.2, rfl, rfl⟩)))⟩) (fun h2 => K _ _ (Or.inr (Or.inr ⟨h, fun q => h2 q.1, rfl, rfl⟩)))) (fun h => K _ _ (Or.inl ⟨h, rfl, rfl⟩)))
