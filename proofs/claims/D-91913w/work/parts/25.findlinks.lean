/-! the model: all links -/
set_option maxRecDepth 100000

theorem s_findWholesR {w : Wd} {S : Sh} {J : Jm} {Q : Out → Sh → Jm → Prop} (hL : Lay S) (known : Int) (hT : MTab J) (K : ∀ J', (FW J J' ∧ PWh J' (whOf J (J 332) known)) → Q (.inl none) S J') : V w 2 mX5_findWholes 0 (ent mX5_findWholes [vR 313, vI known]) [] S J Q :=
  s_findWholes hL known (J 332) hT (fun _ _ => rfl) (fun J' h1 h2 => K J' ⟨h1, h2⟩)
theorem gX5_findLinks_0 {w : Wd} {S : Sh} {J : Jm} {Q : Out → Sh → Jm → Prop} (hL : Lay S) (known : Int)
    (K : (MHeld J) ∧ (∀ (J1 : Jm), PStand J known J1 → (MTab J1) ∧ (∀ (J2 : Jm), (FW J1 J2 ∧ PWh J2 (whOf J1 (J1 332) known)) → V w 3 mX5_findLinks 12 [some (vR 313), some (vI known), some (vI 0), none, none, none] [] S J2 Q))) :
    V w 3 mX5_findLinks 0 (ent mX5_findLinks [vR 313, vI known]) [] S J Q := by
  show V w 3 mX5_findLinks 0 [some (vR 313), some (vI known), none, none, none, none] [] S J Q
  refine v_aload_n dX5_findLinks_0 rfl ?_
  refine v_iload_n dX5_findLinks_1 rfl ?_
  refine v_callV (d' := 1) (rest := []) [vI known] dX5_findLinks_2 vrX5_301_5 (L_313 hL).1 rfl rfl (one_I one_nil) (Nat.le_of_ble_eq_true rfl) (Nat.le_of_ble_eq_true rfl) (Nat.le_of_ble_eq_true rfl) ?_
  obtain ⟨o1, K⟩ := K
  refine s_findStands hL known o1 (fun J1 hp => ?_)
  have K := K J1 hp
  show V w 3 mX5_findLinks 5 [some (vR 313), some (vI known), none, none, none, none] [] S J1 Q
  refine v_aload_n dX5_findLinks_5 rfl ?_
  refine v_iload_n dX5_findLinks_6 rfl ?_
  refine v_callV (d' := 2) (rest := []) [vI known] dX5_findLinks_7 vrX5_329_5 (L_313 hL).1 rfl rfl (one_I one_nil) (Nat.le_of_ble_eq_true rfl) (Nat.le_of_ble_eq_true rfl) (Nat.le_of_ble_eq_true rfl) ?_
  obtain ⟨o2, K⟩ := K
  refine s_findWholesR hL known o2 (fun J2 hp => ?_)
  have K := K J2 hp
  show V w 3 mX5_findLinks 10 [some (vR 313), some (vI known), none, none, none, none] [] S J2 Q
  refine v_iconst dX5_findLinks_10 (in_lit (by decide)) ?_
  refine v_istore_n dX5_findLinks_11 (Nat.le_of_ble_eq_true rfl) ?_
  show V w 3 mX5_findLinks 12 [some (vR 313), some (vI known), some (vI 0), none, none, none] [] S J2 Q
  exact K
theorem gX5_findLinks_12 {w : Wd} {S : Sh} {J : Jm} {Q : Out → Sh → Jm → Prop} (hL : Lay S) (known : Int) (k : Nat)
    (K : Br (3200 ≤ ((k : Nat) : Int)) ((0 ≤ J 313 8 ∧ J 313 8 ≤ 10) ∧ V w 3 mX5_findLinks 47 [some (vR 313), some (vI known), some (vI (rbOf J known)), some (vI 0), none, none] [] S J Q) ((((k : Nat) : Int) < 3200) ∧ (((k : Nat) : Int) < 3200) ∧ (-2147483648 ≤ ((k : Nat) : Int) + 1 ∧ ((k : Nat) : Int) + 1 ≤ 2147483647) ∧ V w 3 mX5_findLinks 12 [some (vR 313), some (vI known), some (vI ((k + 1 : Nat) : Int)), none, none, none] [] S (up (up J 341 k 0) 342 k 0) Q)) :
    V w 3 mX5_findLinks 12 [some (vR 313), some (vI known), some (vI ((k : Nat) : Int)), none, none, none] [] S J Q := by
  refine v_iload_n dX5_findLinks_12 rfl ?_
  refine v_sipush dX5_findLinks_13 (by decide) (in_lit (by decide)) ?_
  obtain ⟨K1, K2⟩ := K
  refine v_icmp_ge 39 dX5_findLinks_16 (by decide) (fun cQ => ?_) (fun cQ => ?_)
  · have K := K1 cQ
    refine v_aload_n dX5_findLinks_39 rfl ?_
    refine v_iload_n dX5_findLinks_40 rfl ?_
    refine v_callV (d' := 0) (rest := []) [vI known] dX5_findLinks_41 vrX5_326_5 (L_313 hL).1 rfl rfl (one_I one_nil) (Nat.le_of_ble_eq_true rfl) (Nat.le_of_ble_eq_true rfl) (Nat.le_of_ble_eq_true rfl) ?_
    obtain ⟨o1, K⟩ := K
    refine s_rulesBy hL known o1 ?_
    show V w 3 mX5_findLinks 44 [some (vR 313), some (vI known), some (vI ((k : Nat) : Int)), none, none, none] [vI (rbOf J known)] S J Q
    refine v_istore_n dX5_findLinks_44 (Nat.le_of_ble_eq_true rfl) ?_
    show V w 3 mX5_findLinks 45 [some (vR 313), some (vI known), some (vI (rbOf J known)), none, none, none] [] S J Q
    refine v_iconst dX5_findLinks_45 (in_lit (by decide)) ?_
    refine v_istore_n dX5_findLinks_46 (Nat.le_of_ble_eq_true rfl) ?_
    show V w 3 mX5_findLinks 47 [some (vR 313), some (vI known), some (vI (rbOf J known)), some (vI 0), none, none] [] S J Q
    exact K
  · have K := K2 cQ
    refine v_aload_n dX5_findLinks_19 rfl ?_
    refine v_getR dX5_findLinks_20 frX5_100_5 rfl (L_313 hL).1 (LR_313_42 hL) (Or.inl rfl) ?_
    refine v_iload_n dX5_findLinks_23 rfl ?_
    refine v_iconst dX5_findLinks_24 (in_lit (by decide)) ?_
    obtain ⟨o2, K⟩ := K
    refine st_341 dX5_findLinks_25 hL (by omega) o2 (zfit_bool (by decide)) ?_
    show V w 3 mX5_findLinks 26 [some (vR 313), some (vI known), some (vI ((k : Nat) : Int)), none, none, none] [] S (up J 341 k 0) Q
    refine v_aload_n dX5_findLinks_26 rfl ?_
    refine v_getR dX5_findLinks_27 frX5_103_5 rfl (L_313 hL).1 (LR_313_43 hL) (Or.inl rfl) ?_
    refine v_iload_n dX5_findLinks_30 rfl ?_
    refine v_iconst dX5_findLinks_31 (in_lit (by decide)) ?_
    obtain ⟨o3, K⟩ := K
    refine st_342 dX5_findLinks_32 hL (by omega) o3 (zfit_bool (by decide)) ?_
    show V w 3 mX5_findLinks 33 [some (vR 313), some (vI known), some (vI ((k : Nat) : Int)), none, none, none] [] S (up (up J 341 k 0) 342 k 0) Q
    obtain ⟨o4, K⟩ := K
    refine v_iinc dX5_findLinks_33 rfl o4 ?_
    show V w 3 mX5_findLinks 36 [some (vR 313), some (vI known), some (vI ((k + 1 : Nat) : Int)), none, none, none] [] S (up (up J 341 k 0) 342 k 0) Q
    refine v_goto 12 dX5_findLinks_36 (by decide) ?_
    exact K
theorem gX5_findLinks_47 {w : Wd} {S : Sh} {J : Jm} {Q : Out → Sh → Jm → Prop} (hL : Lay S) (known : Int) (t : Int) (c : Nat)
    (K : Br (t = (-1)) (V w 3 mX5_findLinks 95 [some (vR 313), some (vI known), none, some (vI 0), none, none] [] S J Q) ((0 ≤ t) ∧ (t < 11) ∧ Br (J 320 t.toNat ≤ ((c : Nat) : Int)) (V w 3 mX5_findLinks 95 [some (vR 313), some (vI known), none, some (vI 0), none, none] [] S J Q) ((-2147483648 ≤ 12 * t ∧ 12 * t ≤ 2147483647) ∧ (-2147483648 ≤ (12 * t) + ((c : Nat) : Int) ∧ (12 * t) + ((c : Nat) : Int) ≤ 2147483647) ∧ (0 ≤ (12 * t) + ((c : Nat) : Int)) ∧ ((12 * t) + ((c : Nat) : Int) < 132) ∧ Br (2 ≤ J 321 ((12 * t) + ((c : Nat) : Int)).toNat) (V w 3 mX5_findLinks 87 [some (vR 313), some (vI known), some (vI t), some (vI ((c : Nat) : Int)), none, none] [] S J Q) ((-2147483648 ≤ 12 * t ∧ 12 * t ≤ 2147483647) ∧ (-2147483648 ≤ (12 * t) + ((c : Nat) : Int) ∧ (12 * t) + ((c : Nat) : Int) ≤ 2147483647) ∧ V w 2 mX5_linksBy 0 (ent mX5_linksBy [vR 313, vI ((12 * t) + ((c : Nat) : Int))]) [] S J (CallQ w 3 mX5_findLinks 84 [some (vR 313), some (vI known), some (vI t), some (vI ((c : Nat) : Int)), none, none] [] Q))))) :
    V w 3 mX5_findLinks 47 [some (vR 313), some (vI known), some (vI t), some (vI ((c : Nat) : Int)), none, none] [] S J Q := by
  refine v_iload_n dX5_findLinks_47 rfl ?_
  refine v_iconst dX5_findLinks_48 (in_lit (by decide)) ?_
  obtain ⟨K1, K2⟩ := K
  refine v_icmp_eq 93 dX5_findLinks_49 (by decide) (fun cQ => ?_) (fun cQ => ?_)
  · have K := K1 cQ
    refine v_iconst dX5_findLinks_93 (in_lit (by decide)) ?_
    refine v_istore_n dX5_findLinks_94 (Nat.le_of_ble_eq_true rfl) ?_
    show V w 3 mX5_findLinks 95 [some (vR 313), some (vI known), some (vI t), some (vI 0), none, none] [] S J Q
    exact v_forget (fg_some (fg_some (fg_none (fg_some (fg_none (fg_none fg_nil)))))) K
  · have K := K2 cQ
    refine v_iload_n dX5_findLinks_52 rfl ?_
    refine v_aload_n dX5_findLinks_53 rfl ?_
    refine v_getR dX5_findLinks_54 frX5_32_5 rfl (L_313 hL).1 (LR_313_10 hL) (Or.inl rfl) ?_
    refine v_iload_n dX5_findLinks_57 rfl ?_
    obtain ⟨o1, K⟩ := K
    obtain ⟨o2, K⟩ := K
    refine ld_320 dX5_findLinks_58 hL o1 o2 ?_
    obtain ⟨K1, K2⟩ := K
    refine v_icmp_ge 93 dX5_findLinks_59 (by decide) (fun cQ => ?_) (fun cQ => ?_)
    · have K := K1 cQ
      refine v_iconst dX5_findLinks_93 (in_lit (by decide)) ?_
      refine v_istore_n dX5_findLinks_94 (Nat.le_of_ble_eq_true rfl) ?_
      show V w 3 mX5_findLinks 95 [some (vR 313), some (vI known), some (vI t), some (vI 0), none, none] [] S J Q
      exact v_forget (fg_some (fg_some (fg_none (fg_some (fg_none (fg_none fg_nil)))))) K
    · have K := K2 cQ
      refine v_aload_n dX5_findLinks_62 rfl ?_
      refine v_getR dX5_findLinks_63 frX5_35_5 rfl (L_313 hL).1 (LR_313_11 hL) (Or.inl rfl) ?_
      refine v_bipush dX5_findLinks_66 (by decide) (in_lit (by decide)) ?_
      refine v_iload_n dX5_findLinks_68 rfl ?_
      obtain ⟨o3, K⟩ := K
      refine v_imul dX5_findLinks_69 o3 ?_
      refine v_iload_n dX5_findLinks_70 rfl ?_
      obtain ⟨o4, K⟩ := K
      refine v_iadd dX5_findLinks_71 o4 ?_
      obtain ⟨o5, K⟩ := K
      obtain ⟨o6, K⟩ := K
      refine ld_321 dX5_findLinks_72 hL o5 o6 ?_
      refine v_iconst dX5_findLinks_73 (in_lit (by decide)) ?_
      obtain ⟨K1, K2⟩ := K
      refine v_icmp_ge 87 dX5_findLinks_74 (by decide) (fun cQ => ?_) (fun cQ => ?_)
      · have K := K1 cQ
        exact K
      · have K := K2 cQ
        refine v_aload_n dX5_findLinks_77 rfl ?_
        refine v_bipush dX5_findLinks_78 (by decide) (in_lit (by decide)) ?_
        refine v_iload_n dX5_findLinks_80 rfl ?_
        obtain ⟨o7, K⟩ := K
        refine v_imul dX5_findLinks_81 o7 ?_
        refine v_iload_n dX5_findLinks_82 rfl ?_
        obtain ⟨o8, K⟩ := K
        refine v_iadd dX5_findLinks_83 o8 ?_
        refine v_callV (d' := 2) (rest := []) [vI ((12 * t) + ((c : Nat) : Int))] dX5_findLinks_84 vrX5_335_5 (L_313 hL).1 rfl rfl (one_I one_nil) (Nat.le_of_ble_eq_true rfl) (Nat.le_of_ble_eq_true rfl) (Nat.le_of_ble_eq_true rfl) ?_
        exact K
theorem gX5_findLinks_87 {w : Wd} {S : Sh} {J : Jm} {Q : Out → Sh → Jm → Prop} (hL : Lay S) (known : Int) (t : Int) (c : Nat)
    (K : (-2147483648 ≤ ((c : Nat) : Int) + 1 ∧ ((c : Nat) : Int) + 1 ≤ 2147483647) ∧ V w 3 mX5_findLinks 47 [some (vR 313), some (vI known), some (vI t), some (vI ((c + 1 : Nat) : Int)), none, none] [] S J Q) :
    V w 3 mX5_findLinks 87 [some (vR 313), some (vI known), some (vI t), some (vI ((c : Nat) : Int)), none, none] [] S J Q := by
  obtain ⟨o1, K⟩ := K
  refine v_iinc dX5_findLinks_87 rfl o1 ?_
  show V w 3 mX5_findLinks 90 [some (vR 313), some (vI known), some (vI t), some (vI ((c + 1 : Nat) : Int)), none, none] [] S J Q
  refine v_goto 47 dX5_findLinks_90 (by decide) ?_
  exact K
theorem gX5_findLinks_95 {w : Wd} {S : Sh} {J : Jm} {Q : Out → Sh → Jm → Prop} (hL : Lay S) (known : Int) (k : Nat)
    (K : Br (J 313 32 ≤ ((k : Nat) : Int)) (V w 0 mX5_findClasses 0 (ent mX5_findClasses [vR 313]) [] S J (CallQ w 3 mX5_findLinks 241 [some (vR 313), some (vI known), none, some (vI ((k : Nat) : Int)), none, none] [] Q)) ((((k : Nat) : Int) < 60) ∧ (0 ≤ J 334 k) ∧ (J 334 k < 40) ∧ (((k : Nat) : Int) < 60) ∧ (0 ≤ J 335 k) ∧ (J 335 k < 40) ∧ Br (J 332 (J 334 k).toNat = J 332 (J 335 k).toNat) ((-2147483648 ≤ ((k : Nat) : Int) + 1 ∧ ((k : Nat) : Int) + 1 ≤ 2147483647) ∧ V w 3 mX5_findLinks 95 [some (vR 313), some (vI known), none, some (vI ((k + 1 : Nat) : Int)), none, none] [] S J Q) ((((k : Nat) : Int) < 60) ∧ (((k : Nat) : Int) < 60) ∧ Br ((J 337 k) ≤ known ∧ known < (J 338 k)) ((((k : Nat) : Int) < 60) ∧ Br (J 336 k = 0) ((((k : Nat) : Int) < 60) ∧ (-2147483648 ≤ 1600 * (J 333 k) ∧ 1600 * (J 333 k) ≤ 2147483647) ∧ (-2147483648 ≤ 40 * (J 332 (J 334 k).toNat) ∧ 40 * (J 332 (J 334 k).toNat) ≤ 2147483647) ∧ (-2147483648 ≤ (1600 * (J 333 k)) + (40 * (J 332 (J 334 k).toNat)) ∧ (1600 * (J 333 k)) + (40 * (J 332 (J 334 k).toNat)) ≤ 2147483647) ∧ (-2147483648 ≤ ((1600 * (J 333 k)) + (40 * (J 332 (J 334 k).toNat))) + (J 332 (J 335 k).toNat) ∧ ((1600 * (J 333 k)) + (40 * (J 332 (J 334 k).toNat))) + (J 332 (J 335 k).toNat) ≤ 2147483647) ∧ (0 ≤ ((1600 * (J 333 k)) + (40 * (J 332 (J 334 k).toNat))) + (J 332 (J 335 k).toNat)) ∧ (((1600 * (J 333 k)) + (40 * (J 332 (J 334 k).toNat))) + (J 332 (J 335 k).toNat) < 3200) ∧ (((k : Nat) : Int) < 60) ∧ (-2147483648 ≤ 1600 * (J 333 k) ∧ 1600 * (J 333 k) ≤ 2147483647) ∧ (-2147483648 ≤ 40 * (J 332 (J 335 k).toNat) ∧ 40 * (J 332 (J 335 k).toNat) ≤ 2147483647) ∧ (-2147483648 ≤ (1600 * (J 333 k)) + (40 * (J 332 (J 335 k).toNat)) ∧ (1600 * (J 333 k)) + (40 * (J 332 (J 335 k).toNat)) ≤ 2147483647) ∧ (-2147483648 ≤ ((1600 * (J 333 k)) + (40 * (J 332 (J 335 k).toNat))) + (J 332 (J 334 k).toNat) ∧ ((1600 * (J 333 k)) + (40 * (J 332 (J 335 k).toNat))) + (J 332 (J 334 k).toNat) ≤ 2147483647) ∧ (0 ≤ ((1600 * (J 333 k)) + (40 * (J 332 (J 335 k).toNat))) + (J 332 (J 334 k).toNat)) ∧ (((1600 * (J 333 k)) + (40 * (J 332 (J 335 k).toNat))) + (J 332 (J 334 k).toNat) < 3200) ∧ (-2147483648 ≤ ((k : Nat) : Int) + 1 ∧ ((k : Nat) : Int) + 1 ≤ 2147483647) ∧ V w 3 mX5_findLinks 95 [some (vR 313), some (vI known), none, some (vI ((k + 1 : Nat) : Int)), none, none] [] S (up (up J 342 (((1600 * (J 333 k)) + (40 * (J 332 (J 334 k).toNat))) + (J 332 (J 335 k).toNat)).toNat 1) 342 (((1600 * (J 333 k)) + (40 * (J 332 (J 335 k).toNat))) + (J 332 (J 334 k).toNat)).toNat 1) Q) ((((k : Nat) : Int) < 60) ∧ (0 ≤ (J 333 k) ∧ (J 333 k) < 2) ∧ (0 ≤ (J 332 (J 334 k).toNat) ∧ (J 332 (J 334 k).toNat) < 40) ∧ (0 ≤ (J 332 (J 335 k).toNat) ∧ (J 332 (J 335 k).toNat) < 40) ∧ (-2147483648 ≤ ((k : Nat) : Int) + 1 ∧ ((k : Nat) : Int) + 1 ≤ 2147483647) ∧ V w 3 mX5_findLinks 95 [some (vR 313), some (vI known), none, some (vI ((k + 1 : Nat) : Int)), none, none] [] S (lnkUp J (J 333 k).toNat (J 332 (J 334 k).toNat).toNat (J 332 (J 335 k).toNat).toNat) Q)) ((-2147483648 ≤ ((k : Nat) : Int) + 1 ∧ ((k : Nat) : Int) + 1 ≤ 2147483647) ∧ V w 3 mX5_findLinks 95 [some (vR 313), some (vI known), none, some (vI ((k + 1 : Nat) : Int)), none, none] [] S J Q)))) :
    V w 3 mX5_findLinks 95 [some (vR 313), some (vI known), none, some (vI ((k : Nat) : Int)), none, none] [] S J Q := by
  refine v_iload_n dX5_findLinks_95 rfl ?_
  refine v_aload_n dX5_findLinks_96 rfl ?_
  refine v_getI dX5_findLinks_97 frX5_304_5 rfl rfl (L_313 hL).1 ?_
  obtain ⟨K1, K2⟩ := K
  refine v_icmp_ge 240 dX5_findLinks_100 (by decide) (fun cQ => ?_) (fun cQ => ?_)
  · have K := K1 cQ
    refine v_aload_n dX5_findLinks_240 rfl ?_
    refine v_callV (d' := 0) (rest := []) [] dX5_findLinks_241 vrX5_342_5 (L_313 hL).1 rfl rfl one_nil (Nat.le_of_ble_eq_true rfl) (Nat.le_of_ble_eq_true rfl) (Nat.le_of_ble_eq_true rfl) ?_
    exact K
  · have K := K2 cQ
    refine v_aload_n dX5_findLinks_103 rfl ?_
    refine v_getR dX5_findLinks_104 frX5_72_5 rfl (L_313 hL).1 (LR_313_31 hL) (Or.inl rfl) ?_
    refine v_aload_n dX5_findLinks_107 rfl ?_
    refine v_getR dX5_findLinks_108 frX5_78_5 rfl (L_313 hL).1 (LR_313_34 hL) (Or.inl rfl) ?_
    refine v_iload_n dX5_findLinks_111 rfl ?_
    obtain ⟨o1, K⟩ := K
    refine ld_334 dX5_findLinks_112 hL (by omega) o1 ?_
    show V w 3 mX5_findLinks 113 [some (vR 313), some (vI known), none, some (vI ((k : Nat) : Int)), none, none] [vI (J 334 k), vR 332] S J Q
    obtain ⟨o2, K⟩ := K
    obtain ⟨o3, K⟩ := K
    refine ld_332 dX5_findLinks_113 hL o2 o3 ?_
    refine v_istore dX5_findLinks_114 (Nat.le_of_ble_eq_true rfl) ?_
    show V w 3 mX5_findLinks 116 [some (vR 313), some (vI known), none, some (vI ((k : Nat) : Int)), some (vI (J 332 (J 334 k).toNat)), none] [] S J Q
    refine v_aload_n dX5_findLinks_116 rfl ?_
    refine v_getR dX5_findLinks_117 frX5_72_5 rfl (L_313 hL).1 (LR_313_31 hL) (Or.inl rfl) ?_
    refine v_aload_n dX5_findLinks_120 rfl ?_
    refine v_getR dX5_findLinks_121 frX5_81_5 rfl (L_313 hL).1 (LR_313_35 hL) (Or.inl rfl) ?_
    refine v_iload_n dX5_findLinks_124 rfl ?_
    obtain ⟨o4, K⟩ := K
    refine ld_335 dX5_findLinks_125 hL (by omega) o4 ?_
    show V w 3 mX5_findLinks 126 [some (vR 313), some (vI known), none, some (vI ((k : Nat) : Int)), some (vI (J 332 (J 334 k).toNat)), none] [vI (J 335 k), vR 332] S J Q
    obtain ⟨o5, K⟩ := K
    obtain ⟨o6, K⟩ := K
    refine ld_332 dX5_findLinks_126 hL o5 o6 ?_
    refine v_istore dX5_findLinks_127 (Nat.le_of_ble_eq_true rfl) ?_
    show V w 3 mX5_findLinks 129 [some (vR 313), some (vI known), none, some (vI ((k : Nat) : Int)), some (vI (J 332 (J 334 k).toNat)), some (vI (J 332 (J 335 k).toNat))] [] S J Q
    refine v_iload dX5_findLinks_129 rfl ?_
    refine v_iload dX5_findLinks_131 rfl ?_
    obtain ⟨K1, K2⟩ := K
    refine v_icmp_eq 234 dX5_findLinks_133 (by decide) (fun cQ => ?_) (fun cQ => ?_)
    · have K := K1 cQ
      obtain ⟨o7, K⟩ := K
      refine v_iinc dX5_findLinks_234 rfl o7 ?_
      show V w 3 mX5_findLinks 237 [some (vR 313), some (vI known), none, some (vI ((k + 1 : Nat) : Int)), some (vI (J 332 (J 334 k).toNat)), some (vI (J 332 (J 335 k).toNat))] [] S J Q
      refine v_goto 95 dX5_findLinks_237 (by decide) ?_
      exact v_forget (fg_some (fg_some (fg_none (fg_some (fg_none (fg_none fg_nil)))))) K
    · have K := K2 cQ
      refine v_aload_n dX5_findLinks_136 rfl ?_
      refine v_getR dX5_findLinks_137 frX5_88_5 rfl (L_313 hL).1 (LR_313_37 hL) (Or.inl rfl) ?_
      refine v_iload_n dX5_findLinks_140 rfl ?_
      obtain ⟨o8, K⟩ := K
      refine ld_337 dX5_findLinks_141 hL (by omega) o8 ?_
      show V w 3 mX5_findLinks 142 [some (vR 313), some (vI known), none, some (vI ((k : Nat) : Int)), some (vI (J 332 (J 334 k).toNat)), some (vI (J 332 (J 335 k).toNat))] [vI (J 337 k)] S J Q
      refine v_aload_n dX5_findLinks_142 rfl ?_
      refine v_getR dX5_findLinks_143 frX5_91_5 rfl (L_313 hL).1 (LR_313_38 hL) (Or.inl rfl) ?_
      refine v_iload_n dX5_findLinks_146 rfl ?_
      obtain ⟨o9, K⟩ := K
      refine ld_338 dX5_findLinks_147 hL (by omega) o9 ?_
      show V w 3 mX5_findLinks 148 [some (vR 313), some (vI known), none, some (vI ((k : Nat) : Int)), some (vI (J 332 (J 334 k).toNat)), some (vI (J 332 (J 335 k).toNat))] [vI (J 338 k), vI (J 337 k)] S J Q
      refine v_iload_n dX5_findLinks_148 rfl ?_
      refine v_callS (d' := 0) (rest := []) [vI (J 337 k), vI (J 338 k), vI known] dX5_findLinks_149 srX5_177 rfl (one_I (one_I (one_I one_nil))) (Nat.le_of_ble_eq_true rfl) (Nat.le_of_ble_eq_true rfl) (Nat.le_of_ble_eq_true rfl) ?_
      obtain ⟨K1, K2⟩ := K
      refine sX5_counts hL (J 337 k) (J 338 k) known  (fun cQ => ?_) (fun cQ => ?_)
      · have K := K1 cQ
        show V w 3 mX5_findLinks 152 [some (vR 313), some (vI known), none, some (vI ((k : Nat) : Int)), some (vI (J 332 (J 334 k).toNat)), some (vI (J 332 (J 335 k).toNat))] [vI 1] S J Q
        refine v_if_ne 158 dX5_findLinks_152 (by decide) (fun _ => ?_) (fun cQ => absurd cQ (by decide))
        refine v_aload_n dX5_findLinks_158 rfl ?_
        refine v_getR dX5_findLinks_159 frX5_84_5 rfl (L_313 hL).1 (LR_313_36 hL) (Or.inl rfl) ?_
        refine v_iload_n dX5_findLinks_162 rfl ?_
        obtain ⟨o10, K⟩ := K
        refine ld_336 dX5_findLinks_163 hL (by omega) o10 ?_
        show V w 3 mX5_findLinks 164 [some (vR 313), some (vI known), none, some (vI ((k : Nat) : Int)), some (vI (J 332 (J 334 k).toNat)), some (vI (J 332 (J 335 k).toNat))] [vI (J 336 k)] S J Q
        obtain ⟨K1, K2⟩ := K
        refine v_if_eq 184 dX5_findLinks_164 (by decide) (fun cQ => ?_) (fun cQ => ?_)
        · have K := K1 cQ
          refine v_aload_n dX5_findLinks_184 rfl ?_
          refine v_getR dX5_findLinks_185 frX5_103_5 rfl (L_313 hL).1 (LR_313_43 hL) (Or.inl rfl) ?_
          refine v_sipush dX5_findLinks_188 (by decide) (in_lit (by decide)) ?_
          refine v_aload_n dX5_findLinks_191 rfl ?_
          refine v_getR dX5_findLinks_192 frX5_75_5 rfl (L_313 hL).1 (LR_313_33 hL) (Or.inl rfl) ?_
          refine v_iload_n dX5_findLinks_195 rfl ?_
          obtain ⟨o11, K⟩ := K
          refine ld_333 dX5_findLinks_196 hL (by omega) o11 ?_
          show V w 3 mX5_findLinks 197 [some (vR 313), some (vI known), none, some (vI ((k : Nat) : Int)), some (vI (J 332 (J 334 k).toNat)), some (vI (J 332 (J 335 k).toNat))] [vI (J 333 k), vI 1600, vR 342] S J Q
          obtain ⟨o12, K⟩ := K
          refine v_imul dX5_findLinks_197 o12 ?_
          refine v_bipush dX5_findLinks_198 (by decide) (in_lit (by decide)) ?_
          refine v_iload dX5_findLinks_200 rfl ?_
          obtain ⟨o13, K⟩ := K
          refine v_imul dX5_findLinks_202 o13 ?_
          obtain ⟨o14, K⟩ := K
          refine v_iadd dX5_findLinks_203 o14 ?_
          refine v_iload dX5_findLinks_204 rfl ?_
          obtain ⟨o15, K⟩ := K
          refine v_iadd dX5_findLinks_206 o15 ?_
          refine v_iconst dX5_findLinks_207 (in_lit (by decide)) ?_
          obtain ⟨o16, K⟩ := K
          obtain ⟨o17, K⟩ := K
          refine st_342 dX5_findLinks_208 hL o16 o17 (zfit_bool (by decide)) ?_
          show V w 3 mX5_findLinks 209 [some (vR 313), some (vI known), none, some (vI ((k : Nat) : Int)), some (vI (J 332 (J 334 k).toNat)), some (vI (J 332 (J 335 k).toNat))] [] S (up J 342 (((1600 * (J 333 k)) + (40 * (J 332 (J 334 k).toNat))) + (J 332 (J 335 k).toNat)).toNat 1) Q
          refine v_aload_n dX5_findLinks_209 rfl ?_
          refine v_getR dX5_findLinks_210 frX5_103_5 rfl (L_313 hL).1 (LR_313_43 hL) (Or.inl rfl) ?_
          refine v_sipush dX5_findLinks_213 (by decide) (in_lit (by decide)) ?_
          refine v_aload_n dX5_findLinks_216 rfl ?_
          refine v_getR dX5_findLinks_217 frX5_75_5 rfl (L_313 hL).1 (LR_313_33 hL) (Or.inl rfl) ?_
          refine v_iload_n dX5_findLinks_220 rfl ?_
          obtain ⟨o18, K⟩ := K
          refine ld_333 dX5_findLinks_221 hL (by omega) o18 ?_
          show V w 3 mX5_findLinks 222 [some (vR 313), some (vI known), none, some (vI ((k : Nat) : Int)), some (vI (J 332 (J 334 k).toNat)), some (vI (J 332 (J 335 k).toNat))] [vI (J 333 k), vI 1600, vR 342] S (up J 342 (((1600 * (J 333 k)) + (40 * (J 332 (J 334 k).toNat))) + (J 332 (J 335 k).toNat)).toNat 1) Q
          obtain ⟨o19, K⟩ := K
          refine v_imul dX5_findLinks_222 o19 ?_
          refine v_bipush dX5_findLinks_223 (by decide) (in_lit (by decide)) ?_
          refine v_iload dX5_findLinks_225 rfl ?_
          obtain ⟨o20, K⟩ := K
          refine v_imul dX5_findLinks_227 o20 ?_
          obtain ⟨o21, K⟩ := K
          refine v_iadd dX5_findLinks_228 o21 ?_
          refine v_iload dX5_findLinks_229 rfl ?_
          obtain ⟨o22, K⟩ := K
          refine v_iadd dX5_findLinks_231 o22 ?_
          refine v_iconst dX5_findLinks_232 (in_lit (by decide)) ?_
          obtain ⟨o23, K⟩ := K
          obtain ⟨o24, K⟩ := K
          refine st_342 dX5_findLinks_233 hL o23 o24 (zfit_bool (by decide)) ?_
          show V w 3 mX5_findLinks 234 [some (vR 313), some (vI known), none, some (vI ((k : Nat) : Int)), some (vI (J 332 (J 334 k).toNat)), some (vI (J 332 (J 335 k).toNat))] [] S (up (up J 342 (((1600 * (J 333 k)) + (40 * (J 332 (J 334 k).toNat))) + (J 332 (J 335 k).toNat)).toNat 1) 342 (((1600 * (J 333 k)) + (40 * (J 332 (J 335 k).toNat))) + (J 332 (J 334 k).toNat)).toNat 1) Q
          obtain ⟨o25, K⟩ := K
          refine v_iinc dX5_findLinks_234 rfl o25 ?_
          show V w 3 mX5_findLinks 237 [some (vR 313), some (vI known), none, some (vI ((k + 1 : Nat) : Int)), some (vI (J 332 (J 334 k).toNat)), some (vI (J 332 (J 335 k).toNat))] [] S (up (up J 342 (((1600 * (J 333 k)) + (40 * (J 332 (J 334 k).toNat))) + (J 332 (J 335 k).toNat)).toNat 1) 342 (((1600 * (J 333 k)) + (40 * (J 332 (J 335 k).toNat))) + (J 332 (J 334 k).toNat)).toNat 1) Q
          refine v_goto 95 dX5_findLinks_237 (by decide) ?_
          exact v_forget (fg_some (fg_some (fg_none (fg_some (fg_none (fg_none fg_nil)))))) K
        · have K := K2 cQ
          refine v_aload_n dX5_findLinks_167 rfl ?_
          refine v_aload_n dX5_findLinks_168 rfl ?_
          refine v_getR dX5_findLinks_169 frX5_75_5 rfl (L_313 hL).1 (LR_313_33 hL) (Or.inl rfl) ?_
          refine v_iload_n dX5_findLinks_172 rfl ?_
          obtain ⟨o26, K⟩ := K
          refine ld_333 dX5_findLinks_173 hL (by omega) o26 ?_
          show V w 3 mX5_findLinks 174 [some (vR 313), some (vI known), none, some (vI ((k : Nat) : Int)), some (vI (J 332 (J 334 k).toNat)), some (vI (J 332 (J 335 k).toNat))] [vI (J 333 k), vR 313] S J Q
          refine v_iload dX5_findLinks_174 rfl ?_
          refine v_iload dX5_findLinks_176 rfl ?_
          refine v_callV (d' := 0) (rest := []) [vI (J 333 k), vI (J 332 (J 334 k).toNat), vI (J 332 (J 335 k).toNat)] dX5_findLinks_178 vrX5_338_5 (L_313 hL).1 rfl rfl (one_I (one_I (one_I one_nil))) (Nat.le_of_ble_eq_true rfl) (Nat.le_of_ble_eq_true rfl) (Nat.le_of_ble_eq_true rfl) ?_
          obtain ⟨o27, K⟩ := K
          obtain ⟨o28, K⟩ := K
          obtain ⟨o29, K⟩ := K
          refine s_links2 hL (J 333 k) (J 332 (J 334 k).toNat) (J 332 (J 335 k).toNat) o27 o28 o29 ?_
          show V w 3 mX5_findLinks 181 [some (vR 313), some (vI known), none, some (vI ((k : Nat) : Int)), some (vI (J 332 (J 334 k).toNat)), some (vI (J 332 (J 335 k).toNat))] [] S (lnkUp J (J 333 k).toNat (J 332 (J 334 k).toNat).toNat (J 332 (J 335 k).toNat).toNat) Q
          refine v_goto 234 dX5_findLinks_181 (by decide) ?_
          obtain ⟨o30, K⟩ := K
          refine v_iinc dX5_findLinks_234 rfl o30 ?_
          show V w 3 mX5_findLinks 237 [some (vR 313), some (vI known), none, some (vI ((k + 1 : Nat) : Int)), some (vI (J 332 (J 334 k).toNat)), some (vI (J 332 (J 335 k).toNat))] [] S (lnkUp J (J 333 k).toNat (J 332 (J 334 k).toNat).toNat (J 332 (J 335 k).toNat).toNat) Q
          refine v_goto 95 dX5_findLinks_237 (by decide) ?_
          exact v_forget (fg_some (fg_some (fg_none (fg_some (fg_none (fg_none fg_nil)))))) K
      · have K := K2 cQ
        show V w 3 mX5_findLinks 152 [some (vR 313), some (vI known), none, some (vI ((k : Nat) : Int)), some (vI (J 332 (J 334 k).toNat)), some (vI (J 332 (J 335 k).toNat))] [vI 0] S J Q
        refine v_if_ne 158 dX5_findLinks_152 (by decide) (fun cQ => absurd cQ (by decide)) (fun _ => ?_)
        refine v_goto 234 dX5_findLinks_155 (by decide) ?_
        obtain ⟨o31, K⟩ := K
        refine v_iinc dX5_findLinks_234 rfl o31 ?_
        show V w 3 mX5_findLinks 237 [some (vR 313), some (vI known), none, some (vI ((k + 1 : Nat) : Int)), some (vI (J 332 (J 334 k).toNat)), some (vI (J 332 (J 335 k).toNat))] [] S J Q
        refine v_goto 95 dX5_findLinks_237 (by decide) ?_
        exact v_forget (fg_some (fg_some (fg_none (fg_some (fg_none (fg_none fg_nil)))))) K
theorem gX5_findLinks_244 {w : Wd} {S : Sh} {J : Jm} {Q : Out → Sh → Jm → Prop} (hL : Lay S) 
    (K : Q (.inl none) S J) :
    V w 3 mX5_findLinks 244 [none, none, none, none, none, none] [] S J Q := by
  exact v_vret dX5_findLinks_244 rfl K

/-- how signs stand, as known on a day -/
noncomputable def stI (J : Jm) (known : Int) : Nat → Int := fun s => ((labOf (EH J known) s : Nat) : Int)
noncomputable def WH (J : Jm) (known : Int) : List (List Int) := whOf J (stI J known) known
theorem addR_cong {J J' : Jm} (h : Mp J J') {r : Nat} (hr : r < 192) (h6 : J 317 r ≤ 6) (hp : ∀ i : Nat, (i : Int) < J 317 r → J 318 (6 * r + i) < 40) {st st' : Nat → Int} (hst : ∀ s, s < 40 → st' s = st s) (L : List (List Int)) : addR J' st' L r = addR J st L r := by
  rw [addR_mp h hr h6]
  have e : rowM J st' r = rowM J st r := by
    unfold rowM
    rw [mr_eq]
    exact ⟨rfl, fun i hi => hst _ (by have := hp i (by omega); omega)⟩
  unfold addR
  rw [e]
theorem whU_cong {J J' : Jm} (hT : MTab J) (h : Mp J J') {st st' : Nat → Int} (hst : ∀ s, s < 40 → st' s = st s) {t : Nat} (ht : (t : Int) < J 313 2) (L : List (List Int)) : ∀ u : Nat, (u : Int) ≤ J 316 t → whU J' st' t L u = whU J st t L u
  | 0, _ => rfl
  | u + 1, hu => by
    have h1 := hT.2 t ht
    have h2 := h1.2 u (by omega)
    have h0 := hT.1
    have ih := whU_cong hT h hst ht L u (by omega)
    show addR J' st' (whU J' st' t L u) (8 * t + u) = addR J st (whU J st t L u) (8 * t + u)
    rw [ih, addR_cong h (by omega) h2.1.2 (fun i hi => (h2.2 i hi).2) hst]
theorem whN_cong {J J' : Jm} (hT : MTab J) (h : Mp J J') {st st' : Nat → Int} (hst : ∀ s, s < 40 → st' s = st s) (known : Int) : ∀ t : Nat, (t : Int) ≤ J 313 2 → whN J' st' known t = whN J st known t
  | 0, _ => rfl
  | t + 1, ht => by
    have ih := whN_cong hT h hst known t (by omega)
    have h0 := hT.1
    have h1 := hT.2 t (by omega)
    have e1 : J' 314 t = J 314 t := h _ _ rfl
    have e2 : J' 315 t = J 315 t := h _ _ rfl
    have e3 : J' 316 t = J 316 t := h _ _ (by unfold mper scr; simp; omega)
    show (if tcnt J' t known then whU J' st' t (whN J' st' known t) (J' 316 t).toNat else whN J' st' known t) = (if tcnt J t known then whU J st t (whN J st known t) (J 316 t).toNat else whN J st known t)
    rw [ih, e3, whU_cong hT h hst (by omega) _ _ (by omega)]
    unfold tcnt
    rw [e1, e2]
theorem whOf_cong {J J' : Jm} (hT : MTab J) (h : Mp J J') {st st' : Nat → Int} (hst : ∀ s, s < 40 → st' s = st s) (known : Int) : whOf J' st' known = whOf J st known := by
  unfold whOf
  have h0 := hT.1
  rw [h 313 2 rfl, whN_cong hT h hst known _ (by omega)]
/-- every entry of the rows is one of st -/
theorem whN_all {J : Jm} {st : Nat → Int} {known : Int} (P : List Int → Prop) (hP : ∀ t u : Nat, (t : Int) < J 313 2 → (u : Int) < J 316 t → P (rowM J st (8 * t + u))) : ∀ t : Nat, (t : Int) ≤ J 313 2 → ∀ A ∈ whN J st known t, P A := by
  have hU : ∀ t : Nat, (t : Int) < J 313 2 → ∀ (L : List (List Int)), (∀ A ∈ L, P A) → ∀ u : Nat, (u : Int) ≤ J 316 t → ∀ A ∈ whU J st t L u, P A := by
    intro t ht L hLp u
    induction u with
    | zero => intro _; exact hLp
    | succ u ih =>
      intro hu A hA
      have hA : A ∈ addR J st (whU J st t L u) (8 * t + u) := hA
      unfold addR at hA
      split at hA
      · exact ih (by omega) A hA
      · split at hA
        · exact ih (by omega) A hA
        · rcases List.mem_append.mp hA with q | q
          · exact ih (by omega) A q
          · rw [List.mem_singleton.mp q]
            exact hP t u ht (by omega)
  intro t
  induction t with
  | zero => intro _ A hA; cases hA
  | succ t ih =>
    intro ht A hA
    have hA : A ∈ (if tcnt J t known then whU J st t (whN J st known t) (J 316 t).toNat else whN J st known t) := hA
    split at hA
    · rcases Int.lt_or_le (J 316 t) 0 with q | q
      · rw [show (J 316 t).toNat = 0 by omega] at hA
        exact ih (by omega) A hA
      · exact hU t (by omega) _ (ih (by omega)) _ (by omega) A hA
    · exact ih (by omega) A hA
theorem WH_in {J : Jm} (hT : MTab J) {st : Nat → Int} (hs : ∀ s, s < 40 → 0 ≤ st s ∧ st s < 40) (known : Int) : (whOf J st known).length ≤ 192 ∧ ∀ a, a < (whOf J st known).length → ∀ i, i < ((whOf J st known).getD a []).length → 0 ≤ ((whOf J st known).getD a []).getD i 0 ∧ ((whOf J st known).getD a []).getD i 0 < 40 := by
  have h0 := hT.1
  refine ⟨?_, fun a ha i hi => ?_⟩
  · have := whN_len hT st known (J 313 2).toNat (by omega)
    unfold whOf
    omega
  · have hm : (whOf J st known).getD a [] ∈ whOf J st known := by
      rw [List.getD_eq_getElem?_getD, List.getElem?_eq_getElem ha]
      exact List.getElem_mem _
    have key := whN_all (J := J) (st := st) (known := known) (fun A => ∀ i, i < A.length → 0 ≤ A.getD i 0 ∧ A.getD i 0 < 40) (fun t u ht hu i hi => by
      have h2 := (hT.2 t ht).2 u hu
      unfold rowM at hi ⊢
      rw [List.length_map, List.length_range] at hi
      rw [List.getD_eq_getElem?_getD, List.getElem?_map, List.getElem?_range hi]
      have := h2.2 i (by omega)
      exact hs _ (by omega)) (J 313 2).toNat (by omega) _ hm
    exact key i hi
theorem labOf_in (E : Nat → Nat → Prop) (hE : ∃ L, IsLab E L) {s : Nat} (hs : s < 40) : labOf E s < 40 := by
  obtain ⟨L, hL⟩ := hE
  rw [← labOf_eq hL hs]
  have := hL.2.2 s hs
  omega
