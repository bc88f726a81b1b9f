/-! GridRoom: small methods -/
set_option maxRecDepth 100000

/-- the element of a list -/
def eA (S : Sh) (l i : Nat) : Nat := ((S.rf ((S.rf l 1).getD 0) i).getD 0)
def GetOk (S : Sh) (J : Jm) (l : Nat) (i : Int) : Prop := S.tg l = 24 ∧ (0 ≤ i ∧ i < J l 2) ∧ ∃ A, S.rf l 1 = some A ∧ S.tg A = 37 ∧ i < S.ln A ∧ S.rf A i.toNat = some (eA S l i.toNat)
theorem LsAt.el {S : Sh} {J : Jm} {l : Nat} {es : List Nat} (h : LsAt S J l es) {i : Nat} (hi : i < es.length) : eA S l i = es.getD i 0 := by
  obtain ⟨h1, h2, h3, A, hA, tA, h5, h6, h7⟩ := h
  unfold eA
  rw [hA]
  show (S.rf A i).getD 0 = _
  rw [(h7 i hi).1]
  rfl
theorem LsAt.get {S : Sh} {J : Jm} {l : Nat} {es : List Nat} (h : LsAt S J l es) {i : Int} (hi : 0 ≤ i ∧ i < es.length) : GetOk S J l i := by
  have e := h.el (i := i.toNat) (by omega)
  obtain ⟨h1, h2, h3, A, hA, tA, h5, h6, h7⟩ := h
  refine ⟨h1, by omega, A, hA, tA, by omega, ?_⟩
  rw [e]
  exact (h7 _ (by omega)).1
theorem s_size {w : Wd} {S : Sh} {J : Jm} {Q : Out → Sh → Jm → Prop} (hL : Lay S) (l : Nat) (h : S.tg l = 24) (K : Q (.inl (some (vI (J l 2)))) S J) : V w 0 mJ2_size 0 (ent mJ2_size [vR l]) [] S J Q := gJ2_size_0 hL l ⟨h, K⟩
theorem s_get {w : Wd} {S : Sh} {J : Jm} {Q : Out → Sh → Jm → Prop} (hL : Lay S) (l : Nat) (i : Int) (h : GetOk S J l i) (K : Q (.inl (some (vR (eA S l i.toNat)))) S J) : V w 2 mJ2_get 0 (ent mJ2_get [vR l, vI i]) [] S J Q := by
  obtain ⟨h1, h2, A, hA, tA, h5, h6⟩ := h
  obtain ⟨i, rfl⟩ : ∃ m : Nat, i = m := ⟨i.toNat, by omega⟩
  refine gJ2_get_0 hL l i ⟨h1, h2, ?_⟩
  refine gJ2_elementData_0 hL l i ⟨h1, A, hA, tA, h5, _, h6, ?_⟩
  show V w 2 mJ2_get 14 [some (vR l), some (vI (i : Int))] [vR (eA S l i)] S J Q
  exact v_aret dJ2_get_14 rfl rfl K
theorem gX1_in_0 {w : Wd} {S : Sh} {J : Jm} {Q : Out → Sh → Jm → Prop} (hL : Lay S) (x0 : Int) (x1 : Int) (x2 : Int)
    (K : Br (x0 < x1) (Q (.inl (some (vI 0))) S J) (Br (x2 < x0) (Q (.inl (some (vI 0))) S J) (Q (.inl (some (vI 1))) S J))) :
    V w 0 mX1_in 0 (ent mX1_in [vI x0, vI x1, vI x2]) [] S J Q := by
  show V w 0 mX1_in 0 [some (vI x0), some (vI x1), some (vI x2)] [] S J Q
  refine v_iload_n dX1_in_0 rfl ?_
  refine v_iload_n dX1_in_1 rfl ?_
  obtain ⟨K1, K2⟩ := K
  refine v_icmp_lt 14 dX1_in_2 (by decide) (fun c1 => ?_) (fun c1 => ?_)
  · have K := K1 c1
    refine v_iconst dX1_in_14 (in_lit (by decide)) ?_
    exact v_iret dX1_in_15 rfl (by decide) K
  · have K := K2 c1
    refine v_iload_n dX1_in_5 rfl ?_
    refine v_iload_n dX1_in_6 rfl ?_
    obtain ⟨K1, K2⟩ := K
    refine v_icmp_gt 14 dX1_in_7 (by decide) (fun c2 => ?_) (fun c2 => ?_)
    · have K := K1 c2
      refine v_iconst dX1_in_14 (in_lit (by decide)) ?_
      exact v_iret dX1_in_15 rfl (by decide) K
    · have K := K2 c2
      refine v_iconst dX1_in_10 (in_lit (by decide)) ?_
      refine v_goto 15 dX1_in_11 (by decide) ?_
      exact v_iret dX1_in_15 rfl (by decide) K
theorem sX1_in {w : Wd} {S : Sh} {J : Jm} {Q : Out → Sh → Jm → Prop} (hL : Lay S) (x0 : Int) (x1 : Int) (x2 : Int)  (K1 : (x1 ≤ x0 ∧ x0 ≤ x2) → Q (.inl (some (vI 1))) S J) (K2 : ¬ (x1 ≤ x0 ∧ x0 ≤ x2) → Q (.inl (some (vI 0))) S J) : V w 0 mX1_in 0 (ent mX1_in [vI x0, vI x1, vI x2]) [] S J Q := by
  refine gX1_in_0 hL x0 x1 x2 ?_
  repeat' (first | refine br_i (fun hb => ?_) (fun hb => ?_) | (refine And.intro ?_ ?_; omega))
  all_goals (first | exact K1 (by omega) | exact K2 (by omega))
theorem gX1_isSign_0 {w : Wd} {S : Sh} {J : Jm} {Q : Out → Sh → Jm → Prop} (hL : Lay S) (x0 : Int)
    (K : Br ((0 : Int) ≤ x0 ∧ x0 ≤ (39 : Int)) (Q (.inl (some (vI 1))) S J) (Q (.inl (some (vI 0))) S J)) :
    V w 1 mX1_isSign 0 (ent mX1_isSign [vI x0]) [] S J Q := by
  show V w 1 mX1_isSign 0 [some (vI x0)] [] S J Q
  refine v_iload_n dX1_isSign_0 rfl ?_
  refine v_iconst dX1_isSign_1 (in_lit (by decide)) ?_
  refine v_bipush dX1_isSign_2 (by decide) (in_lit (by decide)) ?_
  refine v_callS (d' := 0) (rest := []) [vI x0, vI 0, vI 39] dX1_isSign_4 srX1_3 rfl (one_I (one_I (one_I one_nil))) (Nat.le_of_ble_eq_true rfl) (Nat.le_of_ble_eq_true rfl) (Nat.le_of_ble_eq_true rfl) ?_
  obtain ⟨K1, K2⟩ := K
  refine sX1_in hL x0 (0 : Int) (39 : Int)  (fun c1 => ?_) (fun c1 => ?_)
  · have K := K1 c1
    show V w 1 mX1_isSign 7 [some (vI x0)] [vI 1] S J Q
    exact v_iret dX1_isSign_7 rfl (by decide) K
  · have K := K2 c1
    show V w 1 mX1_isSign 7 [some (vI x0)] [vI 0] S J Q
    exact v_iret dX1_isSign_7 rfl (by decide) K
theorem sX1_isSign {w : Wd} {S : Sh} {J : Jm} {Q : Out → Sh → Jm → Prop} (hL : Lay S) (x0 : Int)  (K1 : (0 ≤ x0 ∧ x0 < 40) → Q (.inl (some (vI 1))) S J) (K2 : ¬ (0 ≤ x0 ∧ x0 < 40) → Q (.inl (some (vI 0))) S J) : V w 1 mX1_isSign 0 (ent mX1_isSign [vI x0]) [] S J Q := by
  refine gX1_isSign_0 hL x0 ?_
  repeat' (first | refine br_i (fun hb => ?_) (fun hb => ?_) | (refine And.intro ?_ ?_; omega))
  all_goals (first | exact K1 (by omega) | exact K2 (by omega))
theorem gX1_isSort_0 {w : Wd} {S : Sh} {J : Jm} {Q : Out → Sh → Jm → Prop} (hL : Lay S) (x0 : Int)
    (K : Br ((0 : Int) ≤ x0 ∧ x0 ≤ (1 : Int)) (Q (.inl (some (vI 1))) S J) (Q (.inl (some (vI 0))) S J)) :
    V w 1 mX1_isSort 0 (ent mX1_isSort [vI x0]) [] S J Q := by
  show V w 1 mX1_isSort 0 [some (vI x0)] [] S J Q
  refine v_iload_n dX1_isSort_0 rfl ?_
  refine v_iconst dX1_isSort_1 (in_lit (by decide)) ?_
  refine v_iconst dX1_isSort_2 (in_lit (by decide)) ?_
  refine v_callS (d' := 0) (rest := []) [vI x0, vI 0, vI 1] dX1_isSort_3 srX1_3 rfl (one_I (one_I (one_I one_nil))) (Nat.le_of_ble_eq_true rfl) (Nat.le_of_ble_eq_true rfl) (Nat.le_of_ble_eq_true rfl) ?_
  obtain ⟨K1, K2⟩ := K
  refine sX1_in hL x0 (0 : Int) (1 : Int)  (fun c1 => ?_) (fun c1 => ?_)
  · have K := K1 c1
    show V w 1 mX1_isSort 6 [some (vI x0)] [vI 1] S J Q
    exact v_iret dX1_isSort_6 rfl (by decide) K
  · have K := K2 c1
    show V w 1 mX1_isSort 6 [some (vI x0)] [vI 0] S J Q
    exact v_iret dX1_isSort_6 rfl (by decide) K
theorem sX1_isSort {w : Wd} {S : Sh} {J : Jm} {Q : Out → Sh → Jm → Prop} (hL : Lay S) (x0 : Int)  (K1 : (0 ≤ x0 ∧ x0 < 2) → Q (.inl (some (vI 1))) S J) (K2 : ¬ (0 ≤ x0 ∧ x0 < 2) → Q (.inl (some (vI 0))) S J) : V w 1 mX1_isSort 0 (ent mX1_isSort [vI x0]) [] S J Q := by
  refine gX1_isSort_0 hL x0 ?_
  repeat' (first | refine br_i (fun hb => ?_) (fun hb => ?_) | (refine And.intro ?_ ?_; omega))
  all_goals (first | exact K1 (by omega) | exact K2 (by omega))
theorem gX1_isKnown_0 {w : Wd} {S : Sh} {J : Jm} {Q : Out → Sh → Jm → Prop} (hL : Lay S) (x1 : Int)
    (K : Br ((0 : Int) ≤ x1 ∧ x1 ≤ (J 64 0)) (Q (.inl (some (vI 1))) S J) (Q (.inl (some (vI 0))) S J)) :
    V w 1 mX1_isKnown 0 (ent mX1_isKnown [vR 64, vI x1]) [] S J Q := by
  show V w 1 mX1_isKnown 0 [some (vR 64), some (vI x1)] [] S J Q
  refine v_iload_n dX1_isKnown_0 rfl ?_
  refine v_iconst dX1_isKnown_1 (in_lit (by decide)) ?_
  refine v_aload_n dX1_isKnown_2 rfl ?_
  refine v_getI dX1_isKnown_3 frX1_118_1 rfl rfl (L_64 hL).1 ?_
  refine v_callS (d' := 0) (rest := []) [vI x1, vI 0, vI (J 64 0)] dX1_isKnown_6 srX1_3 rfl (one_I (one_I (one_I one_nil))) (Nat.le_of_ble_eq_true rfl) (Nat.le_of_ble_eq_true rfl) (Nat.le_of_ble_eq_true rfl) ?_
  obtain ⟨K1, K2⟩ := K
  refine sX1_in hL x1 (0 : Int) (J 64 0)  (fun c1 => ?_) (fun c1 => ?_)
  · have K := K1 c1
    show V w 1 mX1_isKnown 9 [some (vR 64), some (vI x1)] [vI 1] S J Q
    exact v_iret dX1_isKnown_9 rfl (by decide) K
  · have K := K2 c1
    show V w 1 mX1_isKnown 9 [some (vR 64), some (vI x1)] [vI 0] S J Q
    exact v_iret dX1_isKnown_9 rfl (by decide) K
theorem sX1_isKnown {w : Wd} {S : Sh} {J : Jm} {Q : Out → Sh → Jm → Prop} (hL : Lay S) (x1 : Int)  (K1 : (0 ≤ x1 ∧ x1 ≤ J 64 0) → Q (.inl (some (vI 1))) S J) (K2 : ¬ (0 ≤ x1 ∧ x1 ≤ J 64 0) → Q (.inl (some (vI 0))) S J) : V w 1 mX1_isKnown 0 (ent mX1_isKnown [vR 64, vI x1]) [] S J Q := by
  refine gX1_isKnown_0 hL x1 ?_
  repeat' (first | refine br_i (fun hb => ?_) (fun hb => ?_) | (refine And.intro ?_ ?_; omega))
  all_goals (first | exact K1 (by omega) | exact K2 (by omega))
theorem gX1_isTablet_0 {w : Wd} {S : Sh} {J : Jm} {Q : Out → Sh → Jm → Prop} (hL : Lay S) (x1 : Int)
    (K : (-2147483648 ≤ (J 65 2) - 1 ∧ (J 65 2) - 1 ≤ 2147483647) ∧ Br ((0 : Int) ≤ x1 ∧ x1 ≤ ((J 65 2) - 1)) (Q (.inl (some (vI 1))) S J) (Q (.inl (some (vI 0))) S J)) :
    V w 1 mX1_isTablet 0 (ent mX1_isTablet [vR 64, vI x1]) [] S J Q := by
  show V w 1 mX1_isTablet 0 [some (vR 64), some (vI x1)] [] S J Q
  refine v_iload_n dX1_isTablet_0 rfl ?_
  refine v_iconst dX1_isTablet_1 (in_lit (by decide)) ?_
  refine v_aload_n dX1_isTablet_2 rfl ?_
  refine v_getR dX1_isTablet_3 frX1_26_1 rfl (L_64 hL).1 (LR_64_1 hL) (Or.inl rfl) ?_
  refine v_callV (d' := 0) (rest := [vI 0, vI x1]) [] dX1_isTablet_6 vrX1_121_24 (L_65 hL).1 rfl rfl one_nil (Nat.le_of_ble_eq_true rfl) (Nat.le_of_ble_eq_true rfl) (Nat.le_of_ble_eq_true rfl) ?_
  refine s_size hL 65 (L_65 hL).1 ?_
  show V w 1 mX1_isTablet 9 [some (vR 64), some (vI x1)] [vI (J 65 2), vI 0, vI x1] S J Q
  refine v_iconst dX1_isTablet_9 (in_lit (by decide)) ?_
  obtain ⟨o1, K⟩ := K
  refine v_isub dX1_isTablet_10 o1 ?_
  refine v_callS (d' := 0) (rest := []) [vI x1, vI 0, vI ((J 65 2) - 1)] dX1_isTablet_11 srX1_3 rfl (one_I (one_I (one_I one_nil))) (Nat.le_of_ble_eq_true rfl) (Nat.le_of_ble_eq_true rfl) (Nat.le_of_ble_eq_true rfl) ?_
  obtain ⟨K1, K2⟩ := K
  refine sX1_in hL x1 (0 : Int) ((J 65 2) - 1)  (fun c1 => ?_) (fun c1 => ?_)
  · have K := K1 c1
    show V w 1 mX1_isTablet 14 [some (vR 64), some (vI x1)] [vI 1] S J Q
    exact v_iret dX1_isTablet_14 rfl (by decide) K
  · have K := K2 c1
    show V w 1 mX1_isTablet 14 [some (vR 64), some (vI x1)] [vI 0] S J Q
    exact v_iret dX1_isTablet_14 rfl (by decide) K
theorem sX1_isTablet {w : Wd} {S : Sh} {J : Jm} {Q : Out → Sh → Jm → Prop} (hL : Lay S) (x1 : Int) (p0 : 0 ≤ J 65 2 ∧ J 65 2 ≤ 1000) (K1 : (0 ≤ x1 ∧ x1 < J 65 2) → Q (.inl (some (vI 1))) S J) (K2 : ¬ (0 ≤ x1 ∧ x1 < J 65 2) → Q (.inl (some (vI 0))) S J) : V w 1 mX1_isTablet 0 (ent mX1_isTablet [vR 64, vI x1]) [] S J Q := by
  refine gX1_isTablet_0 hL x1 ?_
  repeat' (first | refine br_i (fun hb => ?_) (fun hb => ?_) | (refine And.intro ?_ ?_; omega))
  all_goals (first | exact K1 (by omega) | exact K2 (by omega))
theorem gX1_isName_0 {w : Wd} {S : Sh} {J : Jm} {Q : Out → Sh → Jm → Prop} (hL : Lay S) (x1 : Int)
    (K : (-2147483648 ≤ (J 71 2) - 1 ∧ (J 71 2) - 1 ≤ 2147483647) ∧ Br ((0 : Int) ≤ x1 ∧ x1 ≤ ((J 71 2) - 1)) (Q (.inl (some (vI 1))) S J) (Q (.inl (some (vI 0))) S J)) :
    V w 1 mX1_isName 0 (ent mX1_isName [vR 64, vI x1]) [] S J Q := by
  show V w 1 mX1_isName 0 [some (vR 64), some (vI x1)] [] S J Q
  refine v_iload_n dX1_isName_0 rfl ?_
  refine v_iconst dX1_isName_1 (in_lit (by decide)) ?_
  refine v_aload_n dX1_isName_2 rfl ?_
  refine v_getR dX1_isName_3 frX1_36_1 rfl (L_64 hL).1 (LR_64_4 hL) (Or.inl rfl) ?_
  refine v_callV (d' := 0) (rest := [vI 0, vI x1]) [] dX1_isName_6 vrX1_121_24 (L_71 hL).1 rfl rfl one_nil (Nat.le_of_ble_eq_true rfl) (Nat.le_of_ble_eq_true rfl) (Nat.le_of_ble_eq_true rfl) ?_
  refine s_size hL 71 (L_71 hL).1 ?_
  show V w 1 mX1_isName 9 [some (vR 64), some (vI x1)] [vI (J 71 2), vI 0, vI x1] S J Q
  refine v_iconst dX1_isName_9 (in_lit (by decide)) ?_
  obtain ⟨o1, K⟩ := K
  refine v_isub dX1_isName_10 o1 ?_
  refine v_callS (d' := 0) (rest := []) [vI x1, vI 0, vI ((J 71 2) - 1)] dX1_isName_11 srX1_3 rfl (one_I (one_I (one_I one_nil))) (Nat.le_of_ble_eq_true rfl) (Nat.le_of_ble_eq_true rfl) (Nat.le_of_ble_eq_true rfl) ?_
  obtain ⟨K1, K2⟩ := K
  refine sX1_in hL x1 (0 : Int) ((J 71 2) - 1)  (fun c1 => ?_) (fun c1 => ?_)
  · have K := K1 c1
    show V w 1 mX1_isName 14 [some (vR 64), some (vI x1)] [vI 1] S J Q
    exact v_iret dX1_isName_14 rfl (by decide) K
  · have K := K2 c1
    show V w 1 mX1_isName 14 [some (vR 64), some (vI x1)] [vI 0] S J Q
    exact v_iret dX1_isName_14 rfl (by decide) K
theorem sX1_isName {w : Wd} {S : Sh} {J : Jm} {Q : Out → Sh → Jm → Prop} (hL : Lay S) (x1 : Int) (p0 : 0 ≤ J 71 2 ∧ J 71 2 ≤ 1000) (K1 : (0 ≤ x1 ∧ x1 < J 71 2) → Q (.inl (some (vI 1))) S J) (K2 : ¬ (0 ≤ x1 ∧ x1 < J 71 2) → Q (.inl (some (vI 0))) S J) : V w 1 mX1_isName 0 (ent mX1_isName [vR 64, vI x1]) [] S J Q := by
  refine gX1_isName_0 hL x1 ?_
  repeat' (first | refine br_i (fun hb => ?_) (fun hb => ?_) | (refine And.intro ?_ ?_; omega))
  all_goals (first | exact K1 (by omega) | exact K2 (by omega))
