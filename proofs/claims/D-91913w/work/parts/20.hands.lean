/-! the model: small questions; hands -/
set_option maxRecDepth 100000
theorem gX5_within_0 {w : Wd} {S : Sh} {J : Jm} {Q : Out → Sh → Jm → Prop} (hL : Lay S) (x0 : Int) (x1 : Int) (x2 : Int)
    (K : Br (x0 < x1) (Q (.inl (some (vI 0))) S J) (Br (x2 < x0) (Q (.inl (some (vI 0))) S J) (Q (.inl (some (vI 1))) S J))) :
    V w 0 mX5_within 0 (ent mX5_within [vI x0, vI x1, vI x2]) [] S J Q := by
  show V w 0 mX5_within 0 [some (vI x0), some (vI x1), some (vI x2)] [] S J Q
  refine v_iload_n dX5_within_0 rfl ?_
  refine v_iload_n dX5_within_1 rfl ?_
  obtain ⟨K1, K2⟩ := K
  refine v_icmp_lt 14 dX5_within_2 (by decide) (fun c => ?_) (fun c => ?_)
  · have K := K1 c
    refine v_iconst dX5_within_14 (in_lit (by decide)) ?_
    exact v_iret dX5_within_15 rfl (by decide) K
  · have K := K2 c
    refine v_iload_n dX5_within_5 rfl ?_
    refine v_iload_n dX5_within_6 rfl ?_
    obtain ⟨K1, K2⟩ := K
    refine v_icmp_gt 14 dX5_within_7 (by decide) (fun c => ?_) (fun c => ?_)
    · have K := K1 c
      refine v_iconst dX5_within_14 (in_lit (by decide)) ?_
      exact v_iret dX5_within_15 rfl (by decide) K
    · have K := K2 c
      refine v_iconst dX5_within_10 (in_lit (by decide)) ?_
      refine v_goto 15 dX5_within_11 (by decide) ?_
      exact v_iret dX5_within_15 rfl (by decide) K
theorem sX5_within {w : Wd} {S : Sh} {J : Jm} {Q : Out → Sh → Jm → Prop} (hL : Lay S) (x0 : Int) (x1 : Int) (x2 : Int)  (K1 : (x1 ≤ x0 ∧ x0 ≤ x2) → Q (.inl (some (vI 1))) S J) (K2 : ¬ (x1 ≤ x0 ∧ x0 ≤ x2) → Q (.inl (some (vI 0))) S J) : V w 0 mX5_within 0 (ent mX5_within [vI x0, vI x1, vI x2]) [] S J Q := by
  refine gX5_within_0 hL x0 x1 x2 ?_
  repeat' (first | refine br_i (fun hb => ?_) (fun hb => ?_) | refine And.intro (by omega) ?_)
  all_goals (first | exact K1 (by omega) | exact K2 (by omega))
theorem gX5_isKnown_0 {w : Wd} {S : Sh} {J : Jm} {Q : Out → Sh → Jm → Prop} (hL : Lay S) (x1 : Int)
    (K : Br (x1 < 0) (Q (.inl (some (vI 0))) S J) (Br (J 313 1 < x1) (Q (.inl (some (vI 0))) S J) (Q (.inl (some (vI 1))) S J))) :
    V w 0 mX5_isKnown 0 (ent mX5_isKnown [vR 313, vI x1]) [] S J Q := by
  show V w 0 mX5_isKnown 0 [some (vR 313), some (vI x1)] [] S J Q
  refine v_iload_n dX5_isKnown_0 rfl ?_
  obtain ⟨K1, K2⟩ := K
  refine v_if_lt 16 dX5_isKnown_1 (by decide) (fun c => ?_) (fun c => ?_)
  · have K := K1 c
    refine v_iconst dX5_isKnown_16 (in_lit (by decide)) ?_
    exact v_iret dX5_isKnown_17 rfl (by decide) K
  · have K := K2 c
    refine v_iload_n dX5_isKnown_4 rfl ?_
    refine v_aload_n dX5_isKnown_5 rfl ?_
    refine v_getI dX5_isKnown_6 frX5_173_5 rfl rfl (L_313 hL).1 ?_
    obtain ⟨K1, K2⟩ := K
    refine v_icmp_gt 16 dX5_isKnown_9 (by decide) (fun c => ?_) (fun c => ?_)
    · have K := K1 c
      refine v_iconst dX5_isKnown_16 (in_lit (by decide)) ?_
      exact v_iret dX5_isKnown_17 rfl (by decide) K
    · have K := K2 c
      refine v_iconst dX5_isKnown_12 (in_lit (by decide)) ?_
      refine v_goto 17 dX5_isKnown_13 (by decide) ?_
      exact v_iret dX5_isKnown_17 rfl (by decide) K
theorem sX5_isKnown {w : Wd} {S : Sh} {J : Jm} {Q : Out → Sh → Jm → Prop} (hL : Lay S) (x1 : Int)  (K1 : (0 ≤ x1 ∧ x1 ≤ J 313 1) → Q (.inl (some (vI 1))) S J) (K2 : ¬ (0 ≤ x1 ∧ x1 ≤ J 313 1) → Q (.inl (some (vI 0))) S J) : V w 0 mX5_isKnown 0 (ent mX5_isKnown [vR 313, vI x1]) [] S J Q := by
  refine gX5_isKnown_0 hL x1 ?_
  repeat' (first | refine br_i (fun hb => ?_) (fun hb => ?_) | refine And.intro (by omega) ?_)
  all_goals (first | exact K1 (by omega) | exact K2 (by omega))
theorem gX5_counts_0 {w : Wd} {S : Sh} {J : Jm} {Q : Out → Sh → Jm → Prop} (hL : Lay S) (x0 : Int) (x1 : Int) (x2 : Int)
    (K : Br (x2 < x0) (Q (.inl (some (vI 0))) S J) (Br (x1 ≤ x2) (Q (.inl (some (vI 0))) S J) (Q (.inl (some (vI 1))) S J))) :
    V w 0 mX5_counts 0 (ent mX5_counts [vI x0, vI x1, vI x2]) [] S J Q := by
  show V w 0 mX5_counts 0 [some (vI x0), some (vI x1), some (vI x2)] [] S J Q
  refine v_iload_n dX5_counts_0 rfl ?_
  refine v_iload_n dX5_counts_1 rfl ?_
  obtain ⟨K1, K2⟩ := K
  refine v_icmp_gt 14 dX5_counts_2 (by decide) (fun c => ?_) (fun c => ?_)
  · have K := K1 c
    refine v_iconst dX5_counts_14 (in_lit (by decide)) ?_
    exact v_iret dX5_counts_15 rfl (by decide) K
  · have K := K2 c
    refine v_iload_n dX5_counts_5 rfl ?_
    refine v_iload_n dX5_counts_6 rfl ?_
    obtain ⟨K1, K2⟩ := K
    refine v_icmp_le 14 dX5_counts_7 (by decide) (fun c => ?_) (fun c => ?_)
    · have K := K1 c
      refine v_iconst dX5_counts_14 (in_lit (by decide)) ?_
      exact v_iret dX5_counts_15 rfl (by decide) K
    · have K := K2 c
      refine v_iconst dX5_counts_10 (in_lit (by decide)) ?_
      refine v_goto 15 dX5_counts_11 (by decide) ?_
      exact v_iret dX5_counts_15 rfl (by decide) K
theorem sX5_counts {w : Wd} {S : Sh} {J : Jm} {Q : Out → Sh → Jm → Prop} (hL : Lay S) (x0 : Int) (x1 : Int) (x2 : Int)  (K1 : (x0 ≤ x2 ∧ x2 < x1) → Q (.inl (some (vI 1))) S J) (K2 : ¬ (x0 ≤ x2 ∧ x2 < x1) → Q (.inl (some (vI 0))) S J) : V w 0 mX5_counts 0 (ent mX5_counts [vI x0, vI x1, vI x2]) [] S J Q := by
  refine gX5_counts_0 hL x0 x1 x2 ?_
  repeat' (first | refine br_i (fun hb => ?_) (fun hb => ?_) | refine And.intro (by omega) ?_)
  all_goals (first | exact K1 (by omega) | exact K2 (by omega))
theorem gX5_tabletCounts_0 {w : Wd} {S : Sh} {J : Jm} {Q : Out → Sh → Jm → Prop} (hL : Lay S) (x1 : Int) (x2 : Int)
    (K : (0 ≤ x1) ∧ (x1 < 24) ∧ (0 ≤ x1) ∧ (x1 < 24) ∧ Br ((J 314 x1.toNat) ≤ x2 ∧ x2 < (J 315 x1.toNat)) (Q (.inl (some (vI 1))) S J) (Q (.inl (some (vI 0))) S J)) :
    V w 1 mX5_tabletCounts 0 (ent mX5_tabletCounts [vR 313, vI x1, vI x2]) [] S J Q := by
  show V w 1 mX5_tabletCounts 0 [some (vR 313), some (vI x1), some (vI x2)] [] S J Q
  refine v_aload_n dX5_tabletCounts_0 rfl ?_
  refine v_getR dX5_tabletCounts_1 frX5_13_5 rfl (L_313 hL).1 (LR_313_3 hL) (Or.inl rfl) ?_
  refine v_iload_n dX5_tabletCounts_4 rfl ?_
  obtain ⟨o1, K⟩ := K
  obtain ⟨o2, K⟩ := K
  refine ld_314 dX5_tabletCounts_5 hL o1 o2 ?_
  refine v_aload_n dX5_tabletCounts_6 rfl ?_
  refine v_getR dX5_tabletCounts_7 frX5_17_5 rfl (L_313 hL).1 (LR_313_4 hL) (Or.inl rfl) ?_
  refine v_iload_n dX5_tabletCounts_10 rfl ?_
  obtain ⟨o3, K⟩ := K
  obtain ⟨o4, K⟩ := K
  refine ld_315 dX5_tabletCounts_11 hL o3 o4 ?_
  refine v_iload_n dX5_tabletCounts_12 rfl ?_
  refine v_callS (d' := 0) (rest := []) [vI (J 314 x1.toNat), vI (J 315 x1.toNat), vI x2] dX5_tabletCounts_13 srX5_177 rfl (one_I (one_I (one_I one_nil))) (Nat.le_of_ble_eq_true rfl) (Nat.le_of_ble_eq_true rfl) (Nat.le_of_ble_eq_true rfl) ?_
  obtain ⟨K1, K2⟩ := K
  refine sX5_counts hL (J 314 x1.toNat) (J 315 x1.toNat) x2  (fun c => ?_) (fun c => ?_)
  · have K := K1 c
    show V w 1 mX5_tabletCounts 16 [some (vR 313), some (vI x1), some (vI x2)] [vI 1] S J Q
    exact v_iret dX5_tabletCounts_16 rfl (by decide) K
  · have K := K2 c
    show V w 1 mX5_tabletCounts 16 [some (vR 313), some (vI x1), some (vI x2)] [vI 0] S J Q
    exact v_iret dX5_tabletCounts_16 rfl (by decide) K
theorem sX5_tabletCounts {w : Wd} {S : Sh} {J : Jm} {Q : Out → Sh → Jm → Prop} (hL : Lay S) (x1 : Int) (x2 : Int) (p0 : 0 ≤ x1 ∧ x1 < 24) (K1 : (J 314 x1.toNat ≤ x2 ∧ x2 < J 315 x1.toNat) → Q (.inl (some (vI 1))) S J) (K2 : ¬ (J 314 x1.toNat ≤ x2 ∧ x2 < J 315 x1.toNat) → Q (.inl (some (vI 0))) S J) : V w 1 mX5_tabletCounts 0 (ent mX5_tabletCounts [vR 313, vI x1, vI x2]) [] S J Q := by
  refine gX5_tabletCounts_0 hL x1 x2 ?_
  repeat' (first | refine br_i (fun hb => ?_) (fun hb => ?_) | refine And.intro (by omega) ?_)
  all_goals (first | exact K1 (by omega) | exact K2 (by omega))
theorem gX5_isSmall_0 {w : Wd} {S : Sh} {J : Jm} {Q : Out → Sh → Jm → Prop} (hL : Lay S) (x0 : Int)
    (K : Br (x0 < 97) (Q (.inl (some (vI 0))) S J) (Br (122 < x0) (Q (.inl (some (vI 0))) S J) (Q (.inl (some (vI 1))) S J))) :
    V w 0 mX5_isSmall 0 (ent mX5_isSmall [vI x0]) [] S J Q := by
  show V w 0 mX5_isSmall 0 [some (vI x0)] [] S J Q
  refine v_iload_n dX5_isSmall_0 rfl ?_
  refine v_bipush dX5_isSmall_1 (by decide) (in_lit (by decide)) ?_
  obtain ⟨K1, K2⟩ := K
  refine v_icmp_lt 16 dX5_isSmall_3 (by decide) (fun c => ?_) (fun c => ?_)
  · have K := K1 c
    refine v_iconst dX5_isSmall_16 (in_lit (by decide)) ?_
    exact v_iret dX5_isSmall_17 rfl (by decide) K
  · have K := K2 c
    refine v_iload_n dX5_isSmall_6 rfl ?_
    refine v_bipush dX5_isSmall_7 (by decide) (in_lit (by decide)) ?_
    obtain ⟨K1, K2⟩ := K
    refine v_icmp_gt 16 dX5_isSmall_9 (by decide) (fun c => ?_) (fun c => ?_)
    · have K := K1 c
      refine v_iconst dX5_isSmall_16 (in_lit (by decide)) ?_
      exact v_iret dX5_isSmall_17 rfl (by decide) K
    · have K := K2 c
      refine v_iconst dX5_isSmall_12 (in_lit (by decide)) ?_
      refine v_goto 17 dX5_isSmall_13 (by decide) ?_
      exact v_iret dX5_isSmall_17 rfl (by decide) K
theorem sX5_isSmall {w : Wd} {S : Sh} {J : Jm} {Q : Out → Sh → Jm → Prop} (hL : Lay S) (x0 : Int)  (K1 : (97 ≤ x0 ∧ x0 ≤ 122) → Q (.inl (some (vI 1))) S J) (K2 : ¬ (97 ≤ x0 ∧ x0 ≤ 122) → Q (.inl (some (vI 0))) S J) : V w 0 mX5_isSmall 0 (ent mX5_isSmall [vI x0]) [] S J Q := by
  refine gX5_isSmall_0 hL x0 ?_
  repeat' (first | refine br_i (fun hb => ?_) (fun hb => ?_) | refine And.intro (by omega) ?_)
  all_goals (first | exact K1 (by omega) | exact K2 (by omega))
theorem gX5_isDigit_0 {w : Wd} {S : Sh} {J : Jm} {Q : Out → Sh → Jm → Prop} (hL : Lay S) (x0 : Int)
    (K : Br (x0 < 48) (Q (.inl (some (vI 0))) S J) (Br (57 < x0) (Q (.inl (some (vI 0))) S J) (Q (.inl (some (vI 1))) S J))) :
    V w 0 mX5_isDigit 0 (ent mX5_isDigit [vI x0]) [] S J Q := by
  show V w 0 mX5_isDigit 0 [some (vI x0)] [] S J Q
  refine v_iload_n dX5_isDigit_0 rfl ?_
  refine v_bipush dX5_isDigit_1 (by decide) (in_lit (by decide)) ?_
  obtain ⟨K1, K2⟩ := K
  refine v_icmp_lt 16 dX5_isDigit_3 (by decide) (fun c => ?_) (fun c => ?_)
  · have K := K1 c
    refine v_iconst dX5_isDigit_16 (in_lit (by decide)) ?_
    exact v_iret dX5_isDigit_17 rfl (by decide) K
  · have K := K2 c
    refine v_iload_n dX5_isDigit_6 rfl ?_
    refine v_bipush dX5_isDigit_7 (by decide) (in_lit (by decide)) ?_
    obtain ⟨K1, K2⟩ := K
    refine v_icmp_gt 16 dX5_isDigit_9 (by decide) (fun c => ?_) (fun c => ?_)
    · have K := K1 c
      refine v_iconst dX5_isDigit_16 (in_lit (by decide)) ?_
      exact v_iret dX5_isDigit_17 rfl (by decide) K
    · have K := K2 c
      refine v_iconst dX5_isDigit_12 (in_lit (by decide)) ?_
      refine v_goto 17 dX5_isDigit_13 (by decide) ?_
      exact v_iret dX5_isDigit_17 rfl (by decide) K
theorem sX5_isDigit {w : Wd} {S : Sh} {J : Jm} {Q : Out → Sh → Jm → Prop} (hL : Lay S) (x0 : Int)  (K1 : (48 ≤ x0 ∧ x0 ≤ 57) → Q (.inl (some (vI 1))) S J) (K2 : ¬ (48 ≤ x0 ∧ x0 ≤ 57) → Q (.inl (some (vI 0))) S J) : V w 0 mX5_isDigit 0 (ent mX5_isDigit [vI x0]) [] S J Q := by
  refine gX5_isDigit_0 hL x0 ?_
  repeat' (first | refine br_i (fun hb => ?_) (fun hb => ?_) | refine And.intro (by omega) ?_)
  all_goals (first | exact K1 (by omega) | exact K2 (by omega))
theorem gX5_isSign_0 {w : Wd} {S : Sh} {J : Jm} {Q : Out → Sh → Jm → Prop} (hL : Lay S) (x1 : Int)
    (K : Br (J 313 19 = 4) (Br (J 313 20 = x1) (Q (.inl (some (vI 1))) S J) (Q (.inl (some (vI 0))) S J)) (Q (.inl (some (vI 0))) S J)) :
    V w 0 mX5_isSign 0 (ent mX5_isSign [vR 313, vI x1]) [] S J Q := by
  show V w 0 mX5_isSign 0 [some (vR 313), some (vI x1)] [] S J Q
  refine v_aload_n dX5_isSign_0 rfl ?_
  refine v_getI dX5_isSign_1 frX5_189_5 rfl rfl (L_313 hL).1 ?_
  refine v_iconst dX5_isSign_4 (in_lit (by decide)) ?_
  obtain ⟨K1, K2⟩ := K
  refine v_icmp_ne 20 dX5_isSign_5 (by decide) (fun c => ?_) (fun c => ?_)
  · have K := K2 c
    refine v_iconst dX5_isSign_20 (in_lit (by decide)) ?_
    exact v_iret dX5_isSign_21 rfl (by decide) K
  · have K := K1 c
    refine v_aload_n dX5_isSign_8 rfl ?_
    refine v_getI dX5_isSign_9 frX5_192_5 rfl rfl (L_313 hL).1 ?_
    refine v_iload_n dX5_isSign_12 rfl ?_
    obtain ⟨K1, K2⟩ := K
    refine v_icmp_ne 20 dX5_isSign_13 (by decide) (fun c => ?_) (fun c => ?_)
    · have K := K2 c
      refine v_iconst dX5_isSign_20 (in_lit (by decide)) ?_
      exact v_iret dX5_isSign_21 rfl (by decide) K
    · have K := K1 c
      refine v_iconst dX5_isSign_16 (in_lit (by decide)) ?_
      refine v_goto 21 dX5_isSign_17 (by decide) ?_
      exact v_iret dX5_isSign_21 rfl (by decide) K
theorem sX5_isSign {w : Wd} {S : Sh} {J : Jm} {Q : Out → Sh → Jm → Prop} (hL : Lay S) (x1 : Int)  (K1 : (J 313 19 = 4 ∧ J 313 20 = x1) → Q (.inl (some (vI 1))) S J) (K2 : ¬ (J 313 19 = 4 ∧ J 313 20 = x1) → Q (.inl (some (vI 0))) S J) : V w 0 mX5_isSign 0 (ent mX5_isSign [vR 313, vI x1]) [] S J Q := by
  refine gX5_isSign_0 hL x1 ?_
  repeat' (first | refine br_i (fun hb => ?_) (fun hb => ?_) | refine And.intro (by omega) ?_)
  all_goals (first | exact K1 (by omega) | exact K2 (by omega))
theorem gX5_isWell_0 {w : Wd} {S : Sh} {J : Jm} {Q : Out → Sh → Jm → Prop} (hL : Lay S) 
    (K : Br (J 313 21 = 0) (Q (.inl (some (vI 1))) S J) (Q (.inl (some (vI 0))) S J)) :
    V w 0 mX5_isWell 0 (ent mX5_isWell [vR 313]) [] S J Q := by
  show V w 0 mX5_isWell 0 [some (vR 313)] [] S J Q
  refine v_aload_n dX5_isWell_0 rfl ?_
  refine v_getI dX5_isWell_1 frX5_216_5 rfl rfl (L_313 hL).1 ?_
  obtain ⟨K1, K2⟩ := K
  refine v_if_ne 11 dX5_isWell_4 (by decide) (fun c => ?_) (fun c => ?_)
  · have K := K2 c
    refine v_iconst dX5_isWell_11 (in_lit (by decide)) ?_
    exact v_iret dX5_isWell_12 rfl (by decide) K
  · have K := K1 c
    refine v_iconst dX5_isWell_7 (in_lit (by decide)) ?_
    refine v_goto 12 dX5_isWell_8 (by decide) ?_
    exact v_iret dX5_isWell_12 rfl (by decide) K
theorem sX5_isWell {w : Wd} {S : Sh} {J : Jm} {Q : Out → Sh → Jm → Prop} (hL : Lay S)   (K1 : (J 313 21 = 0) → Q (.inl (some (vI 1))) S J) (K2 : ¬ (J 313 21 = 0) → Q (.inl (some (vI 0))) S J) : V w 0 mX5_isWell 0 (ent mX5_isWell [vR 313, ]) [] S J Q := by
  refine gX5_isWell_0 hL  ?_
  repeat' (first | refine br_i (fun hb => ?_) (fun hb => ?_) | refine And.intro (by omega) ?_)
  all_goals (first | exact K1 (by omega) | exact K2 (by omega))
theorem gX5_isSignNumber_0 {w : Wd} {S : Sh} {J : Jm} {Q : Out → Sh → Jm → Prop} (hL : Lay S) (x0 : Int)
    (K : Br (x0 < 0) (Q (.inl (some (vI 0))) S J) (Br (40 ≤ x0) (Q (.inl (some (vI 0))) S J) (Q (.inl (some (vI 1))) S J))) :
    V w 0 mX5_isSignNumber 0 (ent mX5_isSignNumber [vI x0]) [] S J Q := by
  show V w 0 mX5_isSignNumber 0 [some (vI x0)] [] S J Q
  refine v_iload_n dX5_isSignNumber_0 rfl ?_
  obtain ⟨K1, K2⟩ := K
  refine v_if_lt 14 dX5_isSignNumber_1 (by decide) (fun c => ?_) (fun c => ?_)
  · have K := K1 c
    refine v_iconst dX5_isSignNumber_14 (in_lit (by decide)) ?_
    exact v_iret dX5_isSignNumber_15 rfl (by decide) K
  · have K := K2 c
    refine v_iload_n dX5_isSignNumber_4 rfl ?_
    refine v_bipush dX5_isSignNumber_5 (by decide) (in_lit (by decide)) ?_
    obtain ⟨K1, K2⟩ := K
    refine v_icmp_ge 14 dX5_isSignNumber_7 (by decide) (fun c => ?_) (fun c => ?_)
    · have K := K1 c
      refine v_iconst dX5_isSignNumber_14 (in_lit (by decide)) ?_
      exact v_iret dX5_isSignNumber_15 rfl (by decide) K
    · have K := K2 c
      refine v_iconst dX5_isSignNumber_10 (in_lit (by decide)) ?_
      refine v_goto 15 dX5_isSignNumber_11 (by decide) ?_
      exact v_iret dX5_isSignNumber_15 rfl (by decide) K
theorem sX5_isSignNumber {w : Wd} {S : Sh} {J : Jm} {Q : Out → Sh → Jm → Prop} (hL : Lay S) (x0 : Int)  (K1 : (0 ≤ x0 ∧ x0 < 40) → Q (.inl (some (vI 1))) S J) (K2 : ¬ (0 ≤ x0 ∧ x0 < 40) → Q (.inl (some (vI 0))) S J) : V w 0 mX5_isSignNumber 0 (ent mX5_isSignNumber [vI x0]) [] S J Q := by
  refine gX5_isSignNumber_0 hL x0 ?_
  repeat' (first | refine br_i (fun hb => ?_) (fun hb => ?_) | refine And.intro (by omega) ?_)
  all_goals (first | exact K1 (by omega) | exact K2 (by omega))
theorem gX5_moreTrust_0 {w : Wd} {S : Sh} {J : Jm} {Q : Out → Sh → Jm → Prop} (hL : Lay S) (a : Int) (b : Int) (known : Int)
    (K : V w 0 mX5_moreTrust 6 [some (vR 313), some (vI a), some (vI b), some (vI known), some (vI 0), some (vI 0), none, none] [] S J Q) :
    V w 0 mX5_moreTrust 0 (ent mX5_moreTrust [vR 313, vI a, vI b, vI known]) [] S J Q := by
  show V w 0 mX5_moreTrust 0 [some (vR 313), some (vI a), some (vI b), some (vI known), none, none, none, none] [] S J Q
  refine v_iconst dX5_moreTrust_0 (in_lit (by decide)) ?_
  refine v_istore dX5_moreTrust_1 (Nat.le_of_ble_eq_true rfl) ?_
  show V w 0 mX5_moreTrust 3 [some (vR 313), some (vI a), some (vI b), some (vI known), some (vI 0), none, none, none] [] S J Q
  refine v_iconst dX5_moreTrust_3 (in_lit (by decide)) ?_
  refine v_istore dX5_moreTrust_4 (Nat.le_of_ble_eq_true rfl) ?_
  show V w 0 mX5_moreTrust 6 [some (vR 313), some (vI a), some (vI b), some (vI known), some (vI 0), some (vI 0), none, none] [] S J Q
  exact K
theorem gX5_moreTrust_6 {w : Wd} {S : Sh} {J : Jm} {Q : Out → Sh → Jm → Prop} (hL : Lay S) (a : Int) (b : Int) (known : Int) (sum : Int) (h : Nat)
    (K : Br (4 ≤ ((h : Nat) : Int)) (Q (.inl (some (vI sum))) S J) (V w 0 mX5_moreTrust 18 [some (vR 313), some (vI a), some (vI b), some (vI known), some (vI sum), some (vI ((h : Nat) : Int)), some (vI 2), some (vI 0)] [] S J Q)) :
    V w 0 mX5_moreTrust 6 [some (vR 313), some (vI a), some (vI b), some (vI known), some (vI sum), some (vI ((h : Nat) : Int)), none, none] [] S J Q := by
  refine v_iload dX5_moreTrust_6 rfl ?_
  refine v_iconst dX5_moreTrust_8 (in_lit (by decide)) ?_
  obtain ⟨K1, K2⟩ := K
  refine v_icmp_ge 131 dX5_moreTrust_9 (by decide) (fun c => ?_) (fun c => ?_)
  · have K := K1 c
    refine v_iload dX5_moreTrust_131 rfl ?_
    exact v_iret dX5_moreTrust_133 rfl rfl K
  · have K := K2 c
    refine v_iconst dX5_moreTrust_12 (in_lit (by decide)) ?_
    refine v_istore dX5_moreTrust_13 (Nat.le_of_ble_eq_true rfl) ?_
    show V w 0 mX5_moreTrust 15 [some (vR 313), some (vI a), some (vI b), some (vI known), some (vI sum), some (vI ((h : Nat) : Int)), some (vI 2), none] [] S J Q
    refine v_iconst dX5_moreTrust_15 (in_lit (by decide)) ?_
    refine v_istore dX5_moreTrust_16 (Nat.le_of_ble_eq_true rfl) ?_
    show V w 0 mX5_moreTrust 18 [some (vR 313), some (vI a), some (vI b), some (vI known), some (vI sum), some (vI ((h : Nat) : Int)), some (vI 2), some (vI 0)] [] S J Q
    exact K
theorem gX5_moreTrust_18 {w : Wd} {S : Sh} {J : Jm} {Q : Out → Sh → Jm → Prop} (hL : Lay S) (a : Int) (b : Int) (known : Int) (sum : Int) (h : Nat) (v : Int) (k : Nat)
    (K : Br (J 313 25 ≤ ((k : Nat) : Int)) (Br (v = 1) ((((h : Nat) : Int) < 4) ∧ (-2147483648 ≤ sum + (J 326 h) ∧ sum + (J 326 h) ≤ 2147483647) ∧ (-2147483648 ≤ ((h : Nat) : Int) + 1 ∧ ((h : Nat) : Int) + 1 ≤ 2147483647) ∧ V w 0 mX5_moreTrust 6 [some (vR 313), some (vI a), some (vI b), some (vI known), some (vI (sum + (J 326 h))), some (vI ((h + 1 : Nat) : Int)), none, none] [] S J Q) (Br (v = 0) ((((h : Nat) : Int) < 4) ∧ (-2147483648 ≤ -(J 326 h) ∧ -(J 326 h) ≤ 2147483647) ∧ (-2147483648 ≤ sum + (-(J 326 h)) ∧ sum + (-(J 326 h)) ≤ 2147483647) ∧ (-2147483648 ≤ ((h : Nat) : Int) + 1 ∧ ((h : Nat) : Int) + 1 ≤ 2147483647) ∧ V w 0 mX5_moreTrust 6 [some (vR 313), some (vI a), some (vI b), some (vI known), some (vI (sum + (-(J 326 h)))), some (vI ((h + 1 : Nat) : Int)), none, none] [] S J Q) ((-2147483648 ≤ sum + 0 ∧ sum + 0 ≤ 2147483647) ∧ (-2147483648 ≤ ((h : Nat) : Int) + 1 ∧ ((h : Nat) : Int) + 1 ≤ 2147483647) ∧ V w 0 mX5_moreTrust 6 [some (vR 313), some (vI a), some (vI b), some (vI known), some (vI (sum + 0)), some (vI ((h + 1 : Nat) : Int)), none, none] [] S J Q))) ((((k : Nat) : Int) < 200) ∧ Br (J 327 k = ((h : Nat) : Int)) ((((k : Nat) : Int) < 200) ∧ Br (J 328 k = a) ((((k : Nat) : Int) < 200) ∧ Br (J 329 k = b) ((((k : Nat) : Int) < 200) ∧ Br (known < J 331 k) ((-2147483648 ≤ ((k : Nat) : Int) + 1 ∧ ((k : Nat) : Int) + 1 ≤ 2147483647) ∧ V w 0 mX5_moreTrust 18 [some (vR 313), some (vI a), some (vI b), some (vI known), some (vI sum), some (vI ((h : Nat) : Int)), some (vI v), some (vI ((k + 1 : Nat) : Int))] [] S J Q) ((((k : Nat) : Int) < 200) ∧ (-2147483648 ≤ ((k : Nat) : Int) + 1 ∧ ((k : Nat) : Int) + 1 ≤ 2147483647) ∧ V w 0 mX5_moreTrust 18 [some (vR 313), some (vI a), some (vI b), some (vI known), some (vI sum), some (vI ((h : Nat) : Int)), some (vI (J 330 k)), some (vI ((k + 1 : Nat) : Int))] [] S J Q)) ((-2147483648 ≤ ((k : Nat) : Int) + 1 ∧ ((k : Nat) : Int) + 1 ≤ 2147483647) ∧ V w 0 mX5_moreTrust 18 [some (vR 313), some (vI a), some (vI b), some (vI known), some (vI sum), some (vI ((h : Nat) : Int)), some (vI v), some (vI ((k + 1 : Nat) : Int))] [] S J Q)) ((-2147483648 ≤ ((k : Nat) : Int) + 1 ∧ ((k : Nat) : Int) + 1 ≤ 2147483647) ∧ V w 0 mX5_moreTrust 18 [some (vR 313), some (vI a), some (vI b), some (vI known), some (vI sum), some (vI ((h : Nat) : Int)), some (vI v), some (vI ((k + 1 : Nat) : Int))] [] S J Q)) ((-2147483648 ≤ ((k : Nat) : Int) + 1 ∧ ((k : Nat) : Int) + 1 ≤ 2147483647) ∧ V w 0 mX5_moreTrust 18 [some (vR 313), some (vI a), some (vI b), some (vI known), some (vI sum), some (vI ((h : Nat) : Int)), some (vI v), some (vI ((k + 1 : Nat) : Int))] [] S J Q))) :
    V w 0 mX5_moreTrust 18 [some (vR 313), some (vI a), some (vI b), some (vI known), some (vI sum), some (vI ((h : Nat) : Int)), some (vI v), some (vI ((k : Nat) : Int))] [] S J Q := by
  refine v_iload dX5_moreTrust_18 rfl ?_
  refine v_aload_n dX5_moreTrust_20 rfl ?_
  refine v_getI dX5_moreTrust_21 frX5_291_5 rfl rfl (L_313 hL).1 ?_
  obtain ⟨K1, K2⟩ := K
  refine v_icmp_ge 87 dX5_moreTrust_24 (by decide) (fun c => ?_) (fun c => ?_)
  · have K := K1 c
    refine v_iload dX5_moreTrust_87 rfl ?_
    refine v_iload dX5_moreTrust_89 rfl ?_
    refine v_iconst dX5_moreTrust_91 (in_lit (by decide)) ?_
    obtain ⟨K1, K2⟩ := K
    refine v_icmp_ne 105 dX5_moreTrust_92 (by decide) (fun c => ?_) (fun c => ?_)
    · have K := K2 c
      refine v_iload dX5_moreTrust_105 rfl ?_
      obtain ⟨K1, K2⟩ := K
      refine v_if_ne 121 dX5_moreTrust_107 (by decide) (fun c => ?_) (fun c => ?_)
      · have K := K2 c
        refine v_iconst dX5_moreTrust_121 (in_lit (by decide)) ?_
        obtain ⟨o1, K⟩ := K
        refine v_iadd dX5_moreTrust_122 o1 ?_
        refine v_istore dX5_moreTrust_123 (Nat.le_of_ble_eq_true rfl) ?_
        show V w 0 mX5_moreTrust 125 [some (vR 313), some (vI a), some (vI b), some (vI known), some (vI (sum + 0)), some (vI ((h : Nat) : Int)), some (vI v), some (vI ((k : Nat) : Int))] [] S J Q
        obtain ⟨o2, K⟩ := K
        refine v_iinc dX5_moreTrust_125 rfl o2 ?_
        show V w 0 mX5_moreTrust 128 [some (vR 313), some (vI a), some (vI b), some (vI known), some (vI (sum + 0)), some (vI ((h + 1 : Nat) : Int)), some (vI v), some (vI ((k : Nat) : Int))] [] S J Q
        refine v_goto 6 dX5_moreTrust_128 (by decide) ?_
        exact v_forget (fg_some (fg_some (fg_some (fg_some (fg_some (fg_some (fg_none (fg_none fg_nil)))))))) K
      · have K := K1 c
        refine v_aload_n dX5_moreTrust_110 rfl ?_
        refine v_getR dX5_moreTrust_111 frX5_54_5 rfl (L_313 hL).1 (LR_313_24 hL) (Or.inl rfl) ?_
        refine v_iload dX5_moreTrust_114 rfl ?_
        obtain ⟨o3, K⟩ := K
        refine ld_326 dX5_moreTrust_116 hL (by omega) o3 ?_
        show V w 0 mX5_moreTrust 117 [some (vR 313), some (vI a), some (vI b), some (vI known), some (vI sum), some (vI ((h : Nat) : Int)), some (vI v), some (vI ((k : Nat) : Int))] [vI (J 326 h), vI sum] S J Q
        obtain ⟨o4, K⟩ := K
        refine v_ineg dX5_moreTrust_117 o4 ?_
        refine v_goto 122 dX5_moreTrust_118 (by decide) ?_
        obtain ⟨o5, K⟩ := K
        refine v_iadd dX5_moreTrust_122 o5 ?_
        refine v_istore dX5_moreTrust_123 (Nat.le_of_ble_eq_true rfl) ?_
        show V w 0 mX5_moreTrust 125 [some (vR 313), some (vI a), some (vI b), some (vI known), some (vI (sum + (-(J 326 h)))), some (vI ((h : Nat) : Int)), some (vI v), some (vI ((k : Nat) : Int))] [] S J Q
        obtain ⟨o6, K⟩ := K
        refine v_iinc dX5_moreTrust_125 rfl o6 ?_
        show V w 0 mX5_moreTrust 128 [some (vR 313), some (vI a), some (vI b), some (vI known), some (vI (sum + (-(J 326 h)))), some (vI ((h + 1 : Nat) : Int)), some (vI v), some (vI ((k : Nat) : Int))] [] S J Q
        refine v_goto 6 dX5_moreTrust_128 (by decide) ?_
        exact v_forget (fg_some (fg_some (fg_some (fg_some (fg_some (fg_some (fg_none (fg_none fg_nil)))))))) K
    · have K := K1 c
      refine v_aload_n dX5_moreTrust_95 rfl ?_
      refine v_getR dX5_moreTrust_96 frX5_54_5 rfl (L_313 hL).1 (LR_313_24 hL) (Or.inl rfl) ?_
      refine v_iload dX5_moreTrust_99 rfl ?_
      obtain ⟨o7, K⟩ := K
      refine ld_326 dX5_moreTrust_101 hL (by omega) o7 ?_
      show V w 0 mX5_moreTrust 102 [some (vR 313), some (vI a), some (vI b), some (vI known), some (vI sum), some (vI ((h : Nat) : Int)), some (vI v), some (vI ((k : Nat) : Int))] [vI (J 326 h), vI sum] S J Q
      refine v_goto 122 dX5_moreTrust_102 (by decide) ?_
      obtain ⟨o8, K⟩ := K
      refine v_iadd dX5_moreTrust_122 o8 ?_
      refine v_istore dX5_moreTrust_123 (Nat.le_of_ble_eq_true rfl) ?_
      show V w 0 mX5_moreTrust 125 [some (vR 313), some (vI a), some (vI b), some (vI known), some (vI (sum + (J 326 h))), some (vI ((h : Nat) : Int)), some (vI v), some (vI ((k : Nat) : Int))] [] S J Q
      obtain ⟨o9, K⟩ := K
      refine v_iinc dX5_moreTrust_125 rfl o9 ?_
      show V w 0 mX5_moreTrust 128 [some (vR 313), some (vI a), some (vI b), some (vI known), some (vI (sum + (J 326 h))), some (vI ((h + 1 : Nat) : Int)), some (vI v), some (vI ((k : Nat) : Int))] [] S J Q
      refine v_goto 6 dX5_moreTrust_128 (by decide) ?_
      exact v_forget (fg_some (fg_some (fg_some (fg_some (fg_some (fg_some (fg_none (fg_none fg_nil)))))))) K
  · have K := K2 c
    refine v_aload_n dX5_moreTrust_27 rfl ?_
    refine v_getR dX5_moreTrust_28 frX5_57_5 rfl (L_313 hL).1 (LR_313_26 hL) (Or.inl rfl) ?_
    refine v_iload dX5_moreTrust_31 rfl ?_
    obtain ⟨o10, K⟩ := K
    refine ld_327 dX5_moreTrust_33 hL (by omega) o10 ?_
    show V w 0 mX5_moreTrust 34 [some (vR 313), some (vI a), some (vI b), some (vI known), some (vI sum), some (vI ((h : Nat) : Int)), some (vI v), some (vI ((k : Nat) : Int))] [vI (J 327 k)] S J Q
    refine v_iload dX5_moreTrust_34 rfl ?_
    obtain ⟨K1, K2⟩ := K
    refine v_icmp_ne 81 dX5_moreTrust_36 (by decide) (fun c => ?_) (fun c => ?_)
    · have K := K2 c
      obtain ⟨o11, K⟩ := K
      refine v_iinc dX5_moreTrust_81 rfl o11 ?_
      show V w 0 mX5_moreTrust 84 [some (vR 313), some (vI a), some (vI b), some (vI known), some (vI sum), some (vI ((h : Nat) : Int)), some (vI v), some (vI ((k + 1 : Nat) : Int))] [] S J Q
      refine v_goto 18 dX5_moreTrust_84 (by decide) ?_
      exact K
    · have K := K1 c
      refine v_aload_n dX5_moreTrust_39 rfl ?_
      refine v_getR dX5_moreTrust_40 frX5_60_5 rfl (L_313 hL).1 (LR_313_27 hL) (Or.inl rfl) ?_
      refine v_iload dX5_moreTrust_43 rfl ?_
      obtain ⟨o12, K⟩ := K
      refine ld_328 dX5_moreTrust_45 hL (by omega) o12 ?_
      show V w 0 mX5_moreTrust 46 [some (vR 313), some (vI a), some (vI b), some (vI known), some (vI sum), some (vI ((h : Nat) : Int)), some (vI v), some (vI ((k : Nat) : Int))] [vI (J 328 k)] S J Q
      refine v_iload_n dX5_moreTrust_46 rfl ?_
      obtain ⟨K1, K2⟩ := K
      refine v_icmp_ne 81 dX5_moreTrust_47 (by decide) (fun c => ?_) (fun c => ?_)
      · have K := K2 c
        obtain ⟨o13, K⟩ := K
        refine v_iinc dX5_moreTrust_81 rfl o13 ?_
        show V w 0 mX5_moreTrust 84 [some (vR 313), some (vI a), some (vI b), some (vI known), some (vI sum), some (vI ((h : Nat) : Int)), some (vI v), some (vI ((k + 1 : Nat) : Int))] [] S J Q
        refine v_goto 18 dX5_moreTrust_84 (by decide) ?_
        exact K
      · have K := K1 c
        refine v_aload_n dX5_moreTrust_50 rfl ?_
        refine v_getR dX5_moreTrust_51 frX5_63_5 rfl (L_313 hL).1 (LR_313_28 hL) (Or.inl rfl) ?_
        refine v_iload dX5_moreTrust_54 rfl ?_
        obtain ⟨o14, K⟩ := K
        refine ld_329 dX5_moreTrust_56 hL (by omega) o14 ?_
        show V w 0 mX5_moreTrust 57 [some (vR 313), some (vI a), some (vI b), some (vI known), some (vI sum), some (vI ((h : Nat) : Int)), some (vI v), some (vI ((k : Nat) : Int))] [vI (J 329 k)] S J Q
        refine v_iload_n dX5_moreTrust_57 rfl ?_
        obtain ⟨K1, K2⟩ := K
        refine v_icmp_ne 81 dX5_moreTrust_58 (by decide) (fun c => ?_) (fun c => ?_)
        · have K := K2 c
          obtain ⟨o15, K⟩ := K
          refine v_iinc dX5_moreTrust_81 rfl o15 ?_
          show V w 0 mX5_moreTrust 84 [some (vR 313), some (vI a), some (vI b), some (vI known), some (vI sum), some (vI ((h : Nat) : Int)), some (vI v), some (vI ((k + 1 : Nat) : Int))] [] S J Q
          refine v_goto 18 dX5_moreTrust_84 (by decide) ?_
          exact K
        · have K := K1 c
          refine v_aload_n dX5_moreTrust_61 rfl ?_
          refine v_getR dX5_moreTrust_62 frX5_69_5 rfl (L_313 hL).1 (LR_313_30 hL) (Or.inl rfl) ?_
          refine v_iload dX5_moreTrust_65 rfl ?_
          obtain ⟨o16, K⟩ := K
          refine ld_331 dX5_moreTrust_67 hL (by omega) o16 ?_
          show V w 0 mX5_moreTrust 68 [some (vR 313), some (vI a), some (vI b), some (vI known), some (vI sum), some (vI ((h : Nat) : Int)), some (vI v), some (vI ((k : Nat) : Int))] [vI (J 331 k)] S J Q
          refine v_iload_n dX5_moreTrust_68 rfl ?_
          obtain ⟨K1, K2⟩ := K
          refine v_icmp_gt 81 dX5_moreTrust_69 (by decide) (fun c => ?_) (fun c => ?_)
          · have K := K1 c
            obtain ⟨o17, K⟩ := K
            refine v_iinc dX5_moreTrust_81 rfl o17 ?_
            show V w 0 mX5_moreTrust 84 [some (vR 313), some (vI a), some (vI b), some (vI known), some (vI sum), some (vI ((h : Nat) : Int)), some (vI v), some (vI ((k + 1 : Nat) : Int))] [] S J Q
            refine v_goto 18 dX5_moreTrust_84 (by decide) ?_
            exact K
          · have K := K2 c
            refine v_aload_n dX5_moreTrust_72 rfl ?_
            refine v_getR dX5_moreTrust_73 frX5_66_5 rfl (L_313 hL).1 (LR_313_29 hL) (Or.inl rfl) ?_
            refine v_iload dX5_moreTrust_76 rfl ?_
            obtain ⟨o18, K⟩ := K
            refine ld_330 dX5_moreTrust_78 hL (by omega) o18 ?_
            show V w 0 mX5_moreTrust 79 [some (vR 313), some (vI a), some (vI b), some (vI known), some (vI sum), some (vI ((h : Nat) : Int)), some (vI v), some (vI ((k : Nat) : Int))] [vI (J 330 k)] S J Q
            refine v_istore dX5_moreTrust_79 (Nat.le_of_ble_eq_true rfl) ?_
            show V w 0 mX5_moreTrust 81 [some (vR 313), some (vI a), some (vI b), some (vI known), some (vI sum), some (vI ((h : Nat) : Int)), some (vI (J 330 k)), some (vI ((k : Nat) : Int))] [] S J Q
            obtain ⟨o19, K⟩ := K
            refine v_iinc dX5_moreTrust_81 rfl o19 ?_
            show V w 0 mX5_moreTrust 84 [some (vR 313), some (vI a), some (vI b), some (vI known), some (vI sum), some (vI ((h : Nat) : Int)), some (vI (J 330 k)), some (vI ((k + 1 : Nat) : Int))] [] S J Q
            refine v_goto 18 dX5_moreTrust_84 (by decide) ?_
            exact K

/-- what the hands hold: how many, trusts, who holds which two for what -/
def MHeld (J : Jm) : Prop := (0 ≤ J 313 25 ∧ J 313 25 ≤ 200) ∧ (∀ h : Nat, h < 4 → 0 ≤ J 326 h ∧ J 326 h ≤ 99) ∧ (∀ k : Nat, (k : Int) < J 313 25 → (0 ≤ J 327 k ∧ J 327 k ≤ 3) ∧ (0 ≤ J 328 k ∧ J 328 k < J 329 k ∧ J 329 k < 40) ∧ 0 ≤ J 330 k ∧ J 330 k ≤ 2)
/-- what a hand holds two for, by the first k entries -/
def mtV (J : Jm) (h : Nat) (a b known : Int) : Nat → Int
  | 0 => 2
  | k + 1 => if J 327 k = h ∧ J 328 k = a ∧ J 329 k = b ∧ J 331 k ≤ known then J 330 k else mtV J h a b known k
def mtT (J : Jm) (h : Nat) (v : Int) : Int := if v = 1 then J 326 h else if v = 0 then -(J 326 h) else 0
def mtS (J : Jm) (a b known : Int) : Nat → Int
  | 0 => 0
  | h + 1 => mtS J a b known h + mtT J h (mtV J h a b known (J 313 25).toNat)
theorem mtS_in {J : Jm} (hM : MHeld J) (a b known : Int) : ∀ h : Nat, h ≤ 4 → -99 * (h : Int) ≤ mtS J a b known h ∧ mtS J a b known h ≤ 99 * (h : Int)
  | 0, _ => by simp [mtS]
  | h + 1, hh => by
    have ih := mtS_in hM a b known h (by omega)
    have ht := hM.2.1 h (by omega)
    unfold mtS mtT
    push_cast
    split
    · omega
    · split <;> omega
theorem s_moreTrust {w : Wd} {S : Sh} {J : Jm} {Q : Out → Sh → Jm → Prop} (hL : Lay S) (a b known : Int) (hM : MHeld J) (K : Q (.inl (some (vI (mtS J a b known 4)))) S J) : V w 0 mX5_moreTrust 0 (ent mX5_moreTrust [vR 313, vI a, vI b, vI known]) [] S J Q := by
  refine gX5_moreTrust_0 hL a b known ?_
  obtain ⟨hH, hT, hK⟩ := id hM
  have outer : ∀ (n h : Nat), h + n = 4 → V w 0 mX5_moreTrust 6 [some (vR 313), some (vI a), some (vI b), some (vI known), some (vI (mtS J a b known h)), some (vI (h : Int)), none, none] [] S J Q := by
    intro n
    induction n with
    | zero =>
      intro h hh
      obtain rfl : h = 4 := by omega
      exact gX5_moreTrust_6 hL a b known _ 4 (br_y (by omega) K)
    | succ n ih =>
      intro h hh
      refine gX5_moreTrust_6 hL a b known _ h (br_n (by omega) ?_)
      have hs := mtS_in hM a b known h (by omega)
      have ht := hT h (by omega)
      have inner : ∀ (m k : Nat), (k : Int) + m = J 313 25 → V w 0 mX5_moreTrust 18 [some (vR 313), some (vI a), some (vI b), some (vI known), some (vI (mtS J a b known h)), some (vI (h : Int)), some (vI (mtV J h a b known k)), some (vI (k : Int))] [] S J Q := by
        intro m
        induction m with
        | zero =>
          intro k hk
          have ek : (J 313 25).toNat = k := by omega
          have ih1 := ih (h + 1) (by omega)
          have e1 : mtS J a b known (h + 1) = mtS J a b known h + mtT J h (mtV J h a b known k) := by rw [mtS, ek]
          rw [e1] at ih1
          refine gX5_moreTrust_18 hL a b known _ h _ k (br_y (by omega) ?_)
          unfold mtT at ih1
          refine br_i (fun c => ?_) (fun c => ?_)
          · rw [if_pos c] at ih1
            exact ⟨by omega, by omega, by omega, ih1⟩
          · rw [if_neg c] at ih1
            refine br_i (fun c => ?_) (fun c => ?_)
            · rw [if_pos c] at ih1
              exact ⟨by omega, by omega, by omega, by omega, ih1⟩
            · rw [if_neg c] at ih1
              exact ⟨by omega, by omega, ih1⟩
        | succ m ihm =>
          intro k hk
          have ih1 := ihm (k + 1) (by omega)
          rw [mtV] at ih1
          refine gX5_moreTrust_18 hL a b known _ h _ k (br_n (by omega) ?_)
          repeat' (first | refine br_i (fun hb => ?_) (fun hb => ?_) | refine And.intro (by omega) ?_)
          all_goals first
            | (rw [if_pos (by refine ⟨?_, ?_, ?_, ?_⟩ <;> omega)] at ih1; exact ih1)
            | (rw [if_neg (by omega)] at ih1; exact ih1)
      exact inner (J 313 25).toNat 0 (by omega)
  exact outer 4 0 rfl
theorem gX5_findStands_0 {w : Wd} {S : Sh} {J : Jm} {Q : Out → Sh → Jm → Prop} (hL : Lay S) (known : Int)
    (K : V w 1 mX5_findStands 2 [some (vR 313), some (vI known), some (vI 0), none, none, none] [] S J Q) :
    V w 1 mX5_findStands 0 (ent mX5_findStands [vR 313, vI known]) [] S J Q := by
  show V w 1 mX5_findStands 0 [some (vR 313), some (vI known), none, none, none, none] [] S J Q
  refine v_iconst dX5_findStands_0 (in_lit (by decide)) ?_
  refine v_istore_n dX5_findStands_1 (Nat.le_of_ble_eq_true rfl) ?_
  show V w 1 mX5_findStands 2 [some (vR 313), some (vI known), some (vI 0), none, none, none] [] S J Q
  exact K
theorem gX5_findStands_2 {w : Wd} {S : Sh} {J : Jm} {Q : Out → Sh → Jm → Prop} (hL : Lay S) (known : Int) (s : Nat)
    (K : Br (40 ≤ ((s : Nat) : Int)) (V w 1 mX5_findStands 23 [some (vR 313), some (vI known), some (vI 0), none, none, none] [] S J Q) ((((s : Nat) : Int) < 40) ∧ (-2147483648 ≤ ((s : Nat) : Int) + 1 ∧ ((s : Nat) : Int) + 1 ≤ 2147483647) ∧ V w 1 mX5_findStands 2 [some (vR 313), some (vI known), some (vI ((s + 1 : Nat) : Int)), none, none, none] [] S (up J 332 s ((s : Nat) : Int)) Q)) :
    V w 1 mX5_findStands 2 [some (vR 313), some (vI known), some (vI ((s : Nat) : Int)), none, none, none] [] S J Q := by
  refine v_iload_n dX5_findStands_2 rfl ?_
  refine v_bipush dX5_findStands_3 (by decide) (in_lit (by decide)) ?_
  obtain ⟨K1, K2⟩ := K
  refine v_icmp_ge 21 dX5_findStands_5 (by decide) (fun c => ?_) (fun c => ?_)
  · have K := K1 c
    refine v_iconst dX5_findStands_21 (in_lit (by decide)) ?_
    refine v_istore_n dX5_findStands_22 (Nat.le_of_ble_eq_true rfl) ?_
    show V w 1 mX5_findStands 23 [some (vR 313), some (vI known), some (vI 0), none, none, none] [] S J Q
    exact K
  · have K := K2 c
    refine v_aload_n dX5_findStands_8 rfl ?_
    refine v_getR dX5_findStands_9 frX5_72_5 rfl (L_313 hL).1 (LR_313_31 hL) (Or.inl rfl) ?_
    refine v_iload_n dX5_findStands_12 rfl ?_
    refine v_iload_n dX5_findStands_13 rfl ?_
    obtain ⟨o1, K⟩ := K
    refine st_332 dX5_findStands_14 hL (by omega) o1 ?_
    show V w 1 mX5_findStands 15 [some (vR 313), some (vI known), some (vI ((s : Nat) : Int)), none, none, none] [] S (up J 332 s ((s : Nat) : Int)) Q
    obtain ⟨o2, K⟩ := K
    refine v_iinc dX5_findStands_15 rfl o2 ?_
    show V w 1 mX5_findStands 18 [some (vR 313), some (vI known), some (vI ((s + 1 : Nat) : Int)), none, none, none] [] S (up J 332 s ((s : Nat) : Int)) Q
    refine v_goto 2 dX5_findStands_18 (by decide) ?_
    exact K
theorem gX5_findStands_23 {w : Wd} {S : Sh} {J : Jm} {Q : Out → Sh → Jm → Prop} (hL : Lay S) (known : Int) (k : Nat)
    (K : Br (J 313 25 ≤ ((k : Nat) : Int)) (Q (.inl none) S J) ((((k : Nat) : Int) < 200) ∧ (0 ≤ J 328 k) ∧ (J 328 k < 40) ∧ (((k : Nat) : Int) < 200) ∧ (0 ≤ J 329 k) ∧ (J 329 k < 40) ∧ Br (J 332 (J 328 k).toNat = J 332 (J 329 k).toNat) ((-2147483648 ≤ ((k : Nat) : Int) + 1 ∧ ((k : Nat) : Int) + 1 ≤ 2147483647) ∧ V w 1 mX5_findStands 23 [some (vR 313), some (vI known), some (vI ((k + 1 : Nat) : Int)), none, none, none] [] S J Q) ((((k : Nat) : Int) < 200) ∧ (((k : Nat) : Int) < 200) ∧ (MHeld J) ∧ Br (0 < mtS J (J 328 k) (J 329 k) known 4) (V w 1 mX5_findStands 88 [some (vR 313), some (vI known), some (vI ((k : Nat) : Int)), some (vI (J 332 (J 328 k).toNat)), some (vI (J 332 (J 329 k).toNat)), some (vI 0)] [] S J Q) ((-2147483648 ≤ ((k : Nat) : Int) + 1 ∧ ((k : Nat) : Int) + 1 ≤ 2147483647) ∧ V w 1 mX5_findStands 23 [some (vR 313), some (vI known), some (vI ((k + 1 : Nat) : Int)), none, none, none] [] S J Q)))) :
    V w 1 mX5_findStands 23 [some (vR 313), some (vI known), some (vI ((k : Nat) : Int)), none, none, none] [] S J Q := by
  refine v_iload_n dX5_findStands_23 rfl ?_
  refine v_aload_n dX5_findStands_24 rfl ?_
  refine v_getI dX5_findStands_25 frX5_291_5 rfl rfl (L_313 hL).1 ?_
  obtain ⟨K1, K2⟩ := K
  refine v_icmp_ge 149 dX5_findStands_28 (by decide) (fun c => ?_) (fun c => ?_)
  · have K := K1 c
    exact v_vret dX5_findStands_149 rfl K
  · have K := K2 c
    refine v_aload_n dX5_findStands_31 rfl ?_
    refine v_getR dX5_findStands_32 frX5_72_5 rfl (L_313 hL).1 (LR_313_31 hL) (Or.inl rfl) ?_
    refine v_aload_n dX5_findStands_35 rfl ?_
    refine v_getR dX5_findStands_36 frX5_60_5 rfl (L_313 hL).1 (LR_313_27 hL) (Or.inl rfl) ?_
    refine v_iload_n dX5_findStands_39 rfl ?_
    obtain ⟨o1, K⟩ := K
    refine ld_328 dX5_findStands_40 hL (by omega) o1 ?_
    show V w 1 mX5_findStands 41 [some (vR 313), some (vI known), some (vI ((k : Nat) : Int)), none, none, none] [vI (J 328 k), vR 332] S J Q
    obtain ⟨o2, K⟩ := K
    obtain ⟨o3, K⟩ := K
    refine ld_332 dX5_findStands_41 hL o2 o3 ?_
    refine v_istore_n dX5_findStands_42 (Nat.le_of_ble_eq_true rfl) ?_
    show V w 1 mX5_findStands 43 [some (vR 313), some (vI known), some (vI ((k : Nat) : Int)), some (vI (J 332 (J 328 k).toNat)), none, none] [] S J Q
    refine v_aload_n dX5_findStands_43 rfl ?_
    refine v_getR dX5_findStands_44 frX5_72_5 rfl (L_313 hL).1 (LR_313_31 hL) (Or.inl rfl) ?_
    refine v_aload_n dX5_findStands_47 rfl ?_
    refine v_getR dX5_findStands_48 frX5_63_5 rfl (L_313 hL).1 (LR_313_28 hL) (Or.inl rfl) ?_
    refine v_iload_n dX5_findStands_51 rfl ?_
    obtain ⟨o4, K⟩ := K
    refine ld_329 dX5_findStands_52 hL (by omega) o4 ?_
    show V w 1 mX5_findStands 53 [some (vR 313), some (vI known), some (vI ((k : Nat) : Int)), some (vI (J 332 (J 328 k).toNat)), none, none] [vI (J 329 k), vR 332] S J Q
    obtain ⟨o5, K⟩ := K
    obtain ⟨o6, K⟩ := K
    refine ld_332 dX5_findStands_53 hL o5 o6 ?_
    refine v_istore dX5_findStands_54 (Nat.le_of_ble_eq_true rfl) ?_
    show V w 1 mX5_findStands 56 [some (vR 313), some (vI known), some (vI ((k : Nat) : Int)), some (vI (J 332 (J 328 k).toNat)), some (vI (J 332 (J 329 k).toNat)), none] [] S J Q
    refine v_iload_n dX5_findStands_56 rfl ?_
    refine v_iload dX5_findStands_57 rfl ?_
    obtain ⟨K1, K2⟩ := K
    refine v_icmp_eq 143 dX5_findStands_59 (by decide) (fun c => ?_) (fun c => ?_)
    · have K := K1 c
      obtain ⟨o7, K⟩ := K
      refine v_iinc dX5_findStands_143 rfl o7 ?_
      show V w 1 mX5_findStands 146 [some (vR 313), some (vI known), some (vI ((k + 1 : Nat) : Int)), some (vI (J 332 (J 328 k).toNat)), some (vI (J 332 (J 329 k).toNat)), none] [] S J Q
      refine v_goto 23 dX5_findStands_146 (by decide) ?_
      exact v_forget (fg_some (fg_some (fg_some (fg_none (fg_none (fg_none fg_nil)))))) K
    · have K := K2 c
      refine v_aload_n dX5_findStands_62 rfl ?_
      refine v_aload_n dX5_findStands_63 rfl ?_
      refine v_getR dX5_findStands_64 frX5_60_5 rfl (L_313 hL).1 (LR_313_27 hL) (Or.inl rfl) ?_
      refine v_iload_n dX5_findStands_67 rfl ?_
      obtain ⟨o8, K⟩ := K
      refine ld_328 dX5_findStands_68 hL (by omega) o8 ?_
      show V w 1 mX5_findStands 69 [some (vR 313), some (vI known), some (vI ((k : Nat) : Int)), some (vI (J 332 (J 328 k).toNat)), some (vI (J 332 (J 329 k).toNat)), none] [vI (J 328 k), vR 313] S J Q
      refine v_aload_n dX5_findStands_69 rfl ?_
      refine v_getR dX5_findStands_70 frX5_63_5 rfl (L_313 hL).1 (LR_313_28 hL) (Or.inl rfl) ?_
      refine v_iload_n dX5_findStands_73 rfl ?_
      obtain ⟨o9, K⟩ := K
      refine ld_329 dX5_findStands_74 hL (by omega) o9 ?_
      show V w 1 mX5_findStands 75 [some (vR 313), some (vI known), some (vI ((k : Nat) : Int)), some (vI (J 332 (J 328 k).toNat)), some (vI (J 332 (J 329 k).toNat)), none] [vI (J 329 k), vI (J 328 k), vR 313] S J Q
      refine v_iload_n dX5_findStands_75 rfl ?_
      refine v_callV (d' := 0) (rest := []) [vI (J 328 k), vI (J 329 k), vI known] dX5_findStands_76 vrX5_294_5 (L_313 hL).1 rfl rfl (one_I (one_I (one_I one_nil))) (Nat.le_of_ble_eq_true rfl) (Nat.le_of_ble_eq_true rfl) (Nat.le_of_ble_eq_true rfl) ?_
      obtain ⟨o10, K⟩ := K
      refine s_moreTrust hL (J 328 k) (J 329 k) known o10 ?_
      show V w 1 mX5_findStands 79 [some (vR 313), some (vI known), some (vI ((k : Nat) : Int)), some (vI (J 332 (J 328 k).toNat)), some (vI (J 332 (J 329 k).toNat)), none] [vI (mtS J (J 328 k) (J 329 k) known 4)] S J Q
      obtain ⟨K1, K2⟩ := K
      refine v_if_gt 85 dX5_findStands_79 (by decide) (fun c => ?_) (fun c => ?_)
      · have K := K1 c
        refine v_iconst dX5_findStands_85 (in_lit (by decide)) ?_
        refine v_istore dX5_findStands_86 (Nat.le_of_ble_eq_true rfl) ?_
        show V w 1 mX5_findStands 88 [some (vR 313), some (vI known), some (vI ((k : Nat) : Int)), some (vI (J 332 (J 328 k).toNat)), some (vI (J 332 (J 329 k).toNat)), some (vI 0)] [] S J Q
        exact K
      · have K := K2 c
        refine v_goto 143 dX5_findStands_82 (by decide) ?_
        obtain ⟨o11, K⟩ := K
        refine v_iinc dX5_findStands_143 rfl o11 ?_
        show V w 1 mX5_findStands 146 [some (vR 313), some (vI known), some (vI ((k + 1 : Nat) : Int)), some (vI (J 332 (J 328 k).toNat)), some (vI (J 332 (J 329 k).toNat)), none] [] S J Q
        refine v_goto 23 dX5_findStands_146 (by decide) ?_
        exact v_forget (fg_some (fg_some (fg_some (fg_none (fg_none (fg_none fg_nil)))))) K
theorem gX5_findStands_88 {w : Wd} {S : Sh} {J : Jm} {Q : Out → Sh → Jm → Prop} (hL : Lay S) (known : Int) (k : Nat) (a : Int) (b : Int) (s : Nat)
    (K : Br (40 ≤ ((s : Nat) : Int)) ((-2147483648 ≤ ((k : Nat) : Int) + 1 ∧ ((k : Nat) : Int) + 1 ≤ 2147483647) ∧ V w 1 mX5_findStands 23 [some (vR 313), some (vI known), some (vI ((k + 1 : Nat) : Int)), none, none, none] [] S J Q) ((((s : Nat) : Int) < 40) ∧ Br (J 332 s = a) (Br (b ≤ a) ((((s : Nat) : Int) < 40) ∧ (-2147483648 ≤ ((s : Nat) : Int) + 1 ∧ ((s : Nat) : Int) + 1 ≤ 2147483647) ∧ V w 1 mX5_findStands 88 [some (vR 313), some (vI known), some (vI ((k : Nat) : Int)), some (vI a), some (vI b), some (vI ((s + 1 : Nat) : Int))] [] S (up J 332 s b) Q) ((((s : Nat) : Int) < 40) ∧ (-2147483648 ≤ ((s : Nat) : Int) + 1 ∧ ((s : Nat) : Int) + 1 ≤ 2147483647) ∧ V w 1 mX5_findStands 88 [some (vR 313), some (vI known), some (vI ((k : Nat) : Int)), some (vI a), some (vI b), some (vI ((s + 1 : Nat) : Int))] [] S (up J 332 s a) Q)) ((((s : Nat) : Int) < 40) ∧ Br (J 332 s = b) (Br (b ≤ a) ((((s : Nat) : Int) < 40) ∧ (-2147483648 ≤ ((s : Nat) : Int) + 1 ∧ ((s : Nat) : Int) + 1 ≤ 2147483647) ∧ V w 1 mX5_findStands 88 [some (vR 313), some (vI known), some (vI ((k : Nat) : Int)), some (vI a), some (vI b), some (vI ((s + 1 : Nat) : Int))] [] S (up J 332 s b) Q) ((((s : Nat) : Int) < 40) ∧ (-2147483648 ≤ ((s : Nat) : Int) + 1 ∧ ((s : Nat) : Int) + 1 ≤ 2147483647) ∧ V w 1 mX5_findStands 88 [some (vR 313), some (vI known), some (vI ((k : Nat) : Int)), some (vI a), some (vI b), some (vI ((s + 1 : Nat) : Int))] [] S (up J 332 s a) Q)) ((-2147483648 ≤ ((s : Nat) : Int) + 1 ∧ ((s : Nat) : Int) + 1 ≤ 2147483647) ∧ V w 1 mX5_findStands 88 [some (vR 313), some (vI known), some (vI ((k : Nat) : Int)), some (vI a), some (vI b), some (vI ((s + 1 : Nat) : Int))] [] S J Q)))) :
    V w 1 mX5_findStands 88 [some (vR 313), some (vI known), some (vI ((k : Nat) : Int)), some (vI a), some (vI b), some (vI ((s : Nat) : Int))] [] S J Q := by
  refine v_iload dX5_findStands_88 rfl ?_
  refine v_bipush dX5_findStands_90 (by decide) (in_lit (by decide)) ?_
  obtain ⟨K1, K2⟩ := K
  refine v_icmp_ge 143 dX5_findStands_92 (by decide) (fun c => ?_) (fun c => ?_)
  · have K := K1 c
    obtain ⟨o1, K⟩ := K
    refine v_iinc dX5_findStands_143 rfl o1 ?_
    show V w 1 mX5_findStands 146 [some (vR 313), some (vI known), some (vI ((k + 1 : Nat) : Int)), some (vI a), some (vI b), some (vI ((s : Nat) : Int))] [] S J Q
    refine v_goto 23 dX5_findStands_146 (by decide) ?_
    exact v_forget (fg_some (fg_some (fg_some (fg_none (fg_none (fg_none fg_nil)))))) K
  · have K := K2 c
    refine v_aload_n dX5_findStands_95 rfl ?_
    refine v_getR dX5_findStands_96 frX5_72_5 rfl (L_313 hL).1 (LR_313_31 hL) (Or.inl rfl) ?_
    refine v_iload dX5_findStands_99 rfl ?_
    obtain ⟨o2, K⟩ := K
    refine ld_332 dX5_findStands_101 hL (by omega) o2 ?_
    show V w 1 mX5_findStands 102 [some (vR 313), some (vI known), some (vI ((k : Nat) : Int)), some (vI a), some (vI b), some (vI ((s : Nat) : Int))] [vI (J 332 s)] S J Q
    refine v_iload_n dX5_findStands_102 rfl ?_
    obtain ⟨K1, K2⟩ := K
    refine v_icmp_eq 118 dX5_findStands_103 (by decide) (fun c => ?_) (fun c => ?_)
    · have K := K1 c
      refine v_aload_n dX5_findStands_118 rfl ?_
      refine v_getR dX5_findStands_119 frX5_72_5 rfl (L_313 hL).1 (LR_313_31 hL) (Or.inl rfl) ?_
      refine v_iload dX5_findStands_122 rfl ?_
      refine v_iload_n dX5_findStands_124 rfl ?_
      refine v_iload dX5_findStands_125 rfl ?_
      obtain ⟨K1, K2⟩ := K
      refine v_icmp_ge 134 dX5_findStands_127 (by decide) (fun c => ?_) (fun c => ?_)
      · have K := K1 c
        refine v_iload dX5_findStands_134 rfl ?_
        obtain ⟨o3, K⟩ := K
        refine st_332 dX5_findStands_136 hL (by omega) o3 ?_
        show V w 1 mX5_findStands 137 [some (vR 313), some (vI known), some (vI ((k : Nat) : Int)), some (vI a), some (vI b), some (vI ((s : Nat) : Int))] [] S (up J 332 s b) Q
        obtain ⟨o4, K⟩ := K
        refine v_iinc dX5_findStands_137 rfl o4 ?_
        show V w 1 mX5_findStands 140 [some (vR 313), some (vI known), some (vI ((k : Nat) : Int)), some (vI a), some (vI b), some (vI ((s + 1 : Nat) : Int))] [] S (up J 332 s b) Q
        refine v_goto 88 dX5_findStands_140 (by decide) ?_
        exact K
      · have K := K2 c
        refine v_iload_n dX5_findStands_130 rfl ?_
        refine v_goto 136 dX5_findStands_131 (by decide) ?_
        obtain ⟨o5, K⟩ := K
        refine st_332 dX5_findStands_136 hL (by omega) o5 ?_
        show V w 1 mX5_findStands 137 [some (vR 313), some (vI known), some (vI ((k : Nat) : Int)), some (vI a), some (vI b), some (vI ((s : Nat) : Int))] [] S (up J 332 s a) Q
        obtain ⟨o6, K⟩ := K
        refine v_iinc dX5_findStands_137 rfl o6 ?_
        show V w 1 mX5_findStands 140 [some (vR 313), some (vI known), some (vI ((k : Nat) : Int)), some (vI a), some (vI b), some (vI ((s + 1 : Nat) : Int))] [] S (up J 332 s a) Q
        refine v_goto 88 dX5_findStands_140 (by decide) ?_
        exact K
    · have K := K2 c
      refine v_aload_n dX5_findStands_106 rfl ?_
      refine v_getR dX5_findStands_107 frX5_72_5 rfl (L_313 hL).1 (LR_313_31 hL) (Or.inl rfl) ?_
      refine v_iload dX5_findStands_110 rfl ?_
      obtain ⟨o7, K⟩ := K
      refine ld_332 dX5_findStands_112 hL (by omega) o7 ?_
      show V w 1 mX5_findStands 113 [some (vR 313), some (vI known), some (vI ((k : Nat) : Int)), some (vI a), some (vI b), some (vI ((s : Nat) : Int))] [vI (J 332 s)] S J Q
      refine v_iload dX5_findStands_113 rfl ?_
      obtain ⟨K1, K2⟩ := K
      refine v_icmp_ne 137 dX5_findStands_115 (by decide) (fun c => ?_) (fun c => ?_)
      · have K := K2 c
        obtain ⟨o8, K⟩ := K
        refine v_iinc dX5_findStands_137 rfl o8 ?_
        show V w 1 mX5_findStands 140 [some (vR 313), some (vI known), some (vI ((k : Nat) : Int)), some (vI a), some (vI b), some (vI ((s + 1 : Nat) : Int))] [] S J Q
        refine v_goto 88 dX5_findStands_140 (by decide) ?_
        exact K
      · have K := K1 c
        refine v_aload_n dX5_findStands_118 rfl ?_
        refine v_getR dX5_findStands_119 frX5_72_5 rfl (L_313 hL).1 (LR_313_31 hL) (Or.inl rfl) ?_
        refine v_iload dX5_findStands_122 rfl ?_
        refine v_iload_n dX5_findStands_124 rfl ?_
        refine v_iload dX5_findStands_125 rfl ?_
        obtain ⟨K1, K2⟩ := K
        refine v_icmp_ge 134 dX5_findStands_127 (by decide) (fun c => ?_) (fun c => ?_)
        · have K := K1 c
          refine v_iload dX5_findStands_134 rfl ?_
          obtain ⟨o9, K⟩ := K
          refine st_332 dX5_findStands_136 hL (by omega) o9 ?_
          show V w 1 mX5_findStands 137 [some (vR 313), some (vI known), some (vI ((k : Nat) : Int)), some (vI a), some (vI b), some (vI ((s : Nat) : Int))] [] S (up J 332 s b) Q
          obtain ⟨o10, K⟩ := K
          refine v_iinc dX5_findStands_137 rfl o10 ?_
          show V w 1 mX5_findStands 140 [some (vR 313), some (vI known), some (vI ((k : Nat) : Int)), some (vI a), some (vI b), some (vI ((s + 1 : Nat) : Int))] [] S (up J 332 s b) Q
          refine v_goto 88 dX5_findStands_140 (by decide) ?_
          exact K
        · have K := K2 c
          refine v_iload_n dX5_findStands_130 rfl ?_
          refine v_goto 136 dX5_findStands_131 (by decide) ?_
          obtain ⟨o11, K⟩ := K
          refine st_332 dX5_findStands_136 hL (by omega) o11 ?_
          show V w 1 mX5_findStands 137 [some (vR 313), some (vI known), some (vI ((k : Nat) : Int)), some (vI a), some (vI b), some (vI ((s : Nat) : Int))] [] S (up J 332 s a) Q
          obtain ⟨o12, K⟩ := K
          refine v_iinc dX5_findStands_137 rfl o12 ?_
          show V w 1 mX5_findStands 140 [some (vR 313), some (vI known), some (vI ((k : Nat) : Int)), some (vI a), some (vI b), some (vI ((s + 1 : Nat) : Int))] [] S (up J 332 s a) Q
          refine v_goto 88 dX5_findStands_140 (by decide) ?_
          exact K

theorem up_loop {P : Nat → Jm → Prop} (N : Nat) (W : Nat → Jm → Prop) (hs : ∀ k J, k < N → P k J → (∀ J', P (k + 1) J' → W (k + 1) J') → W k J) (hx : ∀ J, P N J → W N J) : ∀ (k : Nat) (J : Jm), k ≤ N → P k J → W k J := by
  have key : ∀ (n k : Nat) (J : Jm), k + n = N → P k J → W k J := by
    intro n
    induction n with
    | zero => intro k J hk hP; obtain rfl : k = N := by omega
              exact hx J hP
    | succ n ih => intro k J hk hP; exact hs k J (by omega) hP (fun J' h' => ih (k + 1) J' (by omega) h')
  exact fun k J hk hP => key (N - k) k J (by omega) hP
theorem up_self {J : Jm} {a k : Nat} {z : Int} : up J a k z a k = z := if_pos ⟨rfl, rfl⟩
theorem up_ne {J : Jm} {a k b j : Nat} {z : Int} (h : ¬ (b = a ∧ j = k)) : up J a k z b j = J b j := if_neg h
theorem up_na {J : Jm} {a k b j : Nat} {z : Int} (h : b ≠ a) : up J a k z b j = J b j := if_neg (fun q => h q.1)
theorem up_nk {J : Jm} {a k b j : Nat} {z : Int} (h : j ≠ k) : up J a k z b j = J b j := if_neg (fun q => h q.2)
/-- the model's cells that no later call reads: they may hold anything between calls -/
def scr (a k : Nat) : Bool := decide (a ∈ [332, 339, 340, 341, 342, 343, 344, 345, 346, 347, 353, 354, 355, 356, 357, 358, 359, 360, 361, 362]) ||
  (a == 313 && decide (k ∈ [0, 17, 18, 19, 20, 21, 22, 39, 47, 48, 49, 50, 51, 53, 64, 68, 69])) || ((a == 348 || a == 350) && decide (6 ≤ k)) || (a == 349 && decide (48 ≤ k)) || (a == 316 && decide (24 ≤ k)) || (a == 317 && decide (192 ≤ k)) || (a == 318 && decide (1152 ≤ k)) || (a == 320 && decide (10 ≤ k)) || ((a == 321 || a == 322 || a == 323 || a == 324) && decide (120 ≤ k))
/-- all but the model's scratch is as it was -/
def Kp (J J' : Jm) : Prop := ∀ a k, scr a k = false → J' a k = J a k
theorem Kp.rfl' {J : Jm} : Kp J J := fun _ _ _ => rfl
theorem Kp.trans {J J1 J2 : Jm} (h : Kp J J1) (h2 : Kp J1 J2) : Kp J J2 := fun a k q => (h2 a k q).trans (h a k q)
theorem Kp.arr {J J' : Jm} {n : Nat} (hn : ∀ k, scr n k = true) (h : ∀ a k, a ≠ n → J' a k = J a k) : Kp J J' := fun a k q => h a k (fun e => by rw [e, hn k] at q; cases q)
theorem Kp.up {J J' : Jm} {a k : Nat} {z : Int} (h : Kp J J') (hs : scr a k = true) : Kp J (up J' a k z) := fun b j q => by
  rw [up_ne (fun e => by rw [e.1, e.2, hs] at q; cases q)]
  exact h b j q
/-- the model's cells that last -/
def mper (a k : Nat) : Bool := decide (313 ≤ a) && decide (a ≤ 363) && !(scr a k)
def Mp (J J' : Jm) : Prop := ∀ a k, mper a k = true → J' a k = J a k
theorem Mp.rfl' {J : Jm} : Mp J J := fun _ _ _ => rfl
theorem Mp.symm {J J' : Jm} (h : Mp J J') : Mp J' J := fun a k q => (h a k q).symm
theorem Mp.trans {J J1 J2 : Jm} (h : Mp J J1) (h2 : Mp J1 J2) : Mp J J2 := fun a k q => (h2 a k q).trans (h a k q)
theorem Kp.mp {J J' : Jm} (h : Kp J J') : Mp J J' := fun a k q => h a k (by unfold mper at q; simp only [Bool.and_eq_true, Bool.not_eq_true'] at q; exact q.2)
theorem scr_stand (k : Nat) : scr 332 k = true := rfl
theorem MHeld.mp {J J' : Jm} (hM : MHeld J) (h : Mp J J') : MHeld J' := by
  unfold MHeld at *
  simp only [h 313 25 rfl, h 326 _ rfl, h 327 _ rfl, h 328 _ rfl, h 329 _ rfl, h 330 _ rfl]
  exact hM
theorem mtV_mp {J J' : Jm} (h : Mp J J') (hh : Nat) (a b known : Int) : ∀ k, mtV J' hh a b known k = mtV J hh a b known k
  | 0 => rfl
  | k + 1 => by
    unfold mtV
    rw [h 327 k rfl, h 328 k rfl, h 329 k rfl, h 331 k rfl, h 330 k rfl, mtV_mp h hh a b known k]
theorem mtS_mp {J J' : Jm} (h : Mp J J') (a b known : Int) : ∀ k, mtS J' a b known k = mtS J a b known k
  | 0 => rfl
  | k + 1 => by
    unfold mtS mtT
    rw [mtS_mp h a b known k, mtV_mp h, h 326 k rfl, h 313 25 rfl]
/-- two signs are held for the same, as known on a day -/
def EH (J : Jm) (known : Int) (a b : Nat) : Prop := a < b ∧ b < 40 ∧ 0 < mtS J a b known 4
theorem EH_mp {J J' : Jm} (h : Mp J J') (known : Int) : EH J' known = EH J known := by
  funext a b
  unfold EH
  rw [mtS_mp h]
theorem mtV_none {J : Jm} {h : Nat} {a b known : Int} : ∀ k : Nat, (∀ i, i < k → ¬ (J 328 i = a ∧ J 329 i = b)) → mtV J h a b known k = 2
  | 0, _ => rfl
  | k + 1, hn => by
    unfold mtV
    rw [if_neg (fun q => hn k (by omega) ⟨q.2.1, q.2.2.1⟩), mtV_none k (fun i hi => hn i (by omega))]
/-- who is held for the same is held -/
theorem EH_held {J : Jm} {known : Int} {a b : Nat} (hM : MHeld J) (h : EH J known a b) : ∃ i : Nat, (i : Int) < J 313 25 ∧ J 328 i = a ∧ J 329 i = b := by
  apply Classical.byContradiction
  intro hn
  have h0 : ∀ hh, mtV J hh a b known (J 313 25).toNat = 2 := fun hh => mtV_none _ (fun i hi q => hn ⟨i, by have := hM.1.1; omega, q⟩)
  have h1 := h.2.2
  simp only [mtS, h0, mtT] at h1
  omega
def PStand (J : Jm) (known : Int) (J' : Jm) : Prop := (∀ a k, a ≠ 332 → J' a k = J a k) ∧ ∀ s : Nat, s < 40 → J' 332 s = (labOf (EH J known) s : Nat)
theorem s_findStands {w : Wd} {S : Sh} {J : Jm} {Q : Out → Sh → Jm → Prop} (hL : Lay S) (known : Int) (hM : MHeld J) (K : ∀ J', PStand J known J' → Q (.inl none) S J') : V w 1 mX5_findStands 0 (ent mX5_findStands [vR 313, vI known]) [] S J Q := by
  obtain ⟨hH, hT, hK⟩ := id hM
  obtain ⟨N, hN⟩ : ∃ N : Nat, J 313 25 = N := ⟨(J 313 25).toNat, by omega⟩
  have loop2 := up_loop (P := fun k J2 => (∀ a j, a ≠ 332 → J2 a j = J a j) ∧ ∃ L, LabW (EH J known) (fun x y => EH J known x y ∧ ∃ i : Nat, i < k ∧ J 328 i = x ∧ J 329 i = y) L ∧ ∀ s : Nat, s < 40 → J2 332 s = (L s : Nat)) N
    (fun k J2 => V w 1 mX5_findStands 23 [some (vR 313), some (vI known), some (vI (k : Int)), none, none, none] [] S J2 Q) (by
      intro k J2 hk ⟨hf, L, hW, hl⟩ ih
      have hkp : Kp J J2 := Kp.arr scr_stand hf
      have hM2 : MHeld J2 := hM.mp hkp.mp
      have q := hK k (by omega)
      obtain ⟨A, hA⟩ : ∃ A : Nat, J 328 k = A := ⟨(J 328 k).toNat, by omega⟩
      obtain ⟨B, hB⟩ : ∃ B : Nat, J 329 k = B := ⟨(J 329 k).toNat, by omega⟩
      have e0 : J2 313 25 = N := by rw [hf _ _ (by decide)]; exact hN
      have eA : J2 328 k = A := by rw [hf _ _ (by decide)]; exact hA
      have eB : J2 329 k = B := by rw [hf _ _ (by decide)]; exact hB
      have lA := hl A (by omega)
      have lB := hl B (by omega)
      -- the entry is done, whatever it says
      have hnext : (EH J known A B → L A = L B) → (∀ J' : Jm, (∀ a j, a ≠ 332 → J' a j = J a j) → (∀ s : Nat, s < 40 → J' 332 s = (L s : Nat)) → V w 1 mX5_findStands 23 [some (vR 313), some (vI known), some (vI ((k + 1 : Nat) : Int)), none, none, none] [] S J' Q) := by
        intro hE J' h1 h2
        refine ih J' ⟨h1, L, hW.weaken (fun x y hxy => ?_), h2⟩
        obtain ⟨i, hi, e1, e2⟩ := hxy.2
        rcases Nat.lt_or_ge i k with hik | hik
        · exact Or.inl ⟨hxy.1, i, hik, e1, e2⟩
        · obtain rfl : i = k := by omega
          have : x = A := by omega
          have : y = B := by omega
          subst x; subst y
          exact Or.inr (hE hxy.1)
      refine gX5_findStands_23 (J := J2) hL known k (br_n (by omega) ⟨by omega, by omega, by omega, by omega, by omega, by omega, ?_⟩)
      rw [eA, eB]
      show Br (J2 332 A = J2 332 B) _ _
      rw [lA, lB]
      refine br_i (fun c => ⟨by omega, hnext (fun _ => by omega) J2 hf hl⟩) (fun c => ⟨by omega, by omega, hM2, ?_⟩)
      have em : mtS J2 A B known 4 = mtS J A B known 4 := mtS_mp hkp.mp _ _ _ _
      rw [em]
      refine br_i (fun c2 => ?_) (fun c2 => ⟨by omega, hnext (fun hE => absurd hE.2.2 c2) J2 hf hl⟩)
      have hE : EH J known A B := ⟨by omega, by omega, c2⟩
      show V w 1 mX5_findStands 88 [some (vR 313), some (vI known), some (vI (k : Int)), some (vI (J2 332 A)), some (vI (J2 332 B)), some (vI ((0 : Nat) : Int))] [] S J2 Q
      rw [lA, lB]
      refine up_loop (P := fun s J3 => (∀ a j, a ≠ 332 → J3 a j = J a j) ∧ ∀ j : Nat, j < 40 → J3 332 j = ((if j < s then joinL L (L A) (L B) j else L j : Nat) : Int)) 40
        (fun s J3 => V w 1 mX5_findStands 88 [some (vR 313), some (vI known), some (vI (k : Int)), some (vI ((L A : Nat) : Int)), some (vI ((L B : Nat) : Int)), some (vI (s : Int))] [] S J3 Q) ?_ ?_ 0 J2 (by omega) ⟨hf, fun j hj => by rw [if_neg (by omega)]; exact hl j hj⟩
      · intro s J3 hs ⟨f3, h3⟩ ih3
        have es := h3 s hs
        rw [if_neg (by omega)] at es
        have step : ∀ z : Nat, z = joinL L (L A) (L B) s → V w 1 mX5_findStands 88 [some (vR 313), some (vI known), some (vI (k : Int)), some (vI ((L A : Nat) : Int)), some (vI ((L B : Nat) : Int)), some (vI ((s + 1 : Nat) : Int))] [] S (up J3 332 s (z : Nat)) Q := by
          intro z hz
          refine ih3 _ ⟨fun a j ha => by rw [up_na ha]; exact f3 a j ha, fun j hj => ?_⟩
          by_cases hjs : j = s
          · rw [hjs, up_self, if_pos (by omega), hz]
          · rw [up_nk hjs, h3 j hj]
            congr 1
            by_cases hlt : j < s
            · rw [if_pos hlt, if_pos (by omega)]
            · rw [if_neg hlt, if_neg (by omega)]
        refine gX5_findStands_88 hL known k _ _ s (br_n (by omega) ⟨by omega, ?_⟩)
        rw [es]
        refine br_i (fun c => ?_) (fun c => ⟨by omega, br_i (fun c' => ?_) (fun c' => ⟨by omega, ?_⟩)⟩)
        · refine br_i (fun c9 => ⟨by omega, by omega, step _ ?_⟩) (fun c9 => ⟨by omega, by omega, step _ ?_⟩)
          · unfold joinL; rw [if_pos (by omega)]; split <;> omega
          · unfold joinL; rw [if_pos (by omega)]; split <;> omega
        · refine br_i (fun c9 => ⟨by omega, by omega, step _ ?_⟩) (fun c9 => ⟨by omega, by omega, step _ ?_⟩)
          · unfold joinL; rw [if_pos (by omega)]; split <;> omega
          · unfold joinL; rw [if_pos (by omega)]; split <;> omega
        · refine ih3 J3 ⟨f3, fun j hj => ?_⟩
          rw [h3 j hj]
          by_cases hjs : j = s
          · subst hjs
            rw [if_neg (by omega), if_pos (by omega)]
            unfold joinL
            rw [if_neg (by omega)]
          · congr 1
            by_cases hlt : j < s
            · rw [if_pos hlt, if_pos (by omega)]
            · rw [if_neg hlt, if_neg (by omega)]
      · intro J3 ⟨f3, h3⟩
        refine gX5_findStands_88 hL known k _ _ 40 (br_y (by omega) ⟨by omega, ?_⟩)
        refine ih J3 ⟨f3, joinL L (L A) (L B), ?_, fun s hs => by rw [h3 s hs, if_pos (by omega)]⟩
        refine (hW.join hE (by omega) (by omega)).weaken (fun x y hxy => Or.inl ?_)
        obtain ⟨i, hi, e1, e2⟩ := hxy.2
        rcases Nat.lt_or_ge i k with hik | hik
        · exact Or.inl ⟨hxy.1, i, hik, e1, e2⟩
        · obtain rfl : i = k := by omega
          exact Or.inr ⟨by omega, by omega⟩) (by
      intro J2 ⟨hf, L, hW, hl⟩
      refine gX5_findStands_23 hL known N (br_y (by rw [hf _ _ (by decide)]; omega) ?_)
      have hlab : IsLab (EH J known) L := hW.fin (fun a b hE => by
        obtain ⟨i, h1, h2, h3⟩ := EH_held hM hE
        exact ⟨hE, i, by omega, h2, h3⟩)
      exact K J2 ⟨hf, fun s hs => by rw [hl s hs, labOf_eq hlab hs]⟩)
  refine gX5_findStands_0 hL known ?_
  refine up_loop (P := fun s J1 => (∀ a j, a ≠ 332 → J1 a j = J a j) ∧ ∀ j : Nat, j < s → J1 332 j = (j : Nat)) 40
    (fun s J1 => V w 1 mX5_findStands 2 [some (vR 313), some (vI known), some (vI (s : Int)), none, none, none] [] S J1 Q) ?_ ?_ 0 J (by omega) ⟨fun _ _ _ => rfl, fun j hj => absurd hj (by omega)⟩
  · intro s J1 hs ⟨f1, h1⟩ ih
    refine gX5_findStands_2 hL known s (br_n (by omega) ⟨by omega, by omega, ih _ ⟨fun a j ha => by rw [up_na ha]; exact f1 a j ha, fun j hj => ?_⟩⟩)
    by_cases hjs : j = s
    · rw [hjs, up_self]
    · rw [up_nk hjs]; exact h1 j (by omega)
  · intro J1 ⟨f1, h1⟩
    refine gX5_findStands_2 hL known 40 (br_y (by omega) ?_)
    exact loop2 0 J1 (by omega) ⟨f1, fun s => s, (LabW.start _).weaken (fun x y h => by obtain ⟨i, hi, -⟩ := h.2; omega), fun s hs => h1 s (by omega)⟩
